/-! OwlEars -/
set_option maxRecDepth 100000
def RX0 : String := "OwlEars"
def TX0 : u_T := fun k => match k with
  | 0 => ("OwlEars", "refusal", "LOwlEars$Refusal;", true)
  | 1 => ("OwlEars", "reader", "LOwlEars$Reader;", true)
  | 2 => ("OwlEars", "taped", "I", false)
  | 3 => ("OwlEars", "d", "LOwlEars$World;", true)
  | 4 => ("OwlEars", "kept", "LOwlEars$World;", true)
  | 5 => ("OwlEars", "aside", "LOwlEars$World;", true)
  | 6 => ("OwlEars", "under", "LOwlEars$World;", true)
  | 7 => ("OwlEars", "isKept", "Z", false)
  | 8 => ("OwlEars", "strikes", "[LOwlEars$Slot;", true)
  | 9 => ("OwlEars", "spots", "[LOwlEars$Slot;", true)
  | 10 => ("OwlEars", "sheets", "[LOwlEars$Slot;", true)
  | 11 => ("OwlEars", "findings", "[I", true)
  | _ => ("OwlEars", "leastHeard", "I", false)
def tyX0 : Nat → FieldType := fun k => match k with
  | 0 => .object "OwlEars$Refusal"
  | 1 => .object "OwlEars$Reader"
  | 2 => .int
  | 3 => .object "OwlEars$World"
  | 4 => .object "OwlEars$World"
  | 5 => .object "OwlEars$World"
  | 6 => .object "OwlEars$World"
  | 7 => .boolean
  | 8 => .array (.object "OwlEars$Slot")
  | 9 => .array (.object "OwlEars$Slot")
  | 10 => .array (.object "OwlEars$Slot")
  | 11 => .array .int
  | _ => .int
abbrev wsX00 : List Cond := u_ws RX0 TX0 13
set_option maxRecDepth 100000 in
theorem nmX0 : ∀ a, a < 13 → ∀ b, b < 13 → a ≠ b → (TX0 a).2.1 ≠ (TX0 b).2.1 := by decide +kernel
set_option maxRecDepth 100000 in
theorem tyX0_ok : ∀ k, k < 13 → parseFieldDescriptor (TX0 k).2.2.1 = some (tyX0 k) := by decide +kernel
abbrev cX0_init : ByteArray := prog_1_method_13_code
def yX0_init : MethodName := ⟨RX0, "<init>", "()V"⟩
def dkwX0_init_8 : List UInt8 := [162, 0, 22, 42, 180, 0, 93, 27, 187, 0, 84, 89, 183, 0, 100, 83, 132, 1, 1, 167, 255, 235, 177]
abbrev dktX0_init_8 : List UInt8 := dkwX0_init_8 ++ []
def dkwX0_init_7 : List UInt8 := [180, 0, 90, 27, 187, 0, 84, 89, 183, 0, 100, 83, 132, 1, 1, 167, 255, 234, 3, 60, 27, 7]
abbrev dktX0_init_7 : List UInt8 := dkwX0_init_7 ++ dktX0_init_8
def dkwX0_init_6 : List UInt8 := [16, 8, 112, 182, 0, 101, 181, 0, 105, 132, 1, 1, 167, 255, 213, 3, 60, 27, 16, 10, 162, 0, 22, 42]
abbrev dktX0_init_6 : List UInt8 := dkwX0_init_6 ++ dktX0_init_7
def dkwX0_init_5 : List UInt8 := [180, 0, 86, 27, 187, 0, 84, 89, 183, 0, 100, 83, 42, 180, 0, 86, 27, 50, 42, 27, 16, 8, 108, 27]
abbrev dktX0_init_5 : List UInt8 := dkwX0_init_5 ++ dktX0_init_6
def dkwX0_init_4 : List UInt8 := [189, 0, 84, 181, 0, 93, 42, 16, 7, 188, 10, 181, 0, 96, 3, 60, 27, 16, 56, 162, 0, 43, 42]
abbrev dktX0_init_4 : List UInt8 := dkwX0_init_4 ++ dktX0_init_5
def dkwX0_init_3 : List UInt8 := [181, 0, 81, 42, 16, 56, 189, 0, 84, 181, 0, 86, 42, 16, 10, 189, 0, 84, 181, 0, 90, 42, 7]
abbrev dktX0_init_3 : List UInt8 := dkwX0_init_3 ++ dktX0_init_4
def dkwX0_init_2 : List UInt8 := [181, 0, 75, 42, 187, 0, 68, 89, 183, 0, 70, 181, 0, 78, 42, 187, 0, 68, 89, 183, 0, 70]
abbrev dktX0_init_2 : List UInt8 := dkwX0_init_2 ++ dktX0_init_3
def dkwX0_init_1 : List UInt8 := [181, 0, 64, 42, 187, 0, 68, 89, 183, 0, 70, 181, 0, 71, 42, 187, 0, 68, 89, 183, 0, 70]
abbrev dktX0_init_1 : List UInt8 := dkwX0_init_1 ++ dktX0_init_2
def dkwX0_init_0 : List UInt8 := [42, 183, 0, 49, 42, 187, 0, 54, 89, 183, 0, 56, 181, 0, 57, 42, 187, 0, 61, 89, 183, 0, 63]
abbrev dktX0_init_0 : List UInt8 := dkwX0_init_0 ++ dktX0_init_1
theorem dksX0_init_0 : cX0_init.data.toList.drop 0 = dktX0_init_0 := by decide +kernel
theorem dksX0_init_1 : cX0_init.data.toList.drop 23 = dktX0_init_1 := dk_seg dksX0_init_0 23 rfl rfl
theorem dksX0_init_2 : cX0_init.data.toList.drop 45 = dktX0_init_2 := dk_seg dksX0_init_1 22 rfl rfl
theorem dksX0_init_3 : cX0_init.data.toList.drop 67 = dktX0_init_3 := dk_seg dksX0_init_2 22 rfl rfl
theorem dksX0_init_4 : cX0_init.data.toList.drop 90 = dktX0_init_4 := dk_seg dksX0_init_3 23 rfl rfl
theorem dksX0_init_5 : cX0_init.data.toList.drop 113 = dktX0_init_5 := dk_seg dksX0_init_4 23 rfl rfl
theorem dksX0_init_6 : cX0_init.data.toList.drop 137 = dktX0_init_6 := dk_seg dksX0_init_5 24 rfl rfl
theorem dksX0_init_7 : cX0_init.data.toList.drop 161 = dktX0_init_7 := dk_seg dksX0_init_6 24 rfl rfl
theorem dksX0_init_8 : cX0_init.data.toList.drop 183 = dktX0_init_8 := dk_seg dksX0_init_7 22 rfl rfl
theorem dX0_init_0 : decode cX0_init 0 = .ok (.aload_n 0, 1) := dk_42 (dk_at dksX0_init_0 0 rfl rfl)
theorem dX0_init_1 : decode cX0_init 1 = .ok (.invokespecial 49, 3) := dk_183 0 49 (dk_at dksX0_init_0 1 rfl rfl)
theorem dX0_init_4 : decode cX0_init 4 = .ok (.aload_n 0, 1) := dk_42 (dk_at dksX0_init_0 4 rfl rfl)
theorem dX0_init_5 : decode cX0_init 5 = .ok (.new 54, 3) := dk_187 0 54 (dk_at dksX0_init_0 5 rfl rfl)
theorem dX0_init_8 : decode cX0_init 8 = .ok (.dup, 1) := dk_89 (dk_at dksX0_init_0 8 rfl rfl)
theorem dX0_init_9 : decode cX0_init 9 = .ok (.invokespecial 56, 3) := dk_183 0 56 (dk_at dksX0_init_0 9 rfl rfl)
theorem dX0_init_12 : decode cX0_init 12 = .ok (.putfield 57, 3) := dk_181 0 57 (dk_at dksX0_init_0 12 rfl rfl)
theorem dX0_init_15 : decode cX0_init 15 = .ok (.aload_n 0, 1) := dk_42 (dk_at dksX0_init_0 15 rfl rfl)
theorem dX0_init_16 : decode cX0_init 16 = .ok (.new 61, 3) := dk_187 0 61 (dk_at dksX0_init_0 16 rfl rfl)
theorem dX0_init_19 : decode cX0_init 19 = .ok (.dup, 1) := dk_89 (dk_at dksX0_init_0 19 rfl rfl)
theorem dX0_init_20 : decode cX0_init 20 = .ok (.invokespecial 63, 3) := dk_183 0 63 (dk_at dksX0_init_0 20 rfl rfl)
theorem dX0_init_23 : decode cX0_init 23 = .ok (.putfield 64, 3) := dk_181 0 64 (dk_at dksX0_init_1 0 rfl rfl)
theorem dX0_init_26 : decode cX0_init 26 = .ok (.aload_n 0, 1) := dk_42 (dk_at dksX0_init_1 3 rfl rfl)
theorem dX0_init_27 : decode cX0_init 27 = .ok (.new 68, 3) := dk_187 0 68 (dk_at dksX0_init_1 4 rfl rfl)
theorem dX0_init_30 : decode cX0_init 30 = .ok (.dup, 1) := dk_89 (dk_at dksX0_init_1 7 rfl rfl)
theorem dX0_init_31 : decode cX0_init 31 = .ok (.invokespecial 70, 3) := dk_183 0 70 (dk_at dksX0_init_1 8 rfl rfl)
theorem dX0_init_34 : decode cX0_init 34 = .ok (.putfield 71, 3) := dk_181 0 71 (dk_at dksX0_init_1 11 rfl rfl)
theorem dX0_init_37 : decode cX0_init 37 = .ok (.aload_n 0, 1) := dk_42 (dk_at dksX0_init_1 14 rfl rfl)
theorem dX0_init_38 : decode cX0_init 38 = .ok (.new 68, 3) := dk_187 0 68 (dk_at dksX0_init_1 15 rfl rfl)
theorem dX0_init_41 : decode cX0_init 41 = .ok (.dup, 1) := dk_89 (dk_at dksX0_init_1 18 rfl rfl)
theorem dX0_init_42 : decode cX0_init 42 = .ok (.invokespecial 70, 3) := dk_183 0 70 (dk_at dksX0_init_1 19 rfl rfl)
theorem dX0_init_45 : decode cX0_init 45 = .ok (.putfield 75, 3) := dk_181 0 75 (dk_at dksX0_init_2 0 rfl rfl)
theorem dX0_init_48 : decode cX0_init 48 = .ok (.aload_n 0, 1) := dk_42 (dk_at dksX0_init_2 3 rfl rfl)
theorem dX0_init_49 : decode cX0_init 49 = .ok (.new 68, 3) := dk_187 0 68 (dk_at dksX0_init_2 4 rfl rfl)
theorem dX0_init_52 : decode cX0_init 52 = .ok (.dup, 1) := dk_89 (dk_at dksX0_init_2 7 rfl rfl)
theorem dX0_init_53 : decode cX0_init 53 = .ok (.invokespecial 70, 3) := dk_183 0 70 (dk_at dksX0_init_2 8 rfl rfl)
theorem dX0_init_56 : decode cX0_init 56 = .ok (.putfield 78, 3) := dk_181 0 78 (dk_at dksX0_init_2 11 rfl rfl)
theorem dX0_init_59 : decode cX0_init 59 = .ok (.aload_n 0, 1) := dk_42 (dk_at dksX0_init_2 14 rfl rfl)
theorem dX0_init_60 : decode cX0_init 60 = .ok (.new 68, 3) := dk_187 0 68 (dk_at dksX0_init_2 15 rfl rfl)
theorem dX0_init_63 : decode cX0_init 63 = .ok (.dup, 1) := dk_89 (dk_at dksX0_init_2 18 rfl rfl)
theorem dX0_init_64 : decode cX0_init 64 = .ok (.invokespecial 70, 3) := dk_183 0 70 (dk_at dksX0_init_2 19 rfl rfl)
theorem dX0_init_67 : decode cX0_init 67 = .ok (.putfield 81, 3) := dk_181 0 81 (dk_at dksX0_init_3 0 rfl rfl)
theorem dX0_init_70 : decode cX0_init 70 = .ok (.aload_n 0, 1) := dk_42 (dk_at dksX0_init_3 3 rfl rfl)
theorem dX0_init_71 : decode cX0_init 71 = .ok (.bipush 56, 2) := dk_16 56 (dk_at dksX0_init_3 4 rfl rfl)
theorem dX0_init_73 : decode cX0_init 73 = .ok (.anewarray 84, 3) := dk_189 0 84 (dk_at dksX0_init_3 6 rfl rfl)
theorem dX0_init_76 : decode cX0_init 76 = .ok (.putfield 86, 3) := dk_181 0 86 (dk_at dksX0_init_3 9 rfl rfl)
theorem dX0_init_79 : decode cX0_init 79 = .ok (.aload_n 0, 1) := dk_42 (dk_at dksX0_init_3 12 rfl rfl)
theorem dX0_init_80 : decode cX0_init 80 = .ok (.bipush 10, 2) := dk_16 10 (dk_at dksX0_init_3 13 rfl rfl)
theorem dX0_init_82 : decode cX0_init 82 = .ok (.anewarray 84, 3) := dk_189 0 84 (dk_at dksX0_init_3 15 rfl rfl)
theorem dX0_init_85 : decode cX0_init 85 = .ok (.putfield 90, 3) := dk_181 0 90 (dk_at dksX0_init_3 18 rfl rfl)
theorem dX0_init_88 : decode cX0_init 88 = .ok (.aload_n 0, 1) := dk_42 (dk_at dksX0_init_3 21 rfl rfl)
theorem dX0_init_89 : decode cX0_init 89 = .ok (.iconst 4, 1) := dk_7 (dk_at dksX0_init_3 22 rfl rfl)
theorem dX0_init_90 : decode cX0_init 90 = .ok (.anewarray 84, 3) := dk_189 0 84 (dk_at dksX0_init_4 0 rfl rfl)
theorem dX0_init_93 : decode cX0_init 93 = .ok (.putfield 93, 3) := dk_181 0 93 (dk_at dksX0_init_4 3 rfl rfl)
theorem dX0_init_96 : decode cX0_init 96 = .ok (.aload_n 0, 1) := dk_42 (dk_at dksX0_init_4 6 rfl rfl)
theorem dX0_init_97 : decode cX0_init 97 = .ok (.bipush 7, 2) := dk_16 7 (dk_at dksX0_init_4 7 rfl rfl)
theorem dX0_init_99 : decode cX0_init 99 = .ok (.newarray .int, 2) := dk_188_10 (dk_at dksX0_init_4 9 rfl rfl)
theorem dX0_init_101 : decode cX0_init 101 = .ok (.putfield 96, 3) := dk_181 0 96 (dk_at dksX0_init_4 11 rfl rfl)
theorem dX0_init_104 : decode cX0_init 104 = .ok (.iconst 0, 1) := dk_3 (dk_at dksX0_init_4 14 rfl rfl)
theorem dX0_init_105 : decode cX0_init 105 = .ok (.istore_n 1, 1) := dk_60 (dk_at dksX0_init_4 15 rfl rfl)
theorem dX0_init_106 : decode cX0_init 106 = .ok (.iload_n 1, 1) := dk_27 (dk_at dksX0_init_4 16 rfl rfl)
theorem dX0_init_107 : decode cX0_init 107 = .ok (.bipush 56, 2) := dk_16 56 (dk_at dksX0_init_4 17 rfl rfl)
theorem dX0_init_109 : decode cX0_init 109 = .ok (.if_icmp .ge 43, 3) := dk_162 0 43 (dk_at dksX0_init_4 19 rfl rfl)
theorem dX0_init_112 : decode cX0_init 112 = .ok (.aload_n 0, 1) := dk_42 (dk_at dksX0_init_4 22 rfl rfl)
theorem dX0_init_113 : decode cX0_init 113 = .ok (.getfield 86, 3) := dk_180 0 86 (dk_at dksX0_init_5 0 rfl rfl)
theorem dX0_init_116 : decode cX0_init 116 = .ok (.iload_n 1, 1) := dk_27 (dk_at dksX0_init_5 3 rfl rfl)
theorem dX0_init_117 : decode cX0_init 117 = .ok (.new 84, 3) := dk_187 0 84 (dk_at dksX0_init_5 4 rfl rfl)
theorem dX0_init_120 : decode cX0_init 120 = .ok (.dup, 1) := dk_89 (dk_at dksX0_init_5 7 rfl rfl)
theorem dX0_init_121 : decode cX0_init 121 = .ok (.invokespecial 100, 3) := dk_183 0 100 (dk_at dksX0_init_5 8 rfl rfl)
theorem dX0_init_124 : decode cX0_init 124 = .ok (.aastore, 1) := dk_83 (dk_at dksX0_init_5 11 rfl rfl)
theorem dX0_init_125 : decode cX0_init 125 = .ok (.aload_n 0, 1) := dk_42 (dk_at dksX0_init_5 12 rfl rfl)
theorem dX0_init_126 : decode cX0_init 126 = .ok (.getfield 86, 3) := dk_180 0 86 (dk_at dksX0_init_5 13 rfl rfl)
theorem dX0_init_129 : decode cX0_init 129 = .ok (.iload_n 1, 1) := dk_27 (dk_at dksX0_init_5 16 rfl rfl)
theorem dX0_init_130 : decode cX0_init 130 = .ok (.aaload, 1) := dk_50 (dk_at dksX0_init_5 17 rfl rfl)
theorem dX0_init_131 : decode cX0_init 131 = .ok (.aload_n 0, 1) := dk_42 (dk_at dksX0_init_5 18 rfl rfl)
theorem dX0_init_132 : decode cX0_init 132 = .ok (.iload_n 1, 1) := dk_27 (dk_at dksX0_init_5 19 rfl rfl)
theorem dX0_init_133 : decode cX0_init 133 = .ok (.bipush 8, 2) := dk_16 8 (dk_at dksX0_init_5 20 rfl rfl)
theorem dX0_init_135 : decode cX0_init 135 = .ok (.idiv, 1) := dk_108 (dk_at dksX0_init_5 22 rfl rfl)
theorem dX0_init_136 : decode cX0_init 136 = .ok (.iload_n 1, 1) := dk_27 (dk_at dksX0_init_5 23 rfl rfl)
theorem dX0_init_137 : decode cX0_init 137 = .ok (.bipush 8, 2) := dk_16 8 (dk_at dksX0_init_6 0 rfl rfl)
theorem dX0_init_139 : decode cX0_init 139 = .ok (.irem, 1) := dk_112 (dk_at dksX0_init_6 2 rfl rfl)
theorem dX0_init_140 : decode cX0_init 140 = .ok (.invokevirtual 101, 3) := dk_182 0 101 (dk_at dksX0_init_6 3 rfl rfl)
theorem dX0_init_143 : decode cX0_init 143 = .ok (.putfield 105, 3) := dk_181 0 105 (dk_at dksX0_init_6 6 rfl rfl)
theorem dX0_init_146 : decode cX0_init 146 = .ok (.iinc 1 1, 3) := dk_132 1 1 (dk_at dksX0_init_6 9 rfl rfl)
theorem dX0_init_149 : decode cX0_init 149 = .ok (.goto (-43), 3) := dk_167 255 213 (dk_at dksX0_init_6 12 rfl rfl)
theorem dX0_init_152 : decode cX0_init 152 = .ok (.iconst 0, 1) := dk_3 (dk_at dksX0_init_6 15 rfl rfl)
theorem dX0_init_153 : decode cX0_init 153 = .ok (.istore_n 1, 1) := dk_60 (dk_at dksX0_init_6 16 rfl rfl)
theorem dX0_init_154 : decode cX0_init 154 = .ok (.iload_n 1, 1) := dk_27 (dk_at dksX0_init_6 17 rfl rfl)
theorem dX0_init_155 : decode cX0_init 155 = .ok (.bipush 10, 2) := dk_16 10 (dk_at dksX0_init_6 18 rfl rfl)
theorem dX0_init_157 : decode cX0_init 157 = .ok (.if_icmp .ge 22, 3) := dk_162 0 22 (dk_at dksX0_init_6 20 rfl rfl)
theorem dX0_init_160 : decode cX0_init 160 = .ok (.aload_n 0, 1) := dk_42 (dk_at dksX0_init_6 23 rfl rfl)
theorem dX0_init_161 : decode cX0_init 161 = .ok (.getfield 90, 3) := dk_180 0 90 (dk_at dksX0_init_7 0 rfl rfl)
theorem dX0_init_164 : decode cX0_init 164 = .ok (.iload_n 1, 1) := dk_27 (dk_at dksX0_init_7 3 rfl rfl)
theorem dX0_init_165 : decode cX0_init 165 = .ok (.new 84, 3) := dk_187 0 84 (dk_at dksX0_init_7 4 rfl rfl)
theorem dX0_init_168 : decode cX0_init 168 = .ok (.dup, 1) := dk_89 (dk_at dksX0_init_7 7 rfl rfl)
theorem dX0_init_169 : decode cX0_init 169 = .ok (.invokespecial 100, 3) := dk_183 0 100 (dk_at dksX0_init_7 8 rfl rfl)
theorem dX0_init_172 : decode cX0_init 172 = .ok (.aastore, 1) := dk_83 (dk_at dksX0_init_7 11 rfl rfl)
theorem dX0_init_173 : decode cX0_init 173 = .ok (.iinc 1 1, 3) := dk_132 1 1 (dk_at dksX0_init_7 12 rfl rfl)
theorem dX0_init_176 : decode cX0_init 176 = .ok (.goto (-22), 3) := dk_167 255 234 (dk_at dksX0_init_7 15 rfl rfl)
theorem dX0_init_179 : decode cX0_init 179 = .ok (.iconst 0, 1) := dk_3 (dk_at dksX0_init_7 18 rfl rfl)
theorem dX0_init_180 : decode cX0_init 180 = .ok (.istore_n 1, 1) := dk_60 (dk_at dksX0_init_7 19 rfl rfl)
theorem dX0_init_181 : decode cX0_init 181 = .ok (.iload_n 1, 1) := dk_27 (dk_at dksX0_init_7 20 rfl rfl)
theorem dX0_init_182 : decode cX0_init 182 = .ok (.iconst 4, 1) := dk_7 (dk_at dksX0_init_7 21 rfl rfl)
theorem dX0_init_183 : decode cX0_init 183 = .ok (.if_icmp .ge 22, 3) := dk_162 0 22 (dk_at dksX0_init_8 0 rfl rfl)
theorem dX0_init_186 : decode cX0_init 186 = .ok (.aload_n 0, 1) := dk_42 (dk_at dksX0_init_8 3 rfl rfl)
theorem dX0_init_187 : decode cX0_init 187 = .ok (.getfield 93, 3) := dk_180 0 93 (dk_at dksX0_init_8 4 rfl rfl)
theorem dX0_init_190 : decode cX0_init 190 = .ok (.iload_n 1, 1) := dk_27 (dk_at dksX0_init_8 7 rfl rfl)
theorem dX0_init_191 : decode cX0_init 191 = .ok (.new 84, 3) := dk_187 0 84 (dk_at dksX0_init_8 8 rfl rfl)
theorem dX0_init_194 : decode cX0_init 194 = .ok (.dup, 1) := dk_89 (dk_at dksX0_init_8 11 rfl rfl)
theorem dX0_init_195 : decode cX0_init 195 = .ok (.invokespecial 100, 3) := dk_183 0 100 (dk_at dksX0_init_8 12 rfl rfl)
theorem dX0_init_198 : decode cX0_init 198 = .ok (.aastore, 1) := dk_83 (dk_at dksX0_init_8 15 rfl rfl)
theorem dX0_init_199 : decode cX0_init 199 = .ok (.iinc 1 1, 3) := dk_132 1 1 (dk_at dksX0_init_8 16 rfl rfl)
theorem dX0_init_202 : decode cX0_init 202 = .ok (.goto (-21), 3) := dk_167 255 235 (dk_at dksX0_init_8 19 rfl rfl)
theorem dX0_init_205 : decode cX0_init 205 = .ok (.return_, 1) := dk_177 (dk_at dksX0_init_8 22 rfl rfl)
abbrev cX0_made : ByteArray := prog_1_method_12_code
def yX0_made : MethodName := ⟨RX0, "made", "(II)LOwlEars$Strike;"⟩
def dkwX0_made_4 : List UInt8 := [183, 0, 42, 176, 187, 0, 43, 89, 42, 28, 183, 0, 45, 176, 187, 0, 46, 89, 42, 28, 183, 0, 48, 176]
abbrev dktX0_made_4 : List UInt8 := dkwX0_made_4 ++ []
def dkwX0_made_3 : List UInt8 := [42, 28, 183, 0, 36, 176, 187, 0, 37, 89, 42, 28, 183, 0, 39, 176, 187, 0, 40, 89, 42, 28]
abbrev dktX0_made_3 : List UInt8 := dkwX0_made_3 ++ dktX0_made_4
def dkwX0_made_2 : List UInt8 := [187, 0, 25, 89, 42, 28, 183, 0, 27, 176, 187, 0, 31, 89, 42, 28, 183, 0, 33, 176, 187, 0, 34, 89]
abbrev dktX0_made_2 : List UInt8 := dkwX0_made_2 ++ dktX0_made_3
def dkwX0_made_1 : List UInt8 := [170, 0, 0, 0, 0, 0, 99, 0, 0, 0, 1, 0, 0, 0, 6, 0, 0, 0, 39, 0, 0, 0, 49, 0, 0, 0, 59, 0, 0, 0, 69, 0, 0, 0, 79, 0, 0, 0, 89]
abbrev dktX0_made_1 : List UInt8 := dkwX0_made_1 ++ dktX0_made_2
def dkwX0_made_0 : List UInt8 := [27]
abbrev dktX0_made_0 : List UInt8 := dkwX0_made_0 ++ dktX0_made_1
theorem dksX0_made_0 : cX0_made.data.toList.drop 0 = dktX0_made_0 := by decide +kernel
theorem dksX0_made_1 : cX0_made.data.toList.drop 1 = dktX0_made_1 := dk_seg dksX0_made_0 1 rfl rfl
theorem dksX0_made_2 : cX0_made.data.toList.drop 40 = dktX0_made_2 := dk_seg dksX0_made_1 39 rfl rfl
theorem dksX0_made_3 : cX0_made.data.toList.drop 64 = dktX0_made_3 := dk_seg dksX0_made_2 24 rfl rfl
theorem dksX0_made_4 : cX0_made.data.toList.drop 86 = dktX0_made_4 := dk_seg dksX0_made_3 22 rfl rfl
theorem dX0_made_0 : decode cX0_made 0 = .ok (.iload_n 1, 1) := dk_27 (dk_at dksX0_made_0 0 rfl rfl)
theorem dX0_made_1 : decode cX0_made 1 = .ok (.tableswitch 99 1 6 #[39, 49, 59, 69, 79, 89], 39) := by decide +kernel
theorem dX0_made_40 : decode cX0_made 40 = .ok (.new 25, 3) := dk_187 0 25 (dk_at dksX0_made_2 0 rfl rfl)
theorem dX0_made_43 : decode cX0_made 43 = .ok (.dup, 1) := dk_89 (dk_at dksX0_made_2 3 rfl rfl)
theorem dX0_made_44 : decode cX0_made 44 = .ok (.aload_n 0, 1) := dk_42 (dk_at dksX0_made_2 4 rfl rfl)
theorem dX0_made_45 : decode cX0_made 45 = .ok (.iload_n 2, 1) := dk_28 (dk_at dksX0_made_2 5 rfl rfl)
theorem dX0_made_46 : decode cX0_made 46 = .ok (.invokespecial 27, 3) := dk_183 0 27 (dk_at dksX0_made_2 6 rfl rfl)
theorem dX0_made_49 : decode cX0_made 49 = .ok (.areturn, 1) := dk_176 (dk_at dksX0_made_2 9 rfl rfl)
theorem dX0_made_50 : decode cX0_made 50 = .ok (.new 31, 3) := dk_187 0 31 (dk_at dksX0_made_2 10 rfl rfl)
theorem dX0_made_53 : decode cX0_made 53 = .ok (.dup, 1) := dk_89 (dk_at dksX0_made_2 13 rfl rfl)
theorem dX0_made_54 : decode cX0_made 54 = .ok (.aload_n 0, 1) := dk_42 (dk_at dksX0_made_2 14 rfl rfl)
theorem dX0_made_55 : decode cX0_made 55 = .ok (.iload_n 2, 1) := dk_28 (dk_at dksX0_made_2 15 rfl rfl)
theorem dX0_made_56 : decode cX0_made 56 = .ok (.invokespecial 33, 3) := dk_183 0 33 (dk_at dksX0_made_2 16 rfl rfl)
theorem dX0_made_59 : decode cX0_made 59 = .ok (.areturn, 1) := dk_176 (dk_at dksX0_made_2 19 rfl rfl)
theorem dX0_made_60 : decode cX0_made 60 = .ok (.new 34, 3) := dk_187 0 34 (dk_at dksX0_made_2 20 rfl rfl)
theorem dX0_made_63 : decode cX0_made 63 = .ok (.dup, 1) := dk_89 (dk_at dksX0_made_2 23 rfl rfl)
theorem dX0_made_64 : decode cX0_made 64 = .ok (.aload_n 0, 1) := dk_42 (dk_at dksX0_made_3 0 rfl rfl)
theorem dX0_made_65 : decode cX0_made 65 = .ok (.iload_n 2, 1) := dk_28 (dk_at dksX0_made_3 1 rfl rfl)
theorem dX0_made_66 : decode cX0_made 66 = .ok (.invokespecial 36, 3) := dk_183 0 36 (dk_at dksX0_made_3 2 rfl rfl)
theorem dX0_made_69 : decode cX0_made 69 = .ok (.areturn, 1) := dk_176 (dk_at dksX0_made_3 5 rfl rfl)
theorem dX0_made_70 : decode cX0_made 70 = .ok (.new 37, 3) := dk_187 0 37 (dk_at dksX0_made_3 6 rfl rfl)
theorem dX0_made_73 : decode cX0_made 73 = .ok (.dup, 1) := dk_89 (dk_at dksX0_made_3 9 rfl rfl)
theorem dX0_made_74 : decode cX0_made 74 = .ok (.aload_n 0, 1) := dk_42 (dk_at dksX0_made_3 10 rfl rfl)
theorem dX0_made_75 : decode cX0_made 75 = .ok (.iload_n 2, 1) := dk_28 (dk_at dksX0_made_3 11 rfl rfl)
theorem dX0_made_76 : decode cX0_made 76 = .ok (.invokespecial 39, 3) := dk_183 0 39 (dk_at dksX0_made_3 12 rfl rfl)
theorem dX0_made_79 : decode cX0_made 79 = .ok (.areturn, 1) := dk_176 (dk_at dksX0_made_3 15 rfl rfl)
theorem dX0_made_80 : decode cX0_made 80 = .ok (.new 40, 3) := dk_187 0 40 (dk_at dksX0_made_3 16 rfl rfl)
theorem dX0_made_83 : decode cX0_made 83 = .ok (.dup, 1) := dk_89 (dk_at dksX0_made_3 19 rfl rfl)
theorem dX0_made_84 : decode cX0_made 84 = .ok (.aload_n 0, 1) := dk_42 (dk_at dksX0_made_3 20 rfl rfl)
theorem dX0_made_85 : decode cX0_made 85 = .ok (.iload_n 2, 1) := dk_28 (dk_at dksX0_made_3 21 rfl rfl)
theorem dX0_made_86 : decode cX0_made 86 = .ok (.invokespecial 42, 3) := dk_183 0 42 (dk_at dksX0_made_4 0 rfl rfl)
theorem dX0_made_89 : decode cX0_made 89 = .ok (.areturn, 1) := dk_176 (dk_at dksX0_made_4 3 rfl rfl)
theorem dX0_made_90 : decode cX0_made 90 = .ok (.new 43, 3) := dk_187 0 43 (dk_at dksX0_made_4 4 rfl rfl)
theorem dX0_made_93 : decode cX0_made 93 = .ok (.dup, 1) := dk_89 (dk_at dksX0_made_4 7 rfl rfl)
theorem dX0_made_94 : decode cX0_made 94 = .ok (.aload_n 0, 1) := dk_42 (dk_at dksX0_made_4 8 rfl rfl)
theorem dX0_made_95 : decode cX0_made 95 = .ok (.iload_n 2, 1) := dk_28 (dk_at dksX0_made_4 9 rfl rfl)
theorem dX0_made_96 : decode cX0_made 96 = .ok (.invokespecial 45, 3) := dk_183 0 45 (dk_at dksX0_made_4 10 rfl rfl)
theorem dX0_made_99 : decode cX0_made 99 = .ok (.areturn, 1) := dk_176 (dk_at dksX0_made_4 13 rfl rfl)
theorem dX0_made_100 : decode cX0_made 100 = .ok (.new 46, 3) := dk_187 0 46 (dk_at dksX0_made_4 14 rfl rfl)
theorem dX0_made_103 : decode cX0_made 103 = .ok (.dup, 1) := dk_89 (dk_at dksX0_made_4 17 rfl rfl)
theorem dX0_made_104 : decode cX0_made 104 = .ok (.aload_n 0, 1) := dk_42 (dk_at dksX0_made_4 18 rfl rfl)
theorem dX0_made_105 : decode cX0_made 105 = .ok (.iload_n 2, 1) := dk_28 (dk_at dksX0_made_4 19 rfl rfl)
theorem dX0_made_106 : decode cX0_made 106 = .ok (.invokespecial 48, 3) := dk_183 0 48 (dk_at dksX0_made_4 20 rfl rfl)
theorem dX0_made_109 : decode cX0_made 109 = .ok (.areturn, 1) := dk_176 (dk_at dksX0_made_4 23 rfl rfl)
abbrev cX0_cell : ByteArray := prog_1_method_25_code
def yX0_cell : MethodName := ⟨RX0, "cell", "(III)I"⟩
def dkwX0_cell_3 : List UInt8 := [25, 4, 27, 29, 79, 21, 5, 172]
abbrev dktX0_cell_3 : List UInt8 := dkwX0_cell_3 ++ []
def dkwX0_cell_2 : List UInt8 := [180, 0, 71, 180, 0, 146, 167, 0, 10, 42, 180, 0, 71, 180, 0, 171, 58, 4, 25, 4, 27, 46, 54, 5]
abbrev dktX0_cell_2 : List UInt8 := dkwX0_cell_2 ++ dktX0_cell_3
def dkwX0_cell_1 : List UInt8 := [167, 0, 5, 16, 99, 184, 0, 9, 154, 0, 9, 42, 3, 182, 0, 124, 172, 28, 154, 0, 13, 42]
abbrev dktX0_cell_1 : List UInt8 := dkwX0_cell_1 ++ dktX0_cell_2
def dkwX0_cell_0 : List UInt8 := [27, 184, 0, 17, 153, 0, 31, 28, 3, 4, 184, 0, 9, 153, 0, 22, 29, 3, 28, 154, 0, 8, 16, 30]
abbrev dktX0_cell_0 : List UInt8 := dkwX0_cell_0 ++ dktX0_cell_1
theorem dksX0_cell_0 : cX0_cell.data.toList.drop 0 = dktX0_cell_0 := by decide +kernel
theorem dksX0_cell_1 : cX0_cell.data.toList.drop 24 = dktX0_cell_1 := dk_seg dksX0_cell_0 24 rfl rfl
theorem dksX0_cell_2 : cX0_cell.data.toList.drop 46 = dktX0_cell_2 := dk_seg dksX0_cell_1 22 rfl rfl
theorem dksX0_cell_3 : cX0_cell.data.toList.drop 70 = dktX0_cell_3 := dk_seg dksX0_cell_2 24 rfl rfl
theorem dX0_cell_0 : decode cX0_cell 0 = .ok (.iload_n 1, 1) := dk_27 (dk_at dksX0_cell_0 0 rfl rfl)
theorem dX0_cell_1 : decode cX0_cell 1 = .ok (.invokestatic 17, 3) := dk_184 0 17 (dk_at dksX0_cell_0 1 rfl rfl)
theorem dX0_cell_4 : decode cX0_cell 4 = .ok (.ifCond .eq 31, 3) := dk_153 0 31 (dk_at dksX0_cell_0 4 rfl rfl)
theorem dX0_cell_7 : decode cX0_cell 7 = .ok (.iload_n 2, 1) := dk_28 (dk_at dksX0_cell_0 7 rfl rfl)
theorem dX0_cell_8 : decode cX0_cell 8 = .ok (.iconst 0, 1) := dk_3 (dk_at dksX0_cell_0 8 rfl rfl)
theorem dX0_cell_9 : decode cX0_cell 9 = .ok (.iconst 1, 1) := dk_4 (dk_at dksX0_cell_0 9 rfl rfl)
theorem dX0_cell_10 : decode cX0_cell 10 = .ok (.invokestatic 9, 3) := dk_184 0 9 (dk_at dksX0_cell_0 10 rfl rfl)
theorem dX0_cell_13 : decode cX0_cell 13 = .ok (.ifCond .eq 22, 3) := dk_153 0 22 (dk_at dksX0_cell_0 13 rfl rfl)
theorem dX0_cell_16 : decode cX0_cell 16 = .ok (.iload_n 3, 1) := dk_29 (dk_at dksX0_cell_0 16 rfl rfl)
theorem dX0_cell_17 : decode cX0_cell 17 = .ok (.iconst 0, 1) := dk_3 (dk_at dksX0_cell_0 17 rfl rfl)
theorem dX0_cell_18 : decode cX0_cell 18 = .ok (.iload_n 2, 1) := dk_28 (dk_at dksX0_cell_0 18 rfl rfl)
theorem dX0_cell_19 : decode cX0_cell 19 = .ok (.ifCond .ne 8, 3) := dk_154 0 8 (dk_at dksX0_cell_0 19 rfl rfl)
theorem dX0_cell_22 : decode cX0_cell 22 = .ok (.bipush 30, 2) := dk_16 30 (dk_at dksX0_cell_0 22 rfl rfl)
theorem dX0_cell_24 : decode cX0_cell 24 = .ok (.goto 5, 3) := dk_167 0 5 (dk_at dksX0_cell_1 0 rfl rfl)
theorem dX0_cell_27 : decode cX0_cell 27 = .ok (.bipush 99, 2) := dk_16 99 (dk_at dksX0_cell_1 3 rfl rfl)
theorem dX0_cell_29 : decode cX0_cell 29 = .ok (.invokestatic 9, 3) := dk_184 0 9 (dk_at dksX0_cell_1 5 rfl rfl)
theorem dX0_cell_32 : decode cX0_cell 32 = .ok (.ifCond .ne 9, 3) := dk_154 0 9 (dk_at dksX0_cell_1 8 rfl rfl)
theorem dX0_cell_35 : decode cX0_cell 35 = .ok (.aload_n 0, 1) := dk_42 (dk_at dksX0_cell_1 11 rfl rfl)
theorem dX0_cell_36 : decode cX0_cell 36 = .ok (.iconst 0, 1) := dk_3 (dk_at dksX0_cell_1 12 rfl rfl)
theorem dX0_cell_37 : decode cX0_cell 37 = .ok (.invokevirtual 124, 3) := dk_182 0 124 (dk_at dksX0_cell_1 13 rfl rfl)
theorem dX0_cell_40 : decode cX0_cell 40 = .ok (.ireturn, 1) := dk_172 (dk_at dksX0_cell_1 16 rfl rfl)
theorem dX0_cell_41 : decode cX0_cell 41 = .ok (.iload_n 2, 1) := dk_28 (dk_at dksX0_cell_1 17 rfl rfl)
theorem dX0_cell_42 : decode cX0_cell 42 = .ok (.ifCond .ne 13, 3) := dk_154 0 13 (dk_at dksX0_cell_1 18 rfl rfl)
theorem dX0_cell_45 : decode cX0_cell 45 = .ok (.aload_n 0, 1) := dk_42 (dk_at dksX0_cell_1 21 rfl rfl)
theorem dX0_cell_46 : decode cX0_cell 46 = .ok (.getfield 71, 3) := dk_180 0 71 (dk_at dksX0_cell_2 0 rfl rfl)
theorem dX0_cell_49 : decode cX0_cell 49 = .ok (.getfield 146, 3) := dk_180 0 146 (dk_at dksX0_cell_2 3 rfl rfl)
theorem dX0_cell_52 : decode cX0_cell 52 = .ok (.goto 10, 3) := dk_167 0 10 (dk_at dksX0_cell_2 6 rfl rfl)
theorem dX0_cell_55 : decode cX0_cell 55 = .ok (.aload_n 0, 1) := dk_42 (dk_at dksX0_cell_2 9 rfl rfl)
theorem dX0_cell_56 : decode cX0_cell 56 = .ok (.getfield 71, 3) := dk_180 0 71 (dk_at dksX0_cell_2 10 rfl rfl)
theorem dX0_cell_59 : decode cX0_cell 59 = .ok (.getfield 171, 3) := dk_180 0 171 (dk_at dksX0_cell_2 13 rfl rfl)
theorem dX0_cell_62 : decode cX0_cell 62 = .ok (.astore 4, 2) := dk_58 4 (dk_at dksX0_cell_2 16 rfl rfl)
theorem dX0_cell_64 : decode cX0_cell 64 = .ok (.aload 4, 2) := dk_25 4 (dk_at dksX0_cell_2 18 rfl rfl)
theorem dX0_cell_66 : decode cX0_cell 66 = .ok (.iload_n 1, 1) := dk_27 (dk_at dksX0_cell_2 20 rfl rfl)
theorem dX0_cell_67 : decode cX0_cell 67 = .ok (.iaload, 1) := dk_46 (dk_at dksX0_cell_2 21 rfl rfl)
theorem dX0_cell_68 : decode cX0_cell 68 = .ok (.istore 5, 2) := dk_54 5 (dk_at dksX0_cell_2 22 rfl rfl)
theorem dX0_cell_70 : decode cX0_cell 70 = .ok (.aload 4, 2) := dk_25 4 (dk_at dksX0_cell_3 0 rfl rfl)
theorem dX0_cell_72 : decode cX0_cell 72 = .ok (.iload_n 1, 1) := dk_27 (dk_at dksX0_cell_3 2 rfl rfl)
theorem dX0_cell_73 : decode cX0_cell 73 = .ok (.iload_n 3, 1) := dk_29 (dk_at dksX0_cell_3 3 rfl rfl)
theorem dX0_cell_74 : decode cX0_cell 74 = .ok (.iastore, 1) := dk_79 (dk_at dksX0_cell_3 4 rfl rfl)
theorem dX0_cell_75 : decode cX0_cell 75 = .ok (.iload 5, 2) := dk_21 5 (dk_at dksX0_cell_3 5 rfl rfl)
theorem dX0_cell_77 : decode cX0_cell 77 = .ok (.ireturn, 1) := dk_172 (dk_at dksX0_cell_3 7 rfl rfl)
abbrev cX0_isCell : ByteArray := prog_1_method_7_code
def yX0_isCell : MethodName := ⟨RX0, "isCell", "(I)Z"⟩
def dkwX0_isCell_0 : List UInt8 := [26, 3, 16, 35, 184, 0, 9, 172]
abbrev dktX0_isCell_0 : List UInt8 := dkwX0_isCell_0 ++ []
theorem dksX0_isCell_0 : cX0_isCell.data.toList.drop 0 = dktX0_isCell_0 := by decide +kernel
theorem dX0_isCell_0 : decode cX0_isCell 0 = .ok (.iload_n 0, 1) := dk_26 (dk_at dksX0_isCell_0 0 rfl rfl)
theorem dX0_isCell_1 : decode cX0_isCell 1 = .ok (.iconst 0, 1) := dk_3 (dk_at dksX0_isCell_0 1 rfl rfl)
theorem dX0_isCell_2 : decode cX0_isCell 2 = .ok (.bipush 35, 2) := dk_16 35 (dk_at dksX0_isCell_0 2 rfl rfl)
theorem dX0_isCell_4 : decode cX0_isCell 4 = .ok (.invokestatic 9, 3) := dk_184 0 9 (dk_at dksX0_isCell_0 4 rfl rfl)
theorem dX0_isCell_7 : decode cX0_isCell 7 = .ok (.ireturn, 1) := dk_172 (dk_at dksX0_isCell_0 7 rfl rfl)
abbrev cX0_in : ByteArray := prog_1_method_1_code
def yX0_in : MethodName := ⟨RX0, "in", "(III)Z"⟩
def dkwX0_in_0 : List UInt8 := [26, 27, 161, 0, 12, 26, 28, 163, 0, 7, 4, 167, 0, 4, 3, 172]
abbrev dktX0_in_0 : List UInt8 := dkwX0_in_0 ++ []
theorem dksX0_in_0 : cX0_in.data.toList.drop 0 = dktX0_in_0 := by decide +kernel
theorem dX0_in_0 : decode cX0_in 0 = .ok (.iload_n 0, 1) := dk_26 (dk_at dksX0_in_0 0 rfl rfl)
theorem dX0_in_1 : decode cX0_in 1 = .ok (.iload_n 1, 1) := dk_27 (dk_at dksX0_in_0 1 rfl rfl)
theorem dX0_in_2 : decode cX0_in 2 = .ok (.if_icmp .lt 12, 3) := dk_161 0 12 (dk_at dksX0_in_0 2 rfl rfl)
theorem dX0_in_5 : decode cX0_in 5 = .ok (.iload_n 0, 1) := dk_26 (dk_at dksX0_in_0 5 rfl rfl)
theorem dX0_in_6 : decode cX0_in 6 = .ok (.iload_n 2, 1) := dk_28 (dk_at dksX0_in_0 6 rfl rfl)
theorem dX0_in_7 : decode cX0_in 7 = .ok (.if_icmp .gt 7, 3) := dk_163 0 7 (dk_at dksX0_in_0 7 rfl rfl)
theorem dX0_in_10 : decode cX0_in 10 = .ok (.iconst 1, 1) := dk_4 (dk_at dksX0_in_0 10 rfl rfl)
theorem dX0_in_11 : decode cX0_in 11 = .ok (.goto 4, 3) := dk_167 0 4 (dk_at dksX0_in_0 11 rfl rfl)
theorem dX0_in_14 : decode cX0_in 14 = .ok (.iconst 0, 1) := dk_3 (dk_at dksX0_in_0 14 rfl rfl)
theorem dX0_in_15 : decode cX0_in 15 = .ok (.ireturn, 1) := dk_172 (dk_at dksX0_in_0 15 rfl rfl)
abbrev cX0_finding : ByteArray := prog_1_method_15_code
def yX0_finding : MethodName := ⟨RX0, "finding", "(I)I"⟩
def dkwX0_finding_0 : List UInt8 := [42, 180, 0, 96, 27, 92, 46, 4, 96, 79, 18, 113, 27, 100, 172]
abbrev dktX0_finding_0 : List UInt8 := dkwX0_finding_0 ++ []
theorem dksX0_finding_0 : cX0_finding.data.toList.drop 0 = dktX0_finding_0 := by decide +kernel
theorem dX0_finding_0 : decode cX0_finding 0 = .ok (.aload_n 0, 1) := dk_42 (dk_at dksX0_finding_0 0 rfl rfl)
theorem dX0_finding_1 : decode cX0_finding 1 = .ok (.getfield 96, 3) := dk_180 0 96 (dk_at dksX0_finding_0 1 rfl rfl)
theorem dX0_finding_4 : decode cX0_finding 4 = .ok (.iload_n 1, 1) := dk_27 (dk_at dksX0_finding_0 4 rfl rfl)
theorem dX0_finding_5 : decode cX0_finding 5 = .ok (.dup2, 1) := dk_92 (dk_at dksX0_finding_0 5 rfl rfl)
theorem dX0_finding_6 : decode cX0_finding 6 = .ok (.iaload, 1) := dk_46 (dk_at dksX0_finding_0 6 rfl rfl)
theorem dX0_finding_7 : decode cX0_finding 7 = .ok (.iconst 1, 1) := dk_4 (dk_at dksX0_finding_0 7 rfl rfl)
theorem dX0_finding_8 : decode cX0_finding 8 = .ok (.iadd, 1) := dk_96 (dk_at dksX0_finding_0 8 rfl rfl)
theorem dX0_finding_9 : decode cX0_finding 9 = .ok (.iastore, 1) := dk_79 (dk_at dksX0_finding_0 9 rfl rfl)
theorem dX0_finding_10 : decode cX0_finding 10 = .ok (.ldc 113, 2) := dk_18 113 (dk_at dksX0_finding_0 10 rfl rfl)
theorem dX0_finding_12 : decode cX0_finding 12 = .ok (.iload_n 1, 1) := dk_27 (dk_at dksX0_finding_0 12 rfl rfl)
theorem dX0_finding_13 : decode cX0_finding 13 = .ok (.isub, 1) := dk_100 (dk_at dksX0_finding_0 13 rfl rfl)
theorem dX0_finding_14 : decode cX0_finding 14 = .ok (.ireturn, 1) := dk_172 (dk_at dksX0_finding_0 14 rfl rfl)
abbrev cX0_cellOf : ByteArray := prog_1_method_26_code
def yX0_cellOf : MethodName := ⟨RX0, "cellOf", "(II)I"⟩
def dkwX0_cellOf_3 : List UInt8 := [27, 182, 0, 174, 172, 42, 3, 182, 0, 124, 172]
abbrev dktX0_cellOf_3 : List UInt8 := dkwX0_cellOf_3 ++ []
def dkwX0_cellOf_2 : List UInt8 := [42, 180, 0, 71, 180, 0, 146, 27, 46, 172, 42, 180, 0, 71, 180, 0, 171, 27, 46, 172, 42, 180, 0, 71]
abbrev dktX0_cellOf_2 : List UInt8 := dkwX0_cellOf_2 ++ dktX0_cellOf_3
def dkwX0_cellOf_1 : List UInt8 := [170, 0, 0, 0, 0, 55, 0, 0, 0, 0, 0, 0, 0, 2, 0, 0, 0, 26, 0, 0, 0, 36, 0, 0, 0, 46]
abbrev dktX0_cellOf_1 : List UInt8 := dkwX0_cellOf_1 ++ dktX0_cellOf_2
def dkwX0_cellOf_0 : List UInt8 := [27, 184, 0, 17, 154, 0, 9, 42, 3, 182, 0, 124, 172, 28]
abbrev dktX0_cellOf_0 : List UInt8 := dkwX0_cellOf_0 ++ dktX0_cellOf_1
theorem dksX0_cellOf_0 : cX0_cellOf.data.toList.drop 0 = dktX0_cellOf_0 := by decide +kernel
theorem dksX0_cellOf_1 : cX0_cellOf.data.toList.drop 14 = dktX0_cellOf_1 := dk_seg dksX0_cellOf_0 14 rfl rfl
theorem dksX0_cellOf_2 : cX0_cellOf.data.toList.drop 40 = dktX0_cellOf_2 := dk_seg dksX0_cellOf_1 26 rfl rfl
theorem dksX0_cellOf_3 : cX0_cellOf.data.toList.drop 64 = dktX0_cellOf_3 := dk_seg dksX0_cellOf_2 24 rfl rfl
theorem dX0_cellOf_0 : decode cX0_cellOf 0 = .ok (.iload_n 1, 1) := dk_27 (dk_at dksX0_cellOf_0 0 rfl rfl)
theorem dX0_cellOf_1 : decode cX0_cellOf 1 = .ok (.invokestatic 17, 3) := dk_184 0 17 (dk_at dksX0_cellOf_0 1 rfl rfl)
theorem dX0_cellOf_4 : decode cX0_cellOf 4 = .ok (.ifCond .ne 9, 3) := dk_154 0 9 (dk_at dksX0_cellOf_0 4 rfl rfl)
theorem dX0_cellOf_7 : decode cX0_cellOf 7 = .ok (.aload_n 0, 1) := dk_42 (dk_at dksX0_cellOf_0 7 rfl rfl)
theorem dX0_cellOf_8 : decode cX0_cellOf 8 = .ok (.iconst 0, 1) := dk_3 (dk_at dksX0_cellOf_0 8 rfl rfl)
theorem dX0_cellOf_9 : decode cX0_cellOf 9 = .ok (.invokevirtual 124, 3) := dk_182 0 124 (dk_at dksX0_cellOf_0 9 rfl rfl)
theorem dX0_cellOf_12 : decode cX0_cellOf 12 = .ok (.ireturn, 1) := dk_172 (dk_at dksX0_cellOf_0 12 rfl rfl)
theorem dX0_cellOf_13 : decode cX0_cellOf 13 = .ok (.iload_n 2, 1) := dk_28 (dk_at dksX0_cellOf_0 13 rfl rfl)
theorem dX0_cellOf_14 : decode cX0_cellOf 14 = .ok (.tableswitch 55 0 2 #[26, 36, 46], 26) := by decide +kernel
theorem dX0_cellOf_40 : decode cX0_cellOf 40 = .ok (.aload_n 0, 1) := dk_42 (dk_at dksX0_cellOf_2 0 rfl rfl)
theorem dX0_cellOf_41 : decode cX0_cellOf 41 = .ok (.getfield 71, 3) := dk_180 0 71 (dk_at dksX0_cellOf_2 1 rfl rfl)
theorem dX0_cellOf_44 : decode cX0_cellOf 44 = .ok (.getfield 146, 3) := dk_180 0 146 (dk_at dksX0_cellOf_2 4 rfl rfl)
theorem dX0_cellOf_47 : decode cX0_cellOf 47 = .ok (.iload_n 1, 1) := dk_27 (dk_at dksX0_cellOf_2 7 rfl rfl)
theorem dX0_cellOf_48 : decode cX0_cellOf 48 = .ok (.iaload, 1) := dk_46 (dk_at dksX0_cellOf_2 8 rfl rfl)
theorem dX0_cellOf_49 : decode cX0_cellOf 49 = .ok (.ireturn, 1) := dk_172 (dk_at dksX0_cellOf_2 9 rfl rfl)
theorem dX0_cellOf_50 : decode cX0_cellOf 50 = .ok (.aload_n 0, 1) := dk_42 (dk_at dksX0_cellOf_2 10 rfl rfl)
theorem dX0_cellOf_51 : decode cX0_cellOf 51 = .ok (.getfield 71, 3) := dk_180 0 71 (dk_at dksX0_cellOf_2 11 rfl rfl)
theorem dX0_cellOf_54 : decode cX0_cellOf 54 = .ok (.getfield 171, 3) := dk_180 0 171 (dk_at dksX0_cellOf_2 14 rfl rfl)
theorem dX0_cellOf_57 : decode cX0_cellOf 57 = .ok (.iload_n 1, 1) := dk_27 (dk_at dksX0_cellOf_2 17 rfl rfl)
theorem dX0_cellOf_58 : decode cX0_cellOf 58 = .ok (.iaload, 1) := dk_46 (dk_at dksX0_cellOf_2 18 rfl rfl)
theorem dX0_cellOf_59 : decode cX0_cellOf 59 = .ok (.ireturn, 1) := dk_172 (dk_at dksX0_cellOf_2 19 rfl rfl)
theorem dX0_cellOf_60 : decode cX0_cellOf 60 = .ok (.aload_n 0, 1) := dk_42 (dk_at dksX0_cellOf_2 20 rfl rfl)
theorem dX0_cellOf_61 : decode cX0_cellOf 61 = .ok (.getfield 71, 3) := dk_180 0 71 (dk_at dksX0_cellOf_2 21 rfl rfl)
theorem dX0_cellOf_64 : decode cX0_cellOf 64 = .ok (.iload_n 1, 1) := dk_27 (dk_at dksX0_cellOf_3 0 rfl rfl)
theorem dX0_cellOf_65 : decode cX0_cellOf 65 = .ok (.invokevirtual 174, 3) := dk_182 0 174 (dk_at dksX0_cellOf_3 1 rfl rfl)
theorem dX0_cellOf_68 : decode cX0_cellOf 68 = .ok (.ireturn, 1) := dk_172 (dk_at dksX0_cellOf_3 4 rfl rfl)
theorem dX0_cellOf_69 : decode cX0_cellOf 69 = .ok (.aload_n 0, 1) := dk_42 (dk_at dksX0_cellOf_3 5 rfl rfl)
theorem dX0_cellOf_70 : decode cX0_cellOf 70 = .ok (.iconst 0, 1) := dk_3 (dk_at dksX0_cellOf_3 6 rfl rfl)
theorem dX0_cellOf_71 : decode cX0_cellOf 71 = .ok (.invokevirtual 124, 3) := dk_182 0 124 (dk_at dksX0_cellOf_3 7 rfl rfl)
theorem dX0_cellOf_74 : decode cX0_cellOf 74 = .ok (.ireturn, 1) := dk_172 (dk_at dksX0_cellOf_3 10 rfl rfl)
abbrev cX0_apart : ByteArray := prog_1_method_10_code
def yX0_apart : MethodName := ⟨RX0, "apart", "(II)I"⟩
def dkwX0_apart_1 : List UInt8 := [96, 172]
abbrev dktX0_apart_1 : List UInt8 := dkwX0_apart_1 ++ []
def dkwX0_apart_0 : List UInt8 := [26, 16, 6, 108, 27, 16, 6, 108, 100, 184, 0, 20, 26, 16, 6, 112, 27, 16, 6, 112, 100, 184, 0, 20]
abbrev dktX0_apart_0 : List UInt8 := dkwX0_apart_0 ++ dktX0_apart_1
theorem dksX0_apart_0 : cX0_apart.data.toList.drop 0 = dktX0_apart_0 := by decide +kernel
theorem dksX0_apart_1 : cX0_apart.data.toList.drop 24 = dktX0_apart_1 := dk_seg dksX0_apart_0 24 rfl rfl
theorem dX0_apart_0 : decode cX0_apart 0 = .ok (.iload_n 0, 1) := dk_26 (dk_at dksX0_apart_0 0 rfl rfl)
theorem dX0_apart_1 : decode cX0_apart 1 = .ok (.bipush 6, 2) := dk_16 6 (dk_at dksX0_apart_0 1 rfl rfl)
theorem dX0_apart_3 : decode cX0_apart 3 = .ok (.idiv, 1) := dk_108 (dk_at dksX0_apart_0 3 rfl rfl)
theorem dX0_apart_4 : decode cX0_apart 4 = .ok (.iload_n 1, 1) := dk_27 (dk_at dksX0_apart_0 4 rfl rfl)
theorem dX0_apart_5 : decode cX0_apart 5 = .ok (.bipush 6, 2) := dk_16 6 (dk_at dksX0_apart_0 5 rfl rfl)
theorem dX0_apart_7 : decode cX0_apart 7 = .ok (.idiv, 1) := dk_108 (dk_at dksX0_apart_0 7 rfl rfl)
theorem dX0_apart_8 : decode cX0_apart 8 = .ok (.isub, 1) := dk_100 (dk_at dksX0_apart_0 8 rfl rfl)
theorem dX0_apart_9 : decode cX0_apart 9 = .ok (.invokestatic 20, 3) := dk_184 0 20 (dk_at dksX0_apart_0 9 rfl rfl)
theorem dX0_apart_12 : decode cX0_apart 12 = .ok (.iload_n 0, 1) := dk_26 (dk_at dksX0_apart_0 12 rfl rfl)
theorem dX0_apart_13 : decode cX0_apart 13 = .ok (.bipush 6, 2) := dk_16 6 (dk_at dksX0_apart_0 13 rfl rfl)
theorem dX0_apart_15 : decode cX0_apart 15 = .ok (.irem, 1) := dk_112 (dk_at dksX0_apart_0 15 rfl rfl)
theorem dX0_apart_16 : decode cX0_apart 16 = .ok (.iload_n 1, 1) := dk_27 (dk_at dksX0_apart_0 16 rfl rfl)
theorem dX0_apart_17 : decode cX0_apart 17 = .ok (.bipush 6, 2) := dk_16 6 (dk_at dksX0_apart_0 17 rfl rfl)
theorem dX0_apart_19 : decode cX0_apart 19 = .ok (.irem, 1) := dk_112 (dk_at dksX0_apart_0 19 rfl rfl)
theorem dX0_apart_20 : decode cX0_apart 20 = .ok (.isub, 1) := dk_100 (dk_at dksX0_apart_0 20 rfl rfl)
theorem dX0_apart_21 : decode cX0_apart 21 = .ok (.invokestatic 20, 3) := dk_184 0 20 (dk_at dksX0_apart_0 21 rfl rfl)
theorem dX0_apart_24 : decode cX0_apart 24 = .ok (.iadd, 1) := dk_96 (dk_at dksX0_apart_1 0 rfl rfl)
theorem dX0_apart_25 : decode cX0_apart 25 = .ok (.ireturn, 1) := dk_172 (dk_at dksX0_apart_1 1 rfl rfl)
abbrev cX0_mouse : ByteArray := prog_1_method_28_code
def yX0_mouse : MethodName := ⟨RX0, "mouse", "(II)I"⟩
def dkwX0_mouse_1 : List UInt8 := [62, 42, 180, 0, 71, 180, 0, 133, 27, 28, 79, 29, 172]
abbrev dktX0_mouse_1 : List UInt8 := dkwX0_mouse_1 ++ []
def dkwX0_mouse_0 : List UInt8 := [42, 27, 28, 182, 0, 180, 154, 0, 9, 42, 3, 182, 0, 124, 172, 42, 180, 0, 71, 180, 0, 133, 27, 46]
abbrev dktX0_mouse_0 : List UInt8 := dkwX0_mouse_0 ++ dktX0_mouse_1
theorem dksX0_mouse_0 : cX0_mouse.data.toList.drop 0 = dktX0_mouse_0 := by decide +kernel
theorem dksX0_mouse_1 : cX0_mouse.data.toList.drop 24 = dktX0_mouse_1 := dk_seg dksX0_mouse_0 24 rfl rfl
theorem dX0_mouse_0 : decode cX0_mouse 0 = .ok (.aload_n 0, 1) := dk_42 (dk_at dksX0_mouse_0 0 rfl rfl)
theorem dX0_mouse_1 : decode cX0_mouse 1 = .ok (.iload_n 1, 1) := dk_27 (dk_at dksX0_mouse_0 1 rfl rfl)
theorem dX0_mouse_2 : decode cX0_mouse 2 = .ok (.iload_n 2, 1) := dk_28 (dk_at dksX0_mouse_0 2 rfl rfl)
theorem dX0_mouse_3 : decode cX0_mouse 3 = .ok (.invokevirtual 180, 3) := dk_182 0 180 (dk_at dksX0_mouse_0 3 rfl rfl)
theorem dX0_mouse_6 : decode cX0_mouse 6 = .ok (.ifCond .ne 9, 3) := dk_154 0 9 (dk_at dksX0_mouse_0 6 rfl rfl)
theorem dX0_mouse_9 : decode cX0_mouse 9 = .ok (.aload_n 0, 1) := dk_42 (dk_at dksX0_mouse_0 9 rfl rfl)
theorem dX0_mouse_10 : decode cX0_mouse 10 = .ok (.iconst 0, 1) := dk_3 (dk_at dksX0_mouse_0 10 rfl rfl)
theorem dX0_mouse_11 : decode cX0_mouse 11 = .ok (.invokevirtual 124, 3) := dk_182 0 124 (dk_at dksX0_mouse_0 11 rfl rfl)
theorem dX0_mouse_14 : decode cX0_mouse 14 = .ok (.ireturn, 1) := dk_172 (dk_at dksX0_mouse_0 14 rfl rfl)
theorem dX0_mouse_15 : decode cX0_mouse 15 = .ok (.aload_n 0, 1) := dk_42 (dk_at dksX0_mouse_0 15 rfl rfl)
theorem dX0_mouse_16 : decode cX0_mouse 16 = .ok (.getfield 71, 3) := dk_180 0 71 (dk_at dksX0_mouse_0 16 rfl rfl)
theorem dX0_mouse_19 : decode cX0_mouse 19 = .ok (.getfield 133, 3) := dk_180 0 133 (dk_at dksX0_mouse_0 19 rfl rfl)
theorem dX0_mouse_22 : decode cX0_mouse 22 = .ok (.iload_n 1, 1) := dk_27 (dk_at dksX0_mouse_0 22 rfl rfl)
theorem dX0_mouse_23 : decode cX0_mouse 23 = .ok (.iaload, 1) := dk_46 (dk_at dksX0_mouse_0 23 rfl rfl)
theorem dX0_mouse_24 : decode cX0_mouse 24 = .ok (.istore_n 3, 1) := dk_62 (dk_at dksX0_mouse_1 0 rfl rfl)
theorem dX0_mouse_25 : decode cX0_mouse 25 = .ok (.aload_n 0, 1) := dk_42 (dk_at dksX0_mouse_1 1 rfl rfl)
theorem dX0_mouse_26 : decode cX0_mouse 26 = .ok (.getfield 71, 3) := dk_180 0 71 (dk_at dksX0_mouse_1 2 rfl rfl)
theorem dX0_mouse_29 : decode cX0_mouse 29 = .ok (.getfield 133, 3) := dk_180 0 133 (dk_at dksX0_mouse_1 5 rfl rfl)
theorem dX0_mouse_32 : decode cX0_mouse 32 = .ok (.iload_n 1, 1) := dk_27 (dk_at dksX0_mouse_1 8 rfl rfl)
theorem dX0_mouse_33 : decode cX0_mouse 33 = .ok (.iload_n 2, 1) := dk_28 (dk_at dksX0_mouse_1 9 rfl rfl)
theorem dX0_mouse_34 : decode cX0_mouse 34 = .ok (.iastore, 1) := dk_79 (dk_at dksX0_mouse_1 10 rfl rfl)
theorem dX0_mouse_35 : decode cX0_mouse 35 = .ok (.iload_n 3, 1) := dk_29 (dk_at dksX0_mouse_1 11 rfl rfl)
theorem dX0_mouse_36 : decode cX0_mouse 36 = .ok (.ireturn, 1) := dk_172 (dk_at dksX0_mouse_1 12 rfl rfl)
abbrev cX0_isOfMouse : ByteArray := prog_1_method_27_code
def yX0_isOfMouse : MethodName := ⟨RX0, "isOfMouse", "(II)Z"⟩
def dkwX0_isOfMouse_6 : List UInt8 := [180, 0, 133, 5, 46, 42, 180, 0, 71, 180, 0, 133, 6, 46, 96, 4, 100, 184, 0, 9, 172, 3, 172]
abbrev dktX0_isOfMouse_6 : List UInt8 := dkwX0_isOfMouse_6 ++ []
def dkwX0_isOfMouse_5 : List UInt8 := [180, 0, 71, 180, 0, 133, 5, 46, 96, 162, 0, 7, 4, 167, 0, 4, 3, 172, 28, 3, 42, 180, 0, 71]
abbrev dktX0_isOfMouse_5 : List UInt8 := dkwX0_isOfMouse_5 ++ dktX0_isOfMouse_6
def dkwX0_isOfMouse_4 : List UInt8 := [172, 28, 3, 16, 9, 184, 0, 9, 153, 0, 30, 42, 180, 0, 71, 180, 0, 133, 7, 46, 28, 42]
abbrev dktX0_isOfMouse_4 : List UInt8 := dkwX0_isOfMouse_4 ++ dktX0_isOfMouse_5
def dkwX0_isOfMouse_3 : List UInt8 := [180, 0, 133, 7, 46, 28, 42, 180, 0, 71, 180, 0, 133, 6, 46, 96, 162, 0, 7, 4, 167, 0, 4, 3]
abbrev dktX0_isOfMouse_3 : List UInt8 := dkwX0_isOfMouse_3 ++ dktX0_isOfMouse_4
def dkwX0_isOfMouse_2 : List UInt8 := [28, 184, 0, 17, 172, 28, 184, 0, 177, 172, 28, 4, 16, 9, 184, 0, 9, 153, 0, 30, 42, 180, 0, 71]
abbrev dktX0_isOfMouse_2 : List UInt8 := dkwX0_isOfMouse_2 ++ dktX0_isOfMouse_3
def dkwX0_isOfMouse_1 : List UInt8 := [170, 0, 0, 0, 0, 0, 150, 0, 0, 0, 0, 0, 0, 0, 4, 0, 0, 0, 35, 0, 0, 0, 40, 0, 0, 0, 45, 0, 0, 0, 84, 0, 0, 0, 123]
abbrev dktX0_isOfMouse_1 : List UInt8 := dkwX0_isOfMouse_1 ++ dktX0_isOfMouse_2
def dkwX0_isOfMouse_0 : List UInt8 := [27]
abbrev dktX0_isOfMouse_0 : List UInt8 := dkwX0_isOfMouse_0 ++ dktX0_isOfMouse_1
theorem dksX0_isOfMouse_0 : cX0_isOfMouse.data.toList.drop 0 = dktX0_isOfMouse_0 := by decide +kernel
theorem dksX0_isOfMouse_1 : cX0_isOfMouse.data.toList.drop 1 = dktX0_isOfMouse_1 := dk_seg dksX0_isOfMouse_0 1 rfl rfl
theorem dksX0_isOfMouse_2 : cX0_isOfMouse.data.toList.drop 36 = dktX0_isOfMouse_2 := dk_seg dksX0_isOfMouse_1 35 rfl rfl
theorem dksX0_isOfMouse_3 : cX0_isOfMouse.data.toList.drop 60 = dktX0_isOfMouse_3 := dk_seg dksX0_isOfMouse_2 24 rfl rfl
theorem dksX0_isOfMouse_4 : cX0_isOfMouse.data.toList.drop 84 = dktX0_isOfMouse_4 := dk_seg dksX0_isOfMouse_3 24 rfl rfl
theorem dksX0_isOfMouse_5 : cX0_isOfMouse.data.toList.drop 106 = dktX0_isOfMouse_5 := dk_seg dksX0_isOfMouse_4 22 rfl rfl
theorem dksX0_isOfMouse_6 : cX0_isOfMouse.data.toList.drop 130 = dktX0_isOfMouse_6 := dk_seg dksX0_isOfMouse_5 24 rfl rfl
theorem dX0_isOfMouse_0 : decode cX0_isOfMouse 0 = .ok (.iload_n 1, 1) := dk_27 (dk_at dksX0_isOfMouse_0 0 rfl rfl)
theorem dX0_isOfMouse_1 : decode cX0_isOfMouse 1 = .ok (.tableswitch 150 0 4 #[35, 40, 45, 84, 123], 35) := by decide +kernel
theorem dX0_isOfMouse_36 : decode cX0_isOfMouse 36 = .ok (.iload_n 2, 1) := dk_28 (dk_at dksX0_isOfMouse_2 0 rfl rfl)
theorem dX0_isOfMouse_37 : decode cX0_isOfMouse 37 = .ok (.invokestatic 17, 3) := dk_184 0 17 (dk_at dksX0_isOfMouse_2 1 rfl rfl)
theorem dX0_isOfMouse_40 : decode cX0_isOfMouse 40 = .ok (.ireturn, 1) := dk_172 (dk_at dksX0_isOfMouse_2 4 rfl rfl)
theorem dX0_isOfMouse_41 : decode cX0_isOfMouse 41 = .ok (.iload_n 2, 1) := dk_28 (dk_at dksX0_isOfMouse_2 5 rfl rfl)
theorem dX0_isOfMouse_42 : decode cX0_isOfMouse 42 = .ok (.invokestatic 177, 3) := dk_184 0 177 (dk_at dksX0_isOfMouse_2 6 rfl rfl)
theorem dX0_isOfMouse_45 : decode cX0_isOfMouse 45 = .ok (.ireturn, 1) := dk_172 (dk_at dksX0_isOfMouse_2 9 rfl rfl)
theorem dX0_isOfMouse_46 : decode cX0_isOfMouse 46 = .ok (.iload_n 2, 1) := dk_28 (dk_at dksX0_isOfMouse_2 10 rfl rfl)
theorem dX0_isOfMouse_47 : decode cX0_isOfMouse 47 = .ok (.iconst 1, 1) := dk_4 (dk_at dksX0_isOfMouse_2 11 rfl rfl)
theorem dX0_isOfMouse_48 : decode cX0_isOfMouse 48 = .ok (.bipush 9, 2) := dk_16 9 (dk_at dksX0_isOfMouse_2 12 rfl rfl)
theorem dX0_isOfMouse_50 : decode cX0_isOfMouse 50 = .ok (.invokestatic 9, 3) := dk_184 0 9 (dk_at dksX0_isOfMouse_2 14 rfl rfl)
theorem dX0_isOfMouse_53 : decode cX0_isOfMouse 53 = .ok (.ifCond .eq 30, 3) := dk_153 0 30 (dk_at dksX0_isOfMouse_2 17 rfl rfl)
theorem dX0_isOfMouse_56 : decode cX0_isOfMouse 56 = .ok (.aload_n 0, 1) := dk_42 (dk_at dksX0_isOfMouse_2 20 rfl rfl)
theorem dX0_isOfMouse_57 : decode cX0_isOfMouse 57 = .ok (.getfield 71, 3) := dk_180 0 71 (dk_at dksX0_isOfMouse_2 21 rfl rfl)
theorem dX0_isOfMouse_60 : decode cX0_isOfMouse 60 = .ok (.getfield 133, 3) := dk_180 0 133 (dk_at dksX0_isOfMouse_3 0 rfl rfl)
theorem dX0_isOfMouse_63 : decode cX0_isOfMouse 63 = .ok (.iconst 4, 1) := dk_7 (dk_at dksX0_isOfMouse_3 3 rfl rfl)
theorem dX0_isOfMouse_64 : decode cX0_isOfMouse 64 = .ok (.iaload, 1) := dk_46 (dk_at dksX0_isOfMouse_3 4 rfl rfl)
theorem dX0_isOfMouse_65 : decode cX0_isOfMouse 65 = .ok (.iload_n 2, 1) := dk_28 (dk_at dksX0_isOfMouse_3 5 rfl rfl)
theorem dX0_isOfMouse_66 : decode cX0_isOfMouse 66 = .ok (.aload_n 0, 1) := dk_42 (dk_at dksX0_isOfMouse_3 6 rfl rfl)
theorem dX0_isOfMouse_67 : decode cX0_isOfMouse 67 = .ok (.getfield 71, 3) := dk_180 0 71 (dk_at dksX0_isOfMouse_3 7 rfl rfl)
theorem dX0_isOfMouse_70 : decode cX0_isOfMouse 70 = .ok (.getfield 133, 3) := dk_180 0 133 (dk_at dksX0_isOfMouse_3 10 rfl rfl)
theorem dX0_isOfMouse_73 : decode cX0_isOfMouse 73 = .ok (.iconst 3, 1) := dk_6 (dk_at dksX0_isOfMouse_3 13 rfl rfl)
theorem dX0_isOfMouse_74 : decode cX0_isOfMouse 74 = .ok (.iaload, 1) := dk_46 (dk_at dksX0_isOfMouse_3 14 rfl rfl)
theorem dX0_isOfMouse_75 : decode cX0_isOfMouse 75 = .ok (.iadd, 1) := dk_96 (dk_at dksX0_isOfMouse_3 15 rfl rfl)
theorem dX0_isOfMouse_76 : decode cX0_isOfMouse 76 = .ok (.if_icmp .ge 7, 3) := dk_162 0 7 (dk_at dksX0_isOfMouse_3 16 rfl rfl)
theorem dX0_isOfMouse_79 : decode cX0_isOfMouse 79 = .ok (.iconst 1, 1) := dk_4 (dk_at dksX0_isOfMouse_3 19 rfl rfl)
theorem dX0_isOfMouse_80 : decode cX0_isOfMouse 80 = .ok (.goto 4, 3) := dk_167 0 4 (dk_at dksX0_isOfMouse_3 20 rfl rfl)
theorem dX0_isOfMouse_83 : decode cX0_isOfMouse 83 = .ok (.iconst 0, 1) := dk_3 (dk_at dksX0_isOfMouse_3 23 rfl rfl)
theorem dX0_isOfMouse_84 : decode cX0_isOfMouse 84 = .ok (.ireturn, 1) := dk_172 (dk_at dksX0_isOfMouse_4 0 rfl rfl)
theorem dX0_isOfMouse_85 : decode cX0_isOfMouse 85 = .ok (.iload_n 2, 1) := dk_28 (dk_at dksX0_isOfMouse_4 1 rfl rfl)
theorem dX0_isOfMouse_86 : decode cX0_isOfMouse 86 = .ok (.iconst 0, 1) := dk_3 (dk_at dksX0_isOfMouse_4 2 rfl rfl)
theorem dX0_isOfMouse_87 : decode cX0_isOfMouse 87 = .ok (.bipush 9, 2) := dk_16 9 (dk_at dksX0_isOfMouse_4 3 rfl rfl)
theorem dX0_isOfMouse_89 : decode cX0_isOfMouse 89 = .ok (.invokestatic 9, 3) := dk_184 0 9 (dk_at dksX0_isOfMouse_4 5 rfl rfl)
theorem dX0_isOfMouse_92 : decode cX0_isOfMouse 92 = .ok (.ifCond .eq 30, 3) := dk_153 0 30 (dk_at dksX0_isOfMouse_4 8 rfl rfl)
theorem dX0_isOfMouse_95 : decode cX0_isOfMouse 95 = .ok (.aload_n 0, 1) := dk_42 (dk_at dksX0_isOfMouse_4 11 rfl rfl)
theorem dX0_isOfMouse_96 : decode cX0_isOfMouse 96 = .ok (.getfield 71, 3) := dk_180 0 71 (dk_at dksX0_isOfMouse_4 12 rfl rfl)
theorem dX0_isOfMouse_99 : decode cX0_isOfMouse 99 = .ok (.getfield 133, 3) := dk_180 0 133 (dk_at dksX0_isOfMouse_4 15 rfl rfl)
theorem dX0_isOfMouse_102 : decode cX0_isOfMouse 102 = .ok (.iconst 4, 1) := dk_7 (dk_at dksX0_isOfMouse_4 18 rfl rfl)
theorem dX0_isOfMouse_103 : decode cX0_isOfMouse 103 = .ok (.iaload, 1) := dk_46 (dk_at dksX0_isOfMouse_4 19 rfl rfl)
theorem dX0_isOfMouse_104 : decode cX0_isOfMouse 104 = .ok (.iload_n 2, 1) := dk_28 (dk_at dksX0_isOfMouse_4 20 rfl rfl)
theorem dX0_isOfMouse_105 : decode cX0_isOfMouse 105 = .ok (.aload_n 0, 1) := dk_42 (dk_at dksX0_isOfMouse_4 21 rfl rfl)
theorem dX0_isOfMouse_106 : decode cX0_isOfMouse 106 = .ok (.getfield 71, 3) := dk_180 0 71 (dk_at dksX0_isOfMouse_5 0 rfl rfl)
theorem dX0_isOfMouse_109 : decode cX0_isOfMouse 109 = .ok (.getfield 133, 3) := dk_180 0 133 (dk_at dksX0_isOfMouse_5 3 rfl rfl)
theorem dX0_isOfMouse_112 : decode cX0_isOfMouse 112 = .ok (.iconst 2, 1) := dk_5 (dk_at dksX0_isOfMouse_5 6 rfl rfl)
theorem dX0_isOfMouse_113 : decode cX0_isOfMouse 113 = .ok (.iaload, 1) := dk_46 (dk_at dksX0_isOfMouse_5 7 rfl rfl)
theorem dX0_isOfMouse_114 : decode cX0_isOfMouse 114 = .ok (.iadd, 1) := dk_96 (dk_at dksX0_isOfMouse_5 8 rfl rfl)
theorem dX0_isOfMouse_115 : decode cX0_isOfMouse 115 = .ok (.if_icmp .ge 7, 3) := dk_162 0 7 (dk_at dksX0_isOfMouse_5 9 rfl rfl)
theorem dX0_isOfMouse_118 : decode cX0_isOfMouse 118 = .ok (.iconst 1, 1) := dk_4 (dk_at dksX0_isOfMouse_5 12 rfl rfl)
theorem dX0_isOfMouse_119 : decode cX0_isOfMouse 119 = .ok (.goto 4, 3) := dk_167 0 4 (dk_at dksX0_isOfMouse_5 13 rfl rfl)
theorem dX0_isOfMouse_122 : decode cX0_isOfMouse 122 = .ok (.iconst 0, 1) := dk_3 (dk_at dksX0_isOfMouse_5 16 rfl rfl)
theorem dX0_isOfMouse_123 : decode cX0_isOfMouse 123 = .ok (.ireturn, 1) := dk_172 (dk_at dksX0_isOfMouse_5 17 rfl rfl)
theorem dX0_isOfMouse_124 : decode cX0_isOfMouse 124 = .ok (.iload_n 2, 1) := dk_28 (dk_at dksX0_isOfMouse_5 18 rfl rfl)
theorem dX0_isOfMouse_125 : decode cX0_isOfMouse 125 = .ok (.iconst 0, 1) := dk_3 (dk_at dksX0_isOfMouse_5 19 rfl rfl)
theorem dX0_isOfMouse_126 : decode cX0_isOfMouse 126 = .ok (.aload_n 0, 1) := dk_42 (dk_at dksX0_isOfMouse_5 20 rfl rfl)
theorem dX0_isOfMouse_127 : decode cX0_isOfMouse 127 = .ok (.getfield 71, 3) := dk_180 0 71 (dk_at dksX0_isOfMouse_5 21 rfl rfl)
theorem dX0_isOfMouse_130 : decode cX0_isOfMouse 130 = .ok (.getfield 133, 3) := dk_180 0 133 (dk_at dksX0_isOfMouse_6 0 rfl rfl)
theorem dX0_isOfMouse_133 : decode cX0_isOfMouse 133 = .ok (.iconst 2, 1) := dk_5 (dk_at dksX0_isOfMouse_6 3 rfl rfl)
theorem dX0_isOfMouse_134 : decode cX0_isOfMouse 134 = .ok (.iaload, 1) := dk_46 (dk_at dksX0_isOfMouse_6 4 rfl rfl)
theorem dX0_isOfMouse_135 : decode cX0_isOfMouse 135 = .ok (.aload_n 0, 1) := dk_42 (dk_at dksX0_isOfMouse_6 5 rfl rfl)
theorem dX0_isOfMouse_136 : decode cX0_isOfMouse 136 = .ok (.getfield 71, 3) := dk_180 0 71 (dk_at dksX0_isOfMouse_6 6 rfl rfl)
theorem dX0_isOfMouse_139 : decode cX0_isOfMouse 139 = .ok (.getfield 133, 3) := dk_180 0 133 (dk_at dksX0_isOfMouse_6 9 rfl rfl)
theorem dX0_isOfMouse_142 : decode cX0_isOfMouse 142 = .ok (.iconst 3, 1) := dk_6 (dk_at dksX0_isOfMouse_6 12 rfl rfl)
theorem dX0_isOfMouse_143 : decode cX0_isOfMouse 143 = .ok (.iaload, 1) := dk_46 (dk_at dksX0_isOfMouse_6 13 rfl rfl)
theorem dX0_isOfMouse_144 : decode cX0_isOfMouse 144 = .ok (.iadd, 1) := dk_96 (dk_at dksX0_isOfMouse_6 14 rfl rfl)
theorem dX0_isOfMouse_145 : decode cX0_isOfMouse 145 = .ok (.iconst 1, 1) := dk_4 (dk_at dksX0_isOfMouse_6 15 rfl rfl)
theorem dX0_isOfMouse_146 : decode cX0_isOfMouse 146 = .ok (.isub, 1) := dk_100 (dk_at dksX0_isOfMouse_6 16 rfl rfl)
theorem dX0_isOfMouse_147 : decode cX0_isOfMouse 147 = .ok (.invokestatic 9, 3) := dk_184 0 9 (dk_at dksX0_isOfMouse_6 17 rfl rfl)
theorem dX0_isOfMouse_150 : decode cX0_isOfMouse 150 = .ok (.ireturn, 1) := dk_172 (dk_at dksX0_isOfMouse_6 20 rfl rfl)
theorem dX0_isOfMouse_151 : decode cX0_isOfMouse 151 = .ok (.iconst 0, 1) := dk_3 (dk_at dksX0_isOfMouse_6 21 rfl rfl)
theorem dX0_isOfMouse_152 : decode cX0_isOfMouse 152 = .ok (.ireturn, 1) := dk_172 (dk_at dksX0_isOfMouse_6 22 rfl rfl)
abbrev cX0_isHeading : ByteArray := prog_1_method_8_code
def yX0_isHeading : MethodName := ⟨RX0, "isHeading", "(I)Z"⟩
def dkwX0_isHeading_0 : List UInt8 := [26, 3, 6, 184, 0, 9, 172]
abbrev dktX0_isHeading_0 : List UInt8 := dkwX0_isHeading_0 ++ []
theorem dksX0_isHeading_0 : cX0_isHeading.data.toList.drop 0 = dktX0_isHeading_0 := by decide +kernel
theorem dX0_isHeading_0 : decode cX0_isHeading 0 = .ok (.iload_n 0, 1) := dk_26 (dk_at dksX0_isHeading_0 0 rfl rfl)
theorem dX0_isHeading_1 : decode cX0_isHeading 1 = .ok (.iconst 0, 1) := dk_3 (dk_at dksX0_isHeading_0 1 rfl rfl)
theorem dX0_isHeading_2 : decode cX0_isHeading 2 = .ok (.iconst 3, 1) := dk_6 (dk_at dksX0_isHeading_0 2 rfl rfl)
theorem dX0_isHeading_3 : decode cX0_isHeading 3 = .ok (.invokestatic 9, 3) := dk_184 0 9 (dk_at dksX0_isHeading_0 3 rfl rfl)
theorem dX0_isHeading_6 : decode cX0_isHeading 6 = .ok (.ireturn, 1) := dk_172 (dk_at dksX0_isHeading_0 6 rfl rfl)
abbrev cX0_owl : ByteArray := prog_1_method_29_code
def yX0_owl : MethodName := ⟨RX0, "owl", "(II)I"⟩
def dkwX0_owl_2 : List UInt8 := [54, 4, 42, 180, 0, 71, 180, 0, 184, 27, 28, 79, 21, 4, 172]
abbrev dktX0_owl_2 : List UInt8 := dkwX0_owl_2 ++ []
def dkwX0_owl_1 : List UInt8 := [167, 0, 4, 3, 62, 29, 154, 0, 9, 42, 3, 182, 0, 124, 172, 42, 180, 0, 71, 180, 0, 184, 27, 46]
abbrev dktX0_owl_1 : List UInt8 := dkwX0_owl_1 ++ dktX0_owl_2
def dkwX0_owl_0 : List UInt8 := [27, 154, 0, 10, 28, 184, 0, 17, 154, 0, 15, 27, 4, 160, 0, 14, 28, 184, 0, 177, 153, 0, 7, 4]
abbrev dktX0_owl_0 : List UInt8 := dkwX0_owl_0 ++ dktX0_owl_1
theorem dksX0_owl_0 : cX0_owl.data.toList.drop 0 = dktX0_owl_0 := by decide +kernel
theorem dksX0_owl_1 : cX0_owl.data.toList.drop 24 = dktX0_owl_1 := dk_seg dksX0_owl_0 24 rfl rfl
theorem dksX0_owl_2 : cX0_owl.data.toList.drop 48 = dktX0_owl_2 := dk_seg dksX0_owl_1 24 rfl rfl
theorem dX0_owl_0 : decode cX0_owl 0 = .ok (.iload_n 1, 1) := dk_27 (dk_at dksX0_owl_0 0 rfl rfl)
theorem dX0_owl_1 : decode cX0_owl 1 = .ok (.ifCond .ne 10, 3) := dk_154 0 10 (dk_at dksX0_owl_0 1 rfl rfl)
theorem dX0_owl_4 : decode cX0_owl 4 = .ok (.iload_n 2, 1) := dk_28 (dk_at dksX0_owl_0 4 rfl rfl)
theorem dX0_owl_5 : decode cX0_owl 5 = .ok (.invokestatic 17, 3) := dk_184 0 17 (dk_at dksX0_owl_0 5 rfl rfl)
theorem dX0_owl_8 : decode cX0_owl 8 = .ok (.ifCond .ne 15, 3) := dk_154 0 15 (dk_at dksX0_owl_0 8 rfl rfl)
theorem dX0_owl_11 : decode cX0_owl 11 = .ok (.iload_n 1, 1) := dk_27 (dk_at dksX0_owl_0 11 rfl rfl)
theorem dX0_owl_12 : decode cX0_owl 12 = .ok (.iconst 1, 1) := dk_4 (dk_at dksX0_owl_0 12 rfl rfl)
theorem dX0_owl_13 : decode cX0_owl 13 = .ok (.if_icmp .ne 14, 3) := dk_160 0 14 (dk_at dksX0_owl_0 13 rfl rfl)
theorem dX0_owl_16 : decode cX0_owl 16 = .ok (.iload_n 2, 1) := dk_28 (dk_at dksX0_owl_0 16 rfl rfl)
theorem dX0_owl_17 : decode cX0_owl 17 = .ok (.invokestatic 177, 3) := dk_184 0 177 (dk_at dksX0_owl_0 17 rfl rfl)
theorem dX0_owl_20 : decode cX0_owl 20 = .ok (.ifCond .eq 7, 3) := dk_153 0 7 (dk_at dksX0_owl_0 20 rfl rfl)
theorem dX0_owl_23 : decode cX0_owl 23 = .ok (.iconst 1, 1) := dk_4 (dk_at dksX0_owl_0 23 rfl rfl)
theorem dX0_owl_24 : decode cX0_owl 24 = .ok (.goto 4, 3) := dk_167 0 4 (dk_at dksX0_owl_1 0 rfl rfl)
theorem dX0_owl_27 : decode cX0_owl 27 = .ok (.iconst 0, 1) := dk_3 (dk_at dksX0_owl_1 3 rfl rfl)
theorem dX0_owl_28 : decode cX0_owl 28 = .ok (.istore_n 3, 1) := dk_62 (dk_at dksX0_owl_1 4 rfl rfl)
theorem dX0_owl_29 : decode cX0_owl 29 = .ok (.iload_n 3, 1) := dk_29 (dk_at dksX0_owl_1 5 rfl rfl)
theorem dX0_owl_30 : decode cX0_owl 30 = .ok (.ifCond .ne 9, 3) := dk_154 0 9 (dk_at dksX0_owl_1 6 rfl rfl)
theorem dX0_owl_33 : decode cX0_owl 33 = .ok (.aload_n 0, 1) := dk_42 (dk_at dksX0_owl_1 9 rfl rfl)
theorem dX0_owl_34 : decode cX0_owl 34 = .ok (.iconst 0, 1) := dk_3 (dk_at dksX0_owl_1 10 rfl rfl)
theorem dX0_owl_35 : decode cX0_owl 35 = .ok (.invokevirtual 124, 3) := dk_182 0 124 (dk_at dksX0_owl_1 11 rfl rfl)
theorem dX0_owl_38 : decode cX0_owl 38 = .ok (.ireturn, 1) := dk_172 (dk_at dksX0_owl_1 14 rfl rfl)
theorem dX0_owl_39 : decode cX0_owl 39 = .ok (.aload_n 0, 1) := dk_42 (dk_at dksX0_owl_1 15 rfl rfl)
theorem dX0_owl_40 : decode cX0_owl 40 = .ok (.getfield 71, 3) := dk_180 0 71 (dk_at dksX0_owl_1 16 rfl rfl)
theorem dX0_owl_43 : decode cX0_owl 43 = .ok (.getfield 184, 3) := dk_180 0 184 (dk_at dksX0_owl_1 19 rfl rfl)
theorem dX0_owl_46 : decode cX0_owl 46 = .ok (.iload_n 1, 1) := dk_27 (dk_at dksX0_owl_1 22 rfl rfl)
theorem dX0_owl_47 : decode cX0_owl 47 = .ok (.iaload, 1) := dk_46 (dk_at dksX0_owl_1 23 rfl rfl)
theorem dX0_owl_48 : decode cX0_owl 48 = .ok (.istore 4, 2) := dk_54 4 (dk_at dksX0_owl_2 0 rfl rfl)
theorem dX0_owl_50 : decode cX0_owl 50 = .ok (.aload_n 0, 1) := dk_42 (dk_at dksX0_owl_2 2 rfl rfl)
theorem dX0_owl_51 : decode cX0_owl 51 = .ok (.getfield 71, 3) := dk_180 0 71 (dk_at dksX0_owl_2 3 rfl rfl)
theorem dX0_owl_54 : decode cX0_owl 54 = .ok (.getfield 184, 3) := dk_180 0 184 (dk_at dksX0_owl_2 6 rfl rfl)
theorem dX0_owl_57 : decode cX0_owl 57 = .ok (.iload_n 1, 1) := dk_27 (dk_at dksX0_owl_2 9 rfl rfl)
theorem dX0_owl_58 : decode cX0_owl 58 = .ok (.iload_n 2, 1) := dk_28 (dk_at dksX0_owl_2 10 rfl rfl)
theorem dX0_owl_59 : decode cX0_owl 59 = .ok (.iastore, 1) := dk_79 (dk_at dksX0_owl_2 11 rfl rfl)
theorem dX0_owl_60 : decode cX0_owl 60 = .ok (.iload 4, 2) := dk_21 4 (dk_at dksX0_owl_2 12 rfl rfl)
theorem dX0_owl_62 : decode cX0_owl 62 = .ok (.ireturn, 1) := dk_172 (dk_at dksX0_owl_2 14 rfl rfl)
abbrev cX0_told : ByteArray := prog_1_method_30_code
def yX0_told : MethodName := ⟨RX0, "told", "(I)I"⟩
def dkwX0_told_4 : List UInt8 := [182, 0, 124, 172]
abbrev dktX0_told_4 : List UInt8 := dkwX0_told_4 ++ []
def dkwX0_told_3 : List UInt8 := [42, 180, 0, 71, 180, 0, 184, 3, 46, 172, 42, 180, 0, 71, 180, 0, 184, 4, 46, 172, 42, 3]
abbrev dktX0_told_3 : List UInt8 := dkwX0_told_3 ++ dktX0_told_4
def dkwX0_told_2 : List UInt8 := [42, 180, 0, 71, 182, 0, 187, 153, 0, 7, 4, 167, 0, 4, 3, 172, 42, 180, 0, 71, 182, 0, 191, 172]
abbrev dktX0_told_2 : List UInt8 := dkwX0_told_2 ++ dktX0_told_3
def dkwX0_told_1 : List UInt8 := [170, 0, 0, 0, 0, 0, 0, 88, 0, 0, 0, 5, 0, 0, 0, 11, 0, 0, 0, 44, 0, 0, 0, 60, 0, 0, 0, 88, 0, 0, 0, 88, 0, 0, 0, 88, 0, 0, 0, 68, 0, 0, 0, 78]
abbrev dktX0_told_1 : List UInt8 := dkwX0_told_1 ++ dktX0_told_2
def dkwX0_told_0 : List UInt8 := [27, 3, 7, 184, 0, 9, 153, 0, 13, 42, 180, 0, 71, 180, 0, 133, 27, 46, 172, 27]
abbrev dktX0_told_0 : List UInt8 := dkwX0_told_0 ++ dktX0_told_1
theorem dksX0_told_0 : cX0_told.data.toList.drop 0 = dktX0_told_0 := by decide +kernel
theorem dksX0_told_1 : cX0_told.data.toList.drop 20 = dktX0_told_1 := dk_seg dksX0_told_0 20 rfl rfl
theorem dksX0_told_2 : cX0_told.data.toList.drop 64 = dktX0_told_2 := dk_seg dksX0_told_1 44 rfl rfl
theorem dksX0_told_3 : cX0_told.data.toList.drop 88 = dktX0_told_3 := dk_seg dksX0_told_2 24 rfl rfl
theorem dksX0_told_4 : cX0_told.data.toList.drop 110 = dktX0_told_4 := dk_seg dksX0_told_3 22 rfl rfl
theorem dX0_told_0 : decode cX0_told 0 = .ok (.iload_n 1, 1) := dk_27 (dk_at dksX0_told_0 0 rfl rfl)
theorem dX0_told_1 : decode cX0_told 1 = .ok (.iconst 0, 1) := dk_3 (dk_at dksX0_told_0 1 rfl rfl)
theorem dX0_told_2 : decode cX0_told 2 = .ok (.iconst 4, 1) := dk_7 (dk_at dksX0_told_0 2 rfl rfl)
theorem dX0_told_3 : decode cX0_told 3 = .ok (.invokestatic 9, 3) := dk_184 0 9 (dk_at dksX0_told_0 3 rfl rfl)
theorem dX0_told_6 : decode cX0_told 6 = .ok (.ifCond .eq 13, 3) := dk_153 0 13 (dk_at dksX0_told_0 6 rfl rfl)
theorem dX0_told_9 : decode cX0_told 9 = .ok (.aload_n 0, 1) := dk_42 (dk_at dksX0_told_0 9 rfl rfl)
theorem dX0_told_10 : decode cX0_told 10 = .ok (.getfield 71, 3) := dk_180 0 71 (dk_at dksX0_told_0 10 rfl rfl)
theorem dX0_told_13 : decode cX0_told 13 = .ok (.getfield 133, 3) := dk_180 0 133 (dk_at dksX0_told_0 13 rfl rfl)
theorem dX0_told_16 : decode cX0_told 16 = .ok (.iload_n 1, 1) := dk_27 (dk_at dksX0_told_0 16 rfl rfl)
theorem dX0_told_17 : decode cX0_told 17 = .ok (.iaload, 1) := dk_46 (dk_at dksX0_told_0 17 rfl rfl)
theorem dX0_told_18 : decode cX0_told 18 = .ok (.ireturn, 1) := dk_172 (dk_at dksX0_told_0 18 rfl rfl)
theorem dX0_told_19 : decode cX0_told 19 = .ok (.iload_n 1, 1) := dk_27 (dk_at dksX0_told_0 19 rfl rfl)
theorem dX0_told_20 : decode cX0_told 20 = .ok (.tableswitch 88 5 11 #[44, 60, 88, 88, 88, 68, 78], 44) := by decide +kernel
theorem dX0_told_64 : decode cX0_told 64 = .ok (.aload_n 0, 1) := dk_42 (dk_at dksX0_told_2 0 rfl rfl)
theorem dX0_told_65 : decode cX0_told 65 = .ok (.getfield 71, 3) := dk_180 0 71 (dk_at dksX0_told_2 1 rfl rfl)
theorem dX0_told_68 : decode cX0_told 68 = .ok (.invokevirtual 187, 3) := dk_182 0 187 (dk_at dksX0_told_2 4 rfl rfl)
theorem dX0_told_71 : decode cX0_told 71 = .ok (.ifCond .eq 7, 3) := dk_153 0 7 (dk_at dksX0_told_2 7 rfl rfl)
theorem dX0_told_74 : decode cX0_told 74 = .ok (.iconst 1, 1) := dk_4 (dk_at dksX0_told_2 10 rfl rfl)
theorem dX0_told_75 : decode cX0_told 75 = .ok (.goto 4, 3) := dk_167 0 4 (dk_at dksX0_told_2 11 rfl rfl)
theorem dX0_told_78 : decode cX0_told 78 = .ok (.iconst 0, 1) := dk_3 (dk_at dksX0_told_2 14 rfl rfl)
theorem dX0_told_79 : decode cX0_told 79 = .ok (.ireturn, 1) := dk_172 (dk_at dksX0_told_2 15 rfl rfl)
theorem dX0_told_80 : decode cX0_told 80 = .ok (.aload_n 0, 1) := dk_42 (dk_at dksX0_told_2 16 rfl rfl)
theorem dX0_told_81 : decode cX0_told 81 = .ok (.getfield 71, 3) := dk_180 0 71 (dk_at dksX0_told_2 17 rfl rfl)
theorem dX0_told_84 : decode cX0_told 84 = .ok (.invokevirtual 191, 3) := dk_182 0 191 (dk_at dksX0_told_2 20 rfl rfl)
theorem dX0_told_87 : decode cX0_told 87 = .ok (.ireturn, 1) := dk_172 (dk_at dksX0_told_2 23 rfl rfl)
theorem dX0_told_88 : decode cX0_told 88 = .ok (.aload_n 0, 1) := dk_42 (dk_at dksX0_told_3 0 rfl rfl)
theorem dX0_told_89 : decode cX0_told 89 = .ok (.getfield 71, 3) := dk_180 0 71 (dk_at dksX0_told_3 1 rfl rfl)
theorem dX0_told_92 : decode cX0_told 92 = .ok (.getfield 184, 3) := dk_180 0 184 (dk_at dksX0_told_3 4 rfl rfl)
theorem dX0_told_95 : decode cX0_told 95 = .ok (.iconst 0, 1) := dk_3 (dk_at dksX0_told_3 7 rfl rfl)
theorem dX0_told_96 : decode cX0_told 96 = .ok (.iaload, 1) := dk_46 (dk_at dksX0_told_3 8 rfl rfl)
theorem dX0_told_97 : decode cX0_told 97 = .ok (.ireturn, 1) := dk_172 (dk_at dksX0_told_3 9 rfl rfl)
theorem dX0_told_98 : decode cX0_told 98 = .ok (.aload_n 0, 1) := dk_42 (dk_at dksX0_told_3 10 rfl rfl)
theorem dX0_told_99 : decode cX0_told 99 = .ok (.getfield 71, 3) := dk_180 0 71 (dk_at dksX0_told_3 11 rfl rfl)
theorem dX0_told_102 : decode cX0_told 102 = .ok (.getfield 184, 3) := dk_180 0 184 (dk_at dksX0_told_3 14 rfl rfl)
theorem dX0_told_105 : decode cX0_told 105 = .ok (.iconst 1, 1) := dk_4 (dk_at dksX0_told_3 17 rfl rfl)
theorem dX0_told_106 : decode cX0_told 106 = .ok (.iaload, 1) := dk_46 (dk_at dksX0_told_3 18 rfl rfl)
theorem dX0_told_107 : decode cX0_told 107 = .ok (.ireturn, 1) := dk_172 (dk_at dksX0_told_3 19 rfl rfl)
theorem dX0_told_108 : decode cX0_told 108 = .ok (.aload_n 0, 1) := dk_42 (dk_at dksX0_told_3 20 rfl rfl)
theorem dX0_told_109 : decode cX0_told 109 = .ok (.iconst 0, 1) := dk_3 (dk_at dksX0_told_3 21 rfl rfl)
theorem dX0_told_110 : decode cX0_told 110 = .ok (.invokevirtual 124, 3) := dk_182 0 124 (dk_at dksX0_told_4 0 rfl rfl)
theorem dX0_told_113 : decode cX0_told 113 = .ok (.ireturn, 1) := dk_172 (dk_at dksX0_told_4 3 rfl rfl)
abbrev cX0_strike : ByteArray := prog_1_method_31_code
def yX0_strike : MethodName := ⟨RX0, "strike", "(II)I"⟩
def dkwX0_strike_2 : List UInt8 := [180, 0, 71, 180, 0, 122, 4, 100, 172]
abbrev dktX0_strike_2 : List UInt8 := dkwX0_strike_2 ++ []
def dkwX0_strike_1 : List UInt8 := [180, 0, 122, 16, 8, 160, 0, 9, 42, 4, 182, 0, 124, 172, 42, 180, 0, 71, 27, 28, 182, 0, 194, 42]
abbrev dktX0_strike_1 : List UInt8 := dkwX0_strike_1 ++ dktX0_strike_2
def dkwX0_strike_0 : List UInt8 := [27, 184, 0, 13, 153, 0, 10, 28, 184, 0, 17, 154, 0, 9, 42, 3, 182, 0, 124, 172, 42, 180, 0, 71]
abbrev dktX0_strike_0 : List UInt8 := dkwX0_strike_0 ++ dktX0_strike_1
theorem dksX0_strike_0 : cX0_strike.data.toList.drop 0 = dktX0_strike_0 := by decide +kernel
theorem dksX0_strike_1 : cX0_strike.data.toList.drop 24 = dktX0_strike_1 := dk_seg dksX0_strike_0 24 rfl rfl
theorem dksX0_strike_2 : cX0_strike.data.toList.drop 48 = dktX0_strike_2 := dk_seg dksX0_strike_1 24 rfl rfl
theorem dX0_strike_0 : decode cX0_strike 0 = .ok (.iload_n 1, 1) := dk_27 (dk_at dksX0_strike_0 0 rfl rfl)
theorem dX0_strike_1 : decode cX0_strike 1 = .ok (.invokestatic 13, 3) := dk_184 0 13 (dk_at dksX0_strike_0 1 rfl rfl)
theorem dX0_strike_4 : decode cX0_strike 4 = .ok (.ifCond .eq 10, 3) := dk_153 0 10 (dk_at dksX0_strike_0 4 rfl rfl)
theorem dX0_strike_7 : decode cX0_strike 7 = .ok (.iload_n 2, 1) := dk_28 (dk_at dksX0_strike_0 7 rfl rfl)
theorem dX0_strike_8 : decode cX0_strike 8 = .ok (.invokestatic 17, 3) := dk_184 0 17 (dk_at dksX0_strike_0 8 rfl rfl)
theorem dX0_strike_11 : decode cX0_strike 11 = .ok (.ifCond .ne 9, 3) := dk_154 0 9 (dk_at dksX0_strike_0 11 rfl rfl)
theorem dX0_strike_14 : decode cX0_strike 14 = .ok (.aload_n 0, 1) := dk_42 (dk_at dksX0_strike_0 14 rfl rfl)
theorem dX0_strike_15 : decode cX0_strike 15 = .ok (.iconst 0, 1) := dk_3 (dk_at dksX0_strike_0 15 rfl rfl)
theorem dX0_strike_16 : decode cX0_strike 16 = .ok (.invokevirtual 124, 3) := dk_182 0 124 (dk_at dksX0_strike_0 16 rfl rfl)
theorem dX0_strike_19 : decode cX0_strike 19 = .ok (.ireturn, 1) := dk_172 (dk_at dksX0_strike_0 19 rfl rfl)
theorem dX0_strike_20 : decode cX0_strike 20 = .ok (.aload_n 0, 1) := dk_42 (dk_at dksX0_strike_0 20 rfl rfl)
theorem dX0_strike_21 : decode cX0_strike 21 = .ok (.getfield 71, 3) := dk_180 0 71 (dk_at dksX0_strike_0 21 rfl rfl)
theorem dX0_strike_24 : decode cX0_strike 24 = .ok (.getfield 122, 3) := dk_180 0 122 (dk_at dksX0_strike_1 0 rfl rfl)
theorem dX0_strike_27 : decode cX0_strike 27 = .ok (.bipush 8, 2) := dk_16 8 (dk_at dksX0_strike_1 3 rfl rfl)
theorem dX0_strike_29 : decode cX0_strike 29 = .ok (.if_icmp .ne 9, 3) := dk_160 0 9 (dk_at dksX0_strike_1 5 rfl rfl)
theorem dX0_strike_32 : decode cX0_strike 32 = .ok (.aload_n 0, 1) := dk_42 (dk_at dksX0_strike_1 8 rfl rfl)
theorem dX0_strike_33 : decode cX0_strike 33 = .ok (.iconst 1, 1) := dk_4 (dk_at dksX0_strike_1 9 rfl rfl)
theorem dX0_strike_34 : decode cX0_strike 34 = .ok (.invokevirtual 124, 3) := dk_182 0 124 (dk_at dksX0_strike_1 10 rfl rfl)
theorem dX0_strike_37 : decode cX0_strike 37 = .ok (.ireturn, 1) := dk_172 (dk_at dksX0_strike_1 13 rfl rfl)
theorem dX0_strike_38 : decode cX0_strike 38 = .ok (.aload_n 0, 1) := dk_42 (dk_at dksX0_strike_1 14 rfl rfl)
theorem dX0_strike_39 : decode cX0_strike 39 = .ok (.getfield 71, 3) := dk_180 0 71 (dk_at dksX0_strike_1 15 rfl rfl)
theorem dX0_strike_42 : decode cX0_strike 42 = .ok (.iload_n 1, 1) := dk_27 (dk_at dksX0_strike_1 18 rfl rfl)
theorem dX0_strike_43 : decode cX0_strike 43 = .ok (.iload_n 2, 1) := dk_28 (dk_at dksX0_strike_1 19 rfl rfl)
theorem dX0_strike_44 : decode cX0_strike 44 = .ok (.invokevirtual 194, 3) := dk_182 0 194 (dk_at dksX0_strike_1 20 rfl rfl)
theorem dX0_strike_47 : decode cX0_strike 47 = .ok (.aload_n 0, 1) := dk_42 (dk_at dksX0_strike_1 23 rfl rfl)
theorem dX0_strike_48 : decode cX0_strike 48 = .ok (.getfield 71, 3) := dk_180 0 71 (dk_at dksX0_strike_2 0 rfl rfl)
theorem dX0_strike_51 : decode cX0_strike 51 = .ok (.getfield 122, 3) := dk_180 0 122 (dk_at dksX0_strike_2 3 rfl rfl)
theorem dX0_strike_54 : decode cX0_strike 54 = .ok (.iconst 1, 1) := dk_4 (dk_at dksX0_strike_2 6 rfl rfl)
theorem dX0_strike_55 : decode cX0_strike 55 = .ok (.isub, 1) := dk_100 (dk_at dksX0_strike_2 7 rfl rfl)
theorem dX0_strike_56 : decode cX0_strike 56 = .ok (.ireturn, 1) := dk_172 (dk_at dksX0_strike_2 8 rfl rfl)
abbrev cX0_isKind : ByteArray := prog_1_method_6_code
def yX0_isKind : MethodName := ⟨RX0, "isKind", "(I)Z"⟩
def dkwX0_isKind_0 : List UInt8 := [26, 3, 16, 6, 184, 0, 9, 172]
abbrev dktX0_isKind_0 : List UInt8 := dkwX0_isKind_0 ++ []
theorem dksX0_isKind_0 : cX0_isKind.data.toList.drop 0 = dktX0_isKind_0 := by decide +kernel
theorem dX0_isKind_0 : decode cX0_isKind 0 = .ok (.iload_n 0, 1) := dk_26 (dk_at dksX0_isKind_0 0 rfl rfl)
theorem dX0_isKind_1 : decode cX0_isKind 1 = .ok (.iconst 0, 1) := dk_3 (dk_at dksX0_isKind_0 1 rfl rfl)
theorem dX0_isKind_2 : decode cX0_isKind 2 = .ok (.bipush 6, 2) := dk_16 6 (dk_at dksX0_isKind_0 2 rfl rfl)
theorem dX0_isKind_4 : decode cX0_isKind 4 = .ok (.invokestatic 9, 3) := dk_184 0 9 (dk_at dksX0_isKind_0 4 rfl rfl)
theorem dX0_isKind_7 : decode cX0_isKind 7 = .ok (.ireturn, 1) := dk_172 (dk_at dksX0_isKind_0 7 rfl rfl)
abbrev cX0_of : ByteArray := prog_1_method_32_code
def yX0_of : MethodName := ⟨RX0, "of", "(II)I"⟩
def dkwX0_of_4 : List UInt8 := [182, 0, 168, 153, 0, 7, 4, 167, 0, 4, 3, 172, 42, 3, 182, 0, 124, 172]
abbrev dktX0_of_4 : List UInt8 := dkwX0_of_4 ++ []
def dkwX0_of_3 : List UInt8 := [182, 0, 159, 172, 42, 27, 182, 0, 129, 182, 0, 204, 172, 42, 27, 182, 0, 129, 182, 0, 205, 172, 42, 27]
abbrev dktX0_of_3 : List UInt8 := dkwX0_of_3 ++ dktX0_of_4
def dkwX0_of_2 : List UInt8 := [42, 27, 182, 0, 129, 182, 0, 201, 172, 42, 180, 0, 71, 180, 0, 109, 28, 50, 27, 46, 172, 42, 27]
abbrev dktX0_of_2 : List UInt8 := dkwX0_of_2 ++ dktX0_of_3
def dkwX0_of_1 : List UInt8 := [170, 0, 0, 0, 104, 0, 0, 0, 0, 0, 0, 0, 7, 0, 0, 0, 45, 0, 0, 0, 54, 0, 0, 0, 54, 0, 0, 0, 54, 0, 0, 0, 66, 0, 0, 0, 72, 0, 0, 0, 81, 0, 0, 0, 90]
abbrev dktX0_of_1 : List UInt8 := dkwX0_of_1 ++ dktX0_of_2
def dkwX0_of_0 : List UInt8 := [42, 27, 182, 0, 198, 154, 0, 9, 42, 3, 182, 0, 124, 172, 28]
abbrev dktX0_of_0 : List UInt8 := dkwX0_of_0 ++ dktX0_of_1
theorem dksX0_of_0 : cX0_of.data.toList.drop 0 = dktX0_of_0 := by decide +kernel
theorem dksX0_of_1 : cX0_of.data.toList.drop 15 = dktX0_of_1 := dk_seg dksX0_of_0 15 rfl rfl
theorem dksX0_of_2 : cX0_of.data.toList.drop 60 = dktX0_of_2 := dk_seg dksX0_of_1 45 rfl rfl
theorem dksX0_of_3 : cX0_of.data.toList.drop 83 = dktX0_of_3 := dk_seg dksX0_of_2 23 rfl rfl
theorem dksX0_of_4 : cX0_of.data.toList.drop 107 = dktX0_of_4 := dk_seg dksX0_of_3 24 rfl rfl
theorem dX0_of_0 : decode cX0_of 0 = .ok (.aload_n 0, 1) := dk_42 (dk_at dksX0_of_0 0 rfl rfl)
theorem dX0_of_1 : decode cX0_of 1 = .ok (.iload_n 1, 1) := dk_27 (dk_at dksX0_of_0 1 rfl rfl)
theorem dX0_of_2 : decode cX0_of 2 = .ok (.invokevirtual 198, 3) := dk_182 0 198 (dk_at dksX0_of_0 2 rfl rfl)
theorem dX0_of_5 : decode cX0_of 5 = .ok (.ifCond .ne 9, 3) := dk_154 0 9 (dk_at dksX0_of_0 5 rfl rfl)
theorem dX0_of_8 : decode cX0_of 8 = .ok (.aload_n 0, 1) := dk_42 (dk_at dksX0_of_0 8 rfl rfl)
theorem dX0_of_9 : decode cX0_of 9 = .ok (.iconst 0, 1) := dk_3 (dk_at dksX0_of_0 9 rfl rfl)
theorem dX0_of_10 : decode cX0_of 10 = .ok (.invokevirtual 124, 3) := dk_182 0 124 (dk_at dksX0_of_0 10 rfl rfl)
theorem dX0_of_13 : decode cX0_of 13 = .ok (.ireturn, 1) := dk_172 (dk_at dksX0_of_0 13 rfl rfl)
theorem dX0_of_14 : decode cX0_of 14 = .ok (.iload_n 2, 1) := dk_28 (dk_at dksX0_of_0 14 rfl rfl)
theorem dX0_of_15 : decode cX0_of 15 = .ok (.tableswitch 104 0 7 #[45, 54, 54, 54, 66, 72, 81, 90], 45) := by decide +kernel
theorem dX0_of_60 : decode cX0_of 60 = .ok (.aload_n 0, 1) := dk_42 (dk_at dksX0_of_2 0 rfl rfl)
theorem dX0_of_61 : decode cX0_of 61 = .ok (.iload_n 1, 1) := dk_27 (dk_at dksX0_of_2 1 rfl rfl)
theorem dX0_of_62 : decode cX0_of 62 = .ok (.invokevirtual 129, 3) := dk_182 0 129 (dk_at dksX0_of_2 2 rfl rfl)
theorem dX0_of_65 : decode cX0_of 65 = .ok (.invokevirtual 201, 3) := dk_182 0 201 (dk_at dksX0_of_2 5 rfl rfl)
theorem dX0_of_68 : decode cX0_of 68 = .ok (.ireturn, 1) := dk_172 (dk_at dksX0_of_2 8 rfl rfl)
theorem dX0_of_69 : decode cX0_of 69 = .ok (.aload_n 0, 1) := dk_42 (dk_at dksX0_of_2 9 rfl rfl)
theorem dX0_of_70 : decode cX0_of 70 = .ok (.getfield 71, 3) := dk_180 0 71 (dk_at dksX0_of_2 10 rfl rfl)
theorem dX0_of_73 : decode cX0_of 73 = .ok (.getfield 109, 3) := dk_180 0 109 (dk_at dksX0_of_2 13 rfl rfl)
theorem dX0_of_76 : decode cX0_of 76 = .ok (.iload_n 2, 1) := dk_28 (dk_at dksX0_of_2 16 rfl rfl)
theorem dX0_of_77 : decode cX0_of 77 = .ok (.aaload, 1) := dk_50 (dk_at dksX0_of_2 17 rfl rfl)
theorem dX0_of_78 : decode cX0_of 78 = .ok (.iload_n 1, 1) := dk_27 (dk_at dksX0_of_2 18 rfl rfl)
theorem dX0_of_79 : decode cX0_of 79 = .ok (.iaload, 1) := dk_46 (dk_at dksX0_of_2 19 rfl rfl)
theorem dX0_of_80 : decode cX0_of 80 = .ok (.ireturn, 1) := dk_172 (dk_at dksX0_of_2 20 rfl rfl)
theorem dX0_of_81 : decode cX0_of 81 = .ok (.aload_n 0, 1) := dk_42 (dk_at dksX0_of_2 21 rfl rfl)
theorem dX0_of_82 : decode cX0_of 82 = .ok (.iload_n 1, 1) := dk_27 (dk_at dksX0_of_2 22 rfl rfl)
theorem dX0_of_83 : decode cX0_of 83 = .ok (.invokevirtual 159, 3) := dk_182 0 159 (dk_at dksX0_of_3 0 rfl rfl)
theorem dX0_of_86 : decode cX0_of 86 = .ok (.ireturn, 1) := dk_172 (dk_at dksX0_of_3 3 rfl rfl)
theorem dX0_of_87 : decode cX0_of 87 = .ok (.aload_n 0, 1) := dk_42 (dk_at dksX0_of_3 4 rfl rfl)
theorem dX0_of_88 : decode cX0_of 88 = .ok (.iload_n 1, 1) := dk_27 (dk_at dksX0_of_3 5 rfl rfl)
theorem dX0_of_89 : decode cX0_of 89 = .ok (.invokevirtual 129, 3) := dk_182 0 129 (dk_at dksX0_of_3 6 rfl rfl)
theorem dX0_of_92 : decode cX0_of 92 = .ok (.invokevirtual 204, 3) := dk_182 0 204 (dk_at dksX0_of_3 9 rfl rfl)
theorem dX0_of_95 : decode cX0_of 95 = .ok (.ireturn, 1) := dk_172 (dk_at dksX0_of_3 12 rfl rfl)
theorem dX0_of_96 : decode cX0_of 96 = .ok (.aload_n 0, 1) := dk_42 (dk_at dksX0_of_3 13 rfl rfl)
theorem dX0_of_97 : decode cX0_of 97 = .ok (.iload_n 1, 1) := dk_27 (dk_at dksX0_of_3 14 rfl rfl)
theorem dX0_of_98 : decode cX0_of 98 = .ok (.invokevirtual 129, 3) := dk_182 0 129 (dk_at dksX0_of_3 15 rfl rfl)
theorem dX0_of_101 : decode cX0_of 101 = .ok (.invokevirtual 205, 3) := dk_182 0 205 (dk_at dksX0_of_3 18 rfl rfl)
theorem dX0_of_104 : decode cX0_of 104 = .ok (.ireturn, 1) := dk_172 (dk_at dksX0_of_3 21 rfl rfl)
theorem dX0_of_105 : decode cX0_of 105 = .ok (.aload_n 0, 1) := dk_42 (dk_at dksX0_of_3 22 rfl rfl)
theorem dX0_of_106 : decode cX0_of 106 = .ok (.iload_n 1, 1) := dk_27 (dk_at dksX0_of_3 23 rfl rfl)
theorem dX0_of_107 : decode cX0_of 107 = .ok (.invokevirtual 168, 3) := dk_182 0 168 (dk_at dksX0_of_4 0 rfl rfl)
theorem dX0_of_110 : decode cX0_of 110 = .ok (.ifCond .eq 7, 3) := dk_153 0 7 (dk_at dksX0_of_4 3 rfl rfl)
theorem dX0_of_113 : decode cX0_of 113 = .ok (.iconst 1, 1) := dk_4 (dk_at dksX0_of_4 6 rfl rfl)
theorem dX0_of_114 : decode cX0_of 114 = .ok (.goto 4, 3) := dk_167 0 4 (dk_at dksX0_of_4 7 rfl rfl)
theorem dX0_of_117 : decode cX0_of 117 = .ok (.iconst 0, 1) := dk_3 (dk_at dksX0_of_4 10 rfl rfl)
theorem dX0_of_118 : decode cX0_of 118 = .ok (.ireturn, 1) := dk_172 (dk_at dksX0_of_4 11 rfl rfl)
theorem dX0_of_119 : decode cX0_of 119 = .ok (.aload_n 0, 1) := dk_42 (dk_at dksX0_of_4 12 rfl rfl)
theorem dX0_of_120 : decode cX0_of 120 = .ok (.iconst 0, 1) := dk_3 (dk_at dksX0_of_4 13 rfl rfl)
theorem dX0_of_121 : decode cX0_of 121 = .ok (.invokevirtual 124, 3) := dk_182 0 124 (dk_at dksX0_of_4 14 rfl rfl)
theorem dX0_of_124 : decode cX0_of 124 = .ok (.ireturn, 1) := dk_172 (dk_at dksX0_of_4 17 rfl rfl)
abbrev cX0_isStrike : ByteArray := prog_1_method_18_code
def yX0_isStrike : MethodName := ⟨RX0, "isStrike", "(I)Z"⟩
def dkwX0_isStrike_0 : List UInt8 := [27, 3, 42, 180, 0, 71, 180, 0, 122, 4, 100, 184, 0, 9, 172]
abbrev dktX0_isStrike_0 : List UInt8 := dkwX0_isStrike_0 ++ []
theorem dksX0_isStrike_0 : cX0_isStrike.data.toList.drop 0 = dktX0_isStrike_0 := by decide +kernel
theorem dX0_isStrike_0 : decode cX0_isStrike 0 = .ok (.iload_n 1, 1) := dk_27 (dk_at dksX0_isStrike_0 0 rfl rfl)
theorem dX0_isStrike_1 : decode cX0_isStrike 1 = .ok (.iconst 0, 1) := dk_3 (dk_at dksX0_isStrike_0 1 rfl rfl)
theorem dX0_isStrike_2 : decode cX0_isStrike 2 = .ok (.aload_n 0, 1) := dk_42 (dk_at dksX0_isStrike_0 2 rfl rfl)
theorem dX0_isStrike_3 : decode cX0_isStrike 3 = .ok (.getfield 71, 3) := dk_180 0 71 (dk_at dksX0_isStrike_0 3 rfl rfl)
theorem dX0_isStrike_6 : decode cX0_isStrike 6 = .ok (.getfield 122, 3) := dk_180 0 122 (dk_at dksX0_isStrike_0 6 rfl rfl)
theorem dX0_isStrike_9 : decode cX0_isStrike 9 = .ok (.iconst 1, 1) := dk_4 (dk_at dksX0_isStrike_0 9 rfl rfl)
theorem dX0_isStrike_10 : decode cX0_isStrike 10 = .ok (.isub, 1) := dk_100 (dk_at dksX0_isStrike_0 10 rfl rfl)
theorem dX0_isStrike_11 : decode cX0_isStrike 11 = .ok (.invokestatic 9, 3) := dk_184 0 9 (dk_at dksX0_isStrike_0 11 rfl rfl)
theorem dX0_isStrike_14 : decode cX0_isStrike 14 = .ok (.ireturn, 1) := dk_172 (dk_at dksX0_isStrike_0 14 rfl rfl)
abbrev cX0_strikeOf : ByteArray := prog_1_method_14_code
def yX0_strikeOf : MethodName := ⟨RX0, "strikeOf", "(I)LOwlEars$Strike;"⟩
def dkwX0_strikeOf_1 : List UInt8 := [192, 0, 46, 176]
abbrev dktX0_strikeOf_1 : List UInt8 := dkwX0_strikeOf_1 ++ []
def dkwX0_strikeOf_0 : List UInt8 := [42, 180, 0, 86, 16, 8, 42, 180, 0, 71, 180, 0, 109, 3, 50, 27, 46, 104, 27, 96, 50, 180, 0, 105]
abbrev dktX0_strikeOf_0 : List UInt8 := dkwX0_strikeOf_0 ++ dktX0_strikeOf_1
theorem dksX0_strikeOf_0 : cX0_strikeOf.data.toList.drop 0 = dktX0_strikeOf_0 := by decide +kernel
theorem dksX0_strikeOf_1 : cX0_strikeOf.data.toList.drop 24 = dktX0_strikeOf_1 := dk_seg dksX0_strikeOf_0 24 rfl rfl
theorem dX0_strikeOf_0 : decode cX0_strikeOf 0 = .ok (.aload_n 0, 1) := dk_42 (dk_at dksX0_strikeOf_0 0 rfl rfl)
theorem dX0_strikeOf_1 : decode cX0_strikeOf 1 = .ok (.getfield 86, 3) := dk_180 0 86 (dk_at dksX0_strikeOf_0 1 rfl rfl)
theorem dX0_strikeOf_4 : decode cX0_strikeOf 4 = .ok (.bipush 8, 2) := dk_16 8 (dk_at dksX0_strikeOf_0 4 rfl rfl)
theorem dX0_strikeOf_6 : decode cX0_strikeOf 6 = .ok (.aload_n 0, 1) := dk_42 (dk_at dksX0_strikeOf_0 6 rfl rfl)
theorem dX0_strikeOf_7 : decode cX0_strikeOf 7 = .ok (.getfield 71, 3) := dk_180 0 71 (dk_at dksX0_strikeOf_0 7 rfl rfl)
theorem dX0_strikeOf_10 : decode cX0_strikeOf 10 = .ok (.getfield 109, 3) := dk_180 0 109 (dk_at dksX0_strikeOf_0 10 rfl rfl)
theorem dX0_strikeOf_13 : decode cX0_strikeOf 13 = .ok (.iconst 0, 1) := dk_3 (dk_at dksX0_strikeOf_0 13 rfl rfl)
theorem dX0_strikeOf_14 : decode cX0_strikeOf 14 = .ok (.aaload, 1) := dk_50 (dk_at dksX0_strikeOf_0 14 rfl rfl)
theorem dX0_strikeOf_15 : decode cX0_strikeOf 15 = .ok (.iload_n 1, 1) := dk_27 (dk_at dksX0_strikeOf_0 15 rfl rfl)
theorem dX0_strikeOf_16 : decode cX0_strikeOf 16 = .ok (.iaload, 1) := dk_46 (dk_at dksX0_strikeOf_0 16 rfl rfl)
theorem dX0_strikeOf_17 : decode cX0_strikeOf 17 = .ok (.imul, 1) := dk_104 (dk_at dksX0_strikeOf_0 17 rfl rfl)
theorem dX0_strikeOf_18 : decode cX0_strikeOf 18 = .ok (.iload_n 1, 1) := dk_27 (dk_at dksX0_strikeOf_0 18 rfl rfl)
theorem dX0_strikeOf_19 : decode cX0_strikeOf 19 = .ok (.iadd, 1) := dk_96 (dk_at dksX0_strikeOf_0 19 rfl rfl)
theorem dX0_strikeOf_20 : decode cX0_strikeOf 20 = .ok (.aaload, 1) := dk_50 (dk_at dksX0_strikeOf_0 20 rfl rfl)
theorem dX0_strikeOf_21 : decode cX0_strikeOf 21 = .ok (.getfield 105, 3) := dk_180 0 105 (dk_at dksX0_strikeOf_0 21 rfl rfl)
theorem dX0_strikeOf_24 : decode cX0_strikeOf 24 = .ok (.checkcast 46, 3) := dk_192 0 46 (dk_at dksX0_strikeOf_1 0 rfl rfl)
theorem dX0_strikeOf_27 : decode cX0_strikeOf 27 = .ok (.areturn, 1) := dk_176 (dk_at dksX0_strikeOf_1 3 rfl rfl)
abbrev cX0_takesOf : ByteArray := prog_1_method_22_code
def yX0_takesOf : MethodName := ⟨RX0, "takesOf", "(I)I"⟩
def dkwX0_takesOf_0 : List UInt8 := [42, 27, 182, 0, 129, 77, 44, 185, 0, 152, 1, 0, 172]
abbrev dktX0_takesOf_0 : List UInt8 := dkwX0_takesOf_0 ++ []
theorem dksX0_takesOf_0 : cX0_takesOf.data.toList.drop 0 = dktX0_takesOf_0 := by decide +kernel
theorem dX0_takesOf_0 : decode cX0_takesOf 0 = .ok (.aload_n 0, 1) := dk_42 (dk_at dksX0_takesOf_0 0 rfl rfl)
theorem dX0_takesOf_1 : decode cX0_takesOf 1 = .ok (.iload_n 1, 1) := dk_27 (dk_at dksX0_takesOf_0 1 rfl rfl)
theorem dX0_takesOf_2 : decode cX0_takesOf 2 = .ok (.invokevirtual 129, 3) := dk_182 0 129 (dk_at dksX0_takesOf_0 2 rfl rfl)
theorem dX0_takesOf_5 : decode cX0_takesOf 5 = .ok (.astore_n 2, 1) := dk_77 (dk_at dksX0_takesOf_0 5 rfl rfl)
theorem dX0_takesOf_6 : decode cX0_takesOf 6 = .ok (.aload_n 2, 1) := dk_44 (dk_at dksX0_takesOf_0 6 rfl rfl)
theorem dX0_takesOf_7 : decode cX0_takesOf 7 = .ok (.invokeinterface 152 1, 5) := by decide +kernel
theorem dX0_takesOf_12 : decode cX0_takesOf 12 = .ok (.ireturn, 1) := dk_172 (dk_at dksX0_takesOf_0 12 rfl rfl)
abbrev cX0_hasIt : ByteArray := prog_1_method_23_code
def yX0_hasIt : MethodName := ⟨RX0, "hasIt", "(I)Z"⟩
def dkwX0_hasIt_2 : List UInt8 := [180, 0, 78, 182, 0, 155, 45, 191]
abbrev dktX0_hasIt_2 : List UInt8 := dkwX0_hasIt_2 ++ []
def dkwX0_hasIt_1 : List UInt8 := [182, 0, 165, 61, 42, 180, 0, 71, 42, 180, 0, 78, 182, 0, 155, 28, 172, 78, 42, 180, 0, 71, 42]
abbrev dktX0_hasIt_1 : List UInt8 := dkwX0_hasIt_1 ++ dktX0_hasIt_2
def dkwX0_hasIt_0 : List UInt8 := [42, 180, 0, 78, 42, 180, 0, 71, 182, 0, 155, 42, 42, 27, 182, 0, 159, 182, 0, 162, 42, 27]
abbrev dktX0_hasIt_0 : List UInt8 := dkwX0_hasIt_0 ++ dktX0_hasIt_1
theorem dksX0_hasIt_0 : cX0_hasIt.data.toList.drop 0 = dktX0_hasIt_0 := by decide +kernel
theorem dksX0_hasIt_1 : cX0_hasIt.data.toList.drop 22 = dktX0_hasIt_1 := dk_seg dksX0_hasIt_0 22 rfl rfl
theorem dksX0_hasIt_2 : cX0_hasIt.data.toList.drop 45 = dktX0_hasIt_2 := dk_seg dksX0_hasIt_1 23 rfl rfl
theorem dX0_hasIt_0 : decode cX0_hasIt 0 = .ok (.aload_n 0, 1) := dk_42 (dk_at dksX0_hasIt_0 0 rfl rfl)
theorem dX0_hasIt_1 : decode cX0_hasIt 1 = .ok (.getfield 78, 3) := dk_180 0 78 (dk_at dksX0_hasIt_0 1 rfl rfl)
theorem dX0_hasIt_4 : decode cX0_hasIt 4 = .ok (.aload_n 0, 1) := dk_42 (dk_at dksX0_hasIt_0 4 rfl rfl)
theorem dX0_hasIt_5 : decode cX0_hasIt 5 = .ok (.getfield 71, 3) := dk_180 0 71 (dk_at dksX0_hasIt_0 5 rfl rfl)
theorem dX0_hasIt_8 : decode cX0_hasIt 8 = .ok (.invokevirtual 155, 3) := dk_182 0 155 (dk_at dksX0_hasIt_0 8 rfl rfl)
theorem dX0_hasIt_11 : decode cX0_hasIt 11 = .ok (.aload_n 0, 1) := dk_42 (dk_at dksX0_hasIt_0 11 rfl rfl)
theorem dX0_hasIt_12 : decode cX0_hasIt 12 = .ok (.aload_n 0, 1) := dk_42 (dk_at dksX0_hasIt_0 12 rfl rfl)
theorem dX0_hasIt_13 : decode cX0_hasIt 13 = .ok (.iload_n 1, 1) := dk_27 (dk_at dksX0_hasIt_0 13 rfl rfl)
theorem dX0_hasIt_14 : decode cX0_hasIt 14 = .ok (.invokevirtual 159, 3) := dk_182 0 159 (dk_at dksX0_hasIt_0 14 rfl rfl)
theorem dX0_hasIt_17 : decode cX0_hasIt 17 = .ok (.invokevirtual 162, 3) := dk_182 0 162 (dk_at dksX0_hasIt_0 17 rfl rfl)
theorem dX0_hasIt_20 : decode cX0_hasIt 20 = .ok (.aload_n 0, 1) := dk_42 (dk_at dksX0_hasIt_0 20 rfl rfl)
theorem dX0_hasIt_21 : decode cX0_hasIt 21 = .ok (.iload_n 1, 1) := dk_27 (dk_at dksX0_hasIt_0 21 rfl rfl)
theorem dX0_hasIt_22 : decode cX0_hasIt 22 = .ok (.invokevirtual 165, 3) := dk_182 0 165 (dk_at dksX0_hasIt_1 0 rfl rfl)
theorem dX0_hasIt_25 : decode cX0_hasIt 25 = .ok (.istore_n 2, 1) := dk_61 (dk_at dksX0_hasIt_1 3 rfl rfl)
theorem dX0_hasIt_26 : decode cX0_hasIt 26 = .ok (.aload_n 0, 1) := dk_42 (dk_at dksX0_hasIt_1 4 rfl rfl)
theorem dX0_hasIt_27 : decode cX0_hasIt 27 = .ok (.getfield 71, 3) := dk_180 0 71 (dk_at dksX0_hasIt_1 5 rfl rfl)
theorem dX0_hasIt_30 : decode cX0_hasIt 30 = .ok (.aload_n 0, 1) := dk_42 (dk_at dksX0_hasIt_1 8 rfl rfl)
theorem dX0_hasIt_31 : decode cX0_hasIt 31 = .ok (.getfield 78, 3) := dk_180 0 78 (dk_at dksX0_hasIt_1 9 rfl rfl)
theorem dX0_hasIt_34 : decode cX0_hasIt 34 = .ok (.invokevirtual 155, 3) := dk_182 0 155 (dk_at dksX0_hasIt_1 12 rfl rfl)
theorem dX0_hasIt_37 : decode cX0_hasIt 37 = .ok (.iload_n 2, 1) := dk_28 (dk_at dksX0_hasIt_1 15 rfl rfl)
theorem dX0_hasIt_38 : decode cX0_hasIt 38 = .ok (.ireturn, 1) := dk_172 (dk_at dksX0_hasIt_1 16 rfl rfl)
theorem dX0_hasIt_39 : decode cX0_hasIt 39 = .ok (.astore_n 3, 1) := dk_78 (dk_at dksX0_hasIt_1 17 rfl rfl)
theorem dX0_hasIt_40 : decode cX0_hasIt 40 = .ok (.aload_n 0, 1) := dk_42 (dk_at dksX0_hasIt_1 18 rfl rfl)
theorem dX0_hasIt_41 : decode cX0_hasIt 41 = .ok (.getfield 71, 3) := dk_180 0 71 (dk_at dksX0_hasIt_1 19 rfl rfl)
theorem dX0_hasIt_44 : decode cX0_hasIt 44 = .ok (.aload_n 0, 1) := dk_42 (dk_at dksX0_hasIt_1 22 rfl rfl)
theorem dX0_hasIt_45 : decode cX0_hasIt 45 = .ok (.getfield 78, 3) := dk_180 0 78 (dk_at dksX0_hasIt_2 0 rfl rfl)
theorem dX0_hasIt_48 : decode cX0_hasIt 48 = .ok (.invokevirtual 155, 3) := dk_182 0 155 (dk_at dksX0_hasIt_2 3 rfl rfl)
theorem dX0_hasIt_51 : decode cX0_hasIt 51 = .ok (.aload_n 3, 1) := dk_45 (dk_at dksX0_hasIt_2 6 rfl rfl)
theorem dX0_hasIt_52 : decode cX0_hasIt 52 = .ok (.athrow, 1) := dk_191 (dk_at dksX0_hasIt_2 7 rfl rfl)
abbrev cX0_passes : ByteArray := prog_1_method_20_code
def yX0_passes : MethodName := ⟨RX0, "passes", "(I)V"⟩
def dkwX0_passes_0 : List UInt8 := [3, 61, 28, 27, 162, 0, 16, 42, 180, 0, 71, 182, 0, 126, 132, 2, 1, 167, 255, 241, 177]
abbrev dktX0_passes_0 : List UInt8 := dkwX0_passes_0 ++ []
theorem dksX0_passes_0 : cX0_passes.data.toList.drop 0 = dktX0_passes_0 := by decide +kernel
theorem dX0_passes_0 : decode cX0_passes 0 = .ok (.iconst 0, 1) := dk_3 (dk_at dksX0_passes_0 0 rfl rfl)
theorem dX0_passes_1 : decode cX0_passes 1 = .ok (.istore_n 2, 1) := dk_61 (dk_at dksX0_passes_0 1 rfl rfl)
theorem dX0_passes_2 : decode cX0_passes 2 = .ok (.iload_n 2, 1) := dk_28 (dk_at dksX0_passes_0 2 rfl rfl)
theorem dX0_passes_3 : decode cX0_passes 3 = .ok (.iload_n 1, 1) := dk_27 (dk_at dksX0_passes_0 3 rfl rfl)
theorem dX0_passes_4 : decode cX0_passes 4 = .ok (.if_icmp .ge 16, 3) := dk_162 0 16 (dk_at dksX0_passes_0 4 rfl rfl)
theorem dX0_passes_7 : decode cX0_passes 7 = .ok (.aload_n 0, 1) := dk_42 (dk_at dksX0_passes_0 7 rfl rfl)
theorem dX0_passes_8 : decode cX0_passes 8 = .ok (.getfield 71, 3) := dk_180 0 71 (dk_at dksX0_passes_0 8 rfl rfl)
theorem dX0_passes_11 : decode cX0_passes 11 = .ok (.invokevirtual 126, 3) := dk_182 0 126 (dk_at dksX0_passes_0 11 rfl rfl)
theorem dX0_passes_14 : decode cX0_passes 14 = .ok (.iinc 2 1, 3) := dk_132 2 1 (dk_at dksX0_passes_0 14 rfl rfl)
theorem dX0_passes_17 : decode cX0_passes 17 = .ok (.goto (-15), 3) := dk_167 255 241 (dk_at dksX0_passes_0 17 rfl rfl)
theorem dX0_passes_20 : decode cX0_passes 20 = .ok (.return_, 1) := dk_177 (dk_at dksX0_passes_0 20 rfl rfl)
abbrev cX0_neighbour : ByteArray := prog_1_method_11_code
def yX0_neighbour : MethodName := ⟨RX0, "neighbour", "(II)I"⟩
def dkwX0_neighbour_4 : List UInt8 := [16, 6, 112, 154, 0, 7, 2, 167, 0, 6, 26, 4, 100, 172]
abbrev dktX0_neighbour_4 : List UInt8 := dkwX0_neighbour_4 ++ []
def dkwX0_neighbour_3 : List UInt8 := [167, 0, 6, 26, 4, 96, 172, 26, 16, 30, 161, 0, 7, 2, 167, 0, 7, 26, 16, 6, 96, 172, 26]
abbrev dktX0_neighbour_3 : List UInt8 := dkwX0_neighbour_3 ++ dktX0_neighbour_4
def dkwX0_neighbour_2 : List UInt8 := [26, 16, 6, 162, 0, 7, 2, 167, 0, 7, 26, 16, 6, 100, 172, 26, 16, 6, 112, 8, 160, 0, 7, 2]
abbrev dktX0_neighbour_2 : List UInt8 := dkwX0_neighbour_2 ++ dktX0_neighbour_3
def dkwX0_neighbour_1 : List UInt8 := [170, 0, 0, 0, 0, 0, 73, 0, 0, 0, 0, 0, 0, 0, 2, 0, 0, 0, 27, 0, 0, 0, 42, 0, 0, 0, 58]
abbrev dktX0_neighbour_1 : List UInt8 := dkwX0_neighbour_1 ++ dktX0_neighbour_2
def dkwX0_neighbour_0 : List UInt8 := [27]
abbrev dktX0_neighbour_0 : List UInt8 := dkwX0_neighbour_0 ++ dktX0_neighbour_1
theorem dksX0_neighbour_0 : cX0_neighbour.data.toList.drop 0 = dktX0_neighbour_0 := by decide +kernel
theorem dksX0_neighbour_1 : cX0_neighbour.data.toList.drop 1 = dktX0_neighbour_1 := dk_seg dksX0_neighbour_0 1 rfl rfl
theorem dksX0_neighbour_2 : cX0_neighbour.data.toList.drop 28 = dktX0_neighbour_2 := dk_seg dksX0_neighbour_1 27 rfl rfl
theorem dksX0_neighbour_3 : cX0_neighbour.data.toList.drop 52 = dktX0_neighbour_3 := dk_seg dksX0_neighbour_2 24 rfl rfl
theorem dksX0_neighbour_4 : cX0_neighbour.data.toList.drop 75 = dktX0_neighbour_4 := dk_seg dksX0_neighbour_3 23 rfl rfl
theorem dX0_neighbour_0 : decode cX0_neighbour 0 = .ok (.iload_n 1, 1) := dk_27 (dk_at dksX0_neighbour_0 0 rfl rfl)
theorem dX0_neighbour_1 : decode cX0_neighbour 1 = .ok (.tableswitch 73 0 2 #[27, 42, 58], 27) := by decide +kernel
theorem dX0_neighbour_28 : decode cX0_neighbour 28 = .ok (.iload_n 0, 1) := dk_26 (dk_at dksX0_neighbour_2 0 rfl rfl)
theorem dX0_neighbour_29 : decode cX0_neighbour 29 = .ok (.bipush 6, 2) := dk_16 6 (dk_at dksX0_neighbour_2 1 rfl rfl)
theorem dX0_neighbour_31 : decode cX0_neighbour 31 = .ok (.if_icmp .ge 7, 3) := dk_162 0 7 (dk_at dksX0_neighbour_2 3 rfl rfl)
theorem dX0_neighbour_34 : decode cX0_neighbour 34 = .ok (.iconst (-1), 1) := dk_2 (dk_at dksX0_neighbour_2 6 rfl rfl)
theorem dX0_neighbour_35 : decode cX0_neighbour 35 = .ok (.goto 7, 3) := dk_167 0 7 (dk_at dksX0_neighbour_2 7 rfl rfl)
theorem dX0_neighbour_38 : decode cX0_neighbour 38 = .ok (.iload_n 0, 1) := dk_26 (dk_at dksX0_neighbour_2 10 rfl rfl)
theorem dX0_neighbour_39 : decode cX0_neighbour 39 = .ok (.bipush 6, 2) := dk_16 6 (dk_at dksX0_neighbour_2 11 rfl rfl)
theorem dX0_neighbour_41 : decode cX0_neighbour 41 = .ok (.isub, 1) := dk_100 (dk_at dksX0_neighbour_2 13 rfl rfl)
theorem dX0_neighbour_42 : decode cX0_neighbour 42 = .ok (.ireturn, 1) := dk_172 (dk_at dksX0_neighbour_2 14 rfl rfl)
theorem dX0_neighbour_43 : decode cX0_neighbour 43 = .ok (.iload_n 0, 1) := dk_26 (dk_at dksX0_neighbour_2 15 rfl rfl)
theorem dX0_neighbour_44 : decode cX0_neighbour 44 = .ok (.bipush 6, 2) := dk_16 6 (dk_at dksX0_neighbour_2 16 rfl rfl)
theorem dX0_neighbour_46 : decode cX0_neighbour 46 = .ok (.irem, 1) := dk_112 (dk_at dksX0_neighbour_2 18 rfl rfl)
theorem dX0_neighbour_47 : decode cX0_neighbour 47 = .ok (.iconst 5, 1) := dk_8 (dk_at dksX0_neighbour_2 19 rfl rfl)
theorem dX0_neighbour_48 : decode cX0_neighbour 48 = .ok (.if_icmp .ne 7, 3) := dk_160 0 7 (dk_at dksX0_neighbour_2 20 rfl rfl)
theorem dX0_neighbour_51 : decode cX0_neighbour 51 = .ok (.iconst (-1), 1) := dk_2 (dk_at dksX0_neighbour_2 23 rfl rfl)
theorem dX0_neighbour_52 : decode cX0_neighbour 52 = .ok (.goto 6, 3) := dk_167 0 6 (dk_at dksX0_neighbour_3 0 rfl rfl)
theorem dX0_neighbour_55 : decode cX0_neighbour 55 = .ok (.iload_n 0, 1) := dk_26 (dk_at dksX0_neighbour_3 3 rfl rfl)
theorem dX0_neighbour_56 : decode cX0_neighbour 56 = .ok (.iconst 1, 1) := dk_4 (dk_at dksX0_neighbour_3 4 rfl rfl)
theorem dX0_neighbour_57 : decode cX0_neighbour 57 = .ok (.iadd, 1) := dk_96 (dk_at dksX0_neighbour_3 5 rfl rfl)
theorem dX0_neighbour_58 : decode cX0_neighbour 58 = .ok (.ireturn, 1) := dk_172 (dk_at dksX0_neighbour_3 6 rfl rfl)
theorem dX0_neighbour_59 : decode cX0_neighbour 59 = .ok (.iload_n 0, 1) := dk_26 (dk_at dksX0_neighbour_3 7 rfl rfl)
theorem dX0_neighbour_60 : decode cX0_neighbour 60 = .ok (.bipush 30, 2) := dk_16 30 (dk_at dksX0_neighbour_3 8 rfl rfl)
theorem dX0_neighbour_62 : decode cX0_neighbour 62 = .ok (.if_icmp .lt 7, 3) := dk_161 0 7 (dk_at dksX0_neighbour_3 10 rfl rfl)
theorem dX0_neighbour_65 : decode cX0_neighbour 65 = .ok (.iconst (-1), 1) := dk_2 (dk_at dksX0_neighbour_3 13 rfl rfl)
theorem dX0_neighbour_66 : decode cX0_neighbour 66 = .ok (.goto 7, 3) := dk_167 0 7 (dk_at dksX0_neighbour_3 14 rfl rfl)
theorem dX0_neighbour_69 : decode cX0_neighbour 69 = .ok (.iload_n 0, 1) := dk_26 (dk_at dksX0_neighbour_3 17 rfl rfl)
theorem dX0_neighbour_70 : decode cX0_neighbour 70 = .ok (.bipush 6, 2) := dk_16 6 (dk_at dksX0_neighbour_3 18 rfl rfl)
theorem dX0_neighbour_72 : decode cX0_neighbour 72 = .ok (.iadd, 1) := dk_96 (dk_at dksX0_neighbour_3 20 rfl rfl)
theorem dX0_neighbour_73 : decode cX0_neighbour 73 = .ok (.ireturn, 1) := dk_172 (dk_at dksX0_neighbour_3 21 rfl rfl)
theorem dX0_neighbour_74 : decode cX0_neighbour 74 = .ok (.iload_n 0, 1) := dk_26 (dk_at dksX0_neighbour_3 22 rfl rfl)
theorem dX0_neighbour_75 : decode cX0_neighbour 75 = .ok (.bipush 6, 2) := dk_16 6 (dk_at dksX0_neighbour_4 0 rfl rfl)
theorem dX0_neighbour_77 : decode cX0_neighbour 77 = .ok (.irem, 1) := dk_112 (dk_at dksX0_neighbour_4 2 rfl rfl)
theorem dX0_neighbour_78 : decode cX0_neighbour 78 = .ok (.ifCond .ne 7, 3) := dk_154 0 7 (dk_at dksX0_neighbour_4 3 rfl rfl)
theorem dX0_neighbour_81 : decode cX0_neighbour 81 = .ok (.iconst (-1), 1) := dk_2 (dk_at dksX0_neighbour_4 6 rfl rfl)
theorem dX0_neighbour_82 : decode cX0_neighbour 82 = .ok (.goto 6, 3) := dk_167 0 6 (dk_at dksX0_neighbour_4 7 rfl rfl)
theorem dX0_neighbour_85 : decode cX0_neighbour 85 = .ok (.iload_n 0, 1) := dk_26 (dk_at dksX0_neighbour_4 10 rfl rfl)
theorem dX0_neighbour_86 : decode cX0_neighbour 86 = .ok (.iconst 1, 1) := dk_4 (dk_at dksX0_neighbour_4 11 rfl rfl)
theorem dX0_neighbour_87 : decode cX0_neighbour 87 = .ok (.isub, 1) := dk_100 (dk_at dksX0_neighbour_4 12 rfl rfl)
theorem dX0_neighbour_88 : decode cX0_neighbour 88 = .ok (.ireturn, 1) := dk_172 (dk_at dksX0_neighbour_4 13 rfl rfl)
abbrev cX0_hits : ByteArray := prog_1_method_21_code
def yX0_hits : MethodName := ⟨RX0, "hits", "(I)Z"⟩
def dkwX0_hits_2 : List UInt8 := [46, 44, 185, 0, 149, 1, 0, 163, 0, 7, 4, 167, 0, 4, 3, 172]
abbrev dktX0_hits_2 : List UInt8 := dkwX0_hits_2 ++ []
def dkwX0_hits_1 : List UInt8 := [50, 27, 46, 29, 184, 0, 136, 44, 185, 0, 140, 1, 0, 163, 0, 25, 42, 180, 0, 71, 180, 0, 146, 29]
abbrev dktX0_hits_1 : List UInt8 := dkwX0_hits_1 ++ dktX0_hits_2
def dkwX0_hits_0 : List UInt8 := [42, 27, 182, 0, 129, 77, 42, 180, 0, 71, 180, 0, 133, 3, 46, 62, 42, 180, 0, 71, 180, 0, 109, 4]
abbrev dktX0_hits_0 : List UInt8 := dkwX0_hits_0 ++ dktX0_hits_1
theorem dksX0_hits_0 : cX0_hits.data.toList.drop 0 = dktX0_hits_0 := by decide +kernel
theorem dksX0_hits_1 : cX0_hits.data.toList.drop 24 = dktX0_hits_1 := dk_seg dksX0_hits_0 24 rfl rfl
theorem dksX0_hits_2 : cX0_hits.data.toList.drop 48 = dktX0_hits_2 := dk_seg dksX0_hits_1 24 rfl rfl
theorem dX0_hits_0 : decode cX0_hits 0 = .ok (.aload_n 0, 1) := dk_42 (dk_at dksX0_hits_0 0 rfl rfl)
theorem dX0_hits_1 : decode cX0_hits 1 = .ok (.iload_n 1, 1) := dk_27 (dk_at dksX0_hits_0 1 rfl rfl)
theorem dX0_hits_2 : decode cX0_hits 2 = .ok (.invokevirtual 129, 3) := dk_182 0 129 (dk_at dksX0_hits_0 2 rfl rfl)
theorem dX0_hits_5 : decode cX0_hits 5 = .ok (.astore_n 2, 1) := dk_77 (dk_at dksX0_hits_0 5 rfl rfl)
theorem dX0_hits_6 : decode cX0_hits 6 = .ok (.aload_n 0, 1) := dk_42 (dk_at dksX0_hits_0 6 rfl rfl)
theorem dX0_hits_7 : decode cX0_hits 7 = .ok (.getfield 71, 3) := dk_180 0 71 (dk_at dksX0_hits_0 7 rfl rfl)
theorem dX0_hits_10 : decode cX0_hits 10 = .ok (.getfield 133, 3) := dk_180 0 133 (dk_at dksX0_hits_0 10 rfl rfl)
theorem dX0_hits_13 : decode cX0_hits 13 = .ok (.iconst 0, 1) := dk_3 (dk_at dksX0_hits_0 13 rfl rfl)
theorem dX0_hits_14 : decode cX0_hits 14 = .ok (.iaload, 1) := dk_46 (dk_at dksX0_hits_0 14 rfl rfl)
theorem dX0_hits_15 : decode cX0_hits 15 = .ok (.istore_n 3, 1) := dk_62 (dk_at dksX0_hits_0 15 rfl rfl)
theorem dX0_hits_16 : decode cX0_hits 16 = .ok (.aload_n 0, 1) := dk_42 (dk_at dksX0_hits_0 16 rfl rfl)
theorem dX0_hits_17 : decode cX0_hits 17 = .ok (.getfield 71, 3) := dk_180 0 71 (dk_at dksX0_hits_0 17 rfl rfl)
theorem dX0_hits_20 : decode cX0_hits 20 = .ok (.getfield 109, 3) := dk_180 0 109 (dk_at dksX0_hits_0 20 rfl rfl)
theorem dX0_hits_23 : decode cX0_hits 23 = .ok (.iconst 1, 1) := dk_4 (dk_at dksX0_hits_0 23 rfl rfl)
theorem dX0_hits_24 : decode cX0_hits 24 = .ok (.aaload, 1) := dk_50 (dk_at dksX0_hits_1 0 rfl rfl)
theorem dX0_hits_25 : decode cX0_hits 25 = .ok (.iload_n 1, 1) := dk_27 (dk_at dksX0_hits_1 1 rfl rfl)
theorem dX0_hits_26 : decode cX0_hits 26 = .ok (.iaload, 1) := dk_46 (dk_at dksX0_hits_1 2 rfl rfl)
theorem dX0_hits_27 : decode cX0_hits 27 = .ok (.iload_n 3, 1) := dk_29 (dk_at dksX0_hits_1 3 rfl rfl)
theorem dX0_hits_28 : decode cX0_hits 28 = .ok (.invokestatic 136, 3) := dk_184 0 136 (dk_at dksX0_hits_1 4 rfl rfl)
theorem dX0_hits_31 : decode cX0_hits 31 = .ok (.aload_n 2, 1) := dk_44 (dk_at dksX0_hits_1 7 rfl rfl)
theorem dX0_hits_32 : decode cX0_hits 32 = .ok (.invokeinterface 140 1, 5) := by decide +kernel
theorem dX0_hits_37 : decode cX0_hits 37 = .ok (.if_icmp .gt 25, 3) := dk_163 0 25 (dk_at dksX0_hits_1 13 rfl rfl)
theorem dX0_hits_40 : decode cX0_hits 40 = .ok (.aload_n 0, 1) := dk_42 (dk_at dksX0_hits_1 16 rfl rfl)
theorem dX0_hits_41 : decode cX0_hits 41 = .ok (.getfield 71, 3) := dk_180 0 71 (dk_at dksX0_hits_1 17 rfl rfl)
theorem dX0_hits_44 : decode cX0_hits 44 = .ok (.getfield 146, 3) := dk_180 0 146 (dk_at dksX0_hits_1 20 rfl rfl)
theorem dX0_hits_47 : decode cX0_hits 47 = .ok (.iload_n 3, 1) := dk_29 (dk_at dksX0_hits_1 23 rfl rfl)
theorem dX0_hits_48 : decode cX0_hits 48 = .ok (.iaload, 1) := dk_46 (dk_at dksX0_hits_2 0 rfl rfl)
theorem dX0_hits_49 : decode cX0_hits 49 = .ok (.aload_n 2, 1) := dk_44 (dk_at dksX0_hits_2 1 rfl rfl)
theorem dX0_hits_50 : decode cX0_hits 50 = .ok (.invokeinterface 149 1, 5) := by decide +kernel
theorem dX0_hits_55 : decode cX0_hits 55 = .ok (.if_icmp .gt 7, 3) := dk_163 0 7 (dk_at dksX0_hits_2 7 rfl rfl)
theorem dX0_hits_58 : decode cX0_hits 58 = .ok (.iconst 1, 1) := dk_4 (dk_at dksX0_hits_2 10 rfl rfl)
theorem dX0_hits_59 : decode cX0_hits 59 = .ok (.goto 4, 3) := dk_167 0 4 (dk_at dksX0_hits_2 11 rfl rfl)
theorem dX0_hits_62 : decode cX0_hits 62 = .ok (.iconst 0, 1) := dk_3 (dk_at dksX0_hits_2 14 rfl rfl)
theorem dX0_hits_63 : decode cX0_hits 63 = .ok (.ireturn, 1) := dk_172 (dk_at dksX0_hits_2 15 rfl rfl)
abbrev cX0_change : ByteArray := prog_1_method_33_code
def yX0_change : MethodName := ⟨RX0, "change", "(III)I"⟩
def dkwX0_change_2 : List UInt8 := [21, 4, 172]
abbrev dktX0_change_2 : List UInt8 := dkwX0_change_2 ++ []
def dkwX0_change_1 : List UInt8 := [180, 0, 71, 180, 0, 109, 28, 50, 27, 46, 54, 4, 42, 180, 0, 71, 180, 0, 109, 28, 50, 27, 29, 79]
abbrev dktX0_change_1 : List UInt8 := dkwX0_change_1 ++ dktX0_change_2
def dkwX0_change_0 : List UInt8 := [42, 27, 182, 0, 198, 153, 0, 11, 28, 29, 184, 0, 206, 154, 0, 9, 42, 3, 182, 0, 124, 172, 42]
abbrev dktX0_change_0 : List UInt8 := dkwX0_change_0 ++ dktX0_change_1
theorem dksX0_change_0 : cX0_change.data.toList.drop 0 = dktX0_change_0 := by decide +kernel
theorem dksX0_change_1 : cX0_change.data.toList.drop 23 = dktX0_change_1 := dk_seg dksX0_change_0 23 rfl rfl
theorem dksX0_change_2 : cX0_change.data.toList.drop 47 = dktX0_change_2 := dk_seg dksX0_change_1 24 rfl rfl
theorem dX0_change_0 : decode cX0_change 0 = .ok (.aload_n 0, 1) := dk_42 (dk_at dksX0_change_0 0 rfl rfl)
theorem dX0_change_1 : decode cX0_change 1 = .ok (.iload_n 1, 1) := dk_27 (dk_at dksX0_change_0 1 rfl rfl)
theorem dX0_change_2 : decode cX0_change 2 = .ok (.invokevirtual 198, 3) := dk_182 0 198 (dk_at dksX0_change_0 2 rfl rfl)
theorem dX0_change_5 : decode cX0_change 5 = .ok (.ifCond .eq 11, 3) := dk_153 0 11 (dk_at dksX0_change_0 5 rfl rfl)
theorem dX0_change_8 : decode cX0_change 8 = .ok (.iload_n 2, 1) := dk_28 (dk_at dksX0_change_0 8 rfl rfl)
theorem dX0_change_9 : decode cX0_change 9 = .ok (.iload_n 3, 1) := dk_29 (dk_at dksX0_change_0 9 rfl rfl)
theorem dX0_change_10 : decode cX0_change 10 = .ok (.invokestatic 206, 3) := dk_184 0 206 (dk_at dksX0_change_0 10 rfl rfl)
theorem dX0_change_13 : decode cX0_change 13 = .ok (.ifCond .ne 9, 3) := dk_154 0 9 (dk_at dksX0_change_0 13 rfl rfl)
theorem dX0_change_16 : decode cX0_change 16 = .ok (.aload_n 0, 1) := dk_42 (dk_at dksX0_change_0 16 rfl rfl)
theorem dX0_change_17 : decode cX0_change 17 = .ok (.iconst 0, 1) := dk_3 (dk_at dksX0_change_0 17 rfl rfl)
theorem dX0_change_18 : decode cX0_change 18 = .ok (.invokevirtual 124, 3) := dk_182 0 124 (dk_at dksX0_change_0 18 rfl rfl)
theorem dX0_change_21 : decode cX0_change 21 = .ok (.ireturn, 1) := dk_172 (dk_at dksX0_change_0 21 rfl rfl)
theorem dX0_change_22 : decode cX0_change 22 = .ok (.aload_n 0, 1) := dk_42 (dk_at dksX0_change_0 22 rfl rfl)
theorem dX0_change_23 : decode cX0_change 23 = .ok (.getfield 71, 3) := dk_180 0 71 (dk_at dksX0_change_1 0 rfl rfl)
theorem dX0_change_26 : decode cX0_change 26 = .ok (.getfield 109, 3) := dk_180 0 109 (dk_at dksX0_change_1 3 rfl rfl)
theorem dX0_change_29 : decode cX0_change 29 = .ok (.iload_n 2, 1) := dk_28 (dk_at dksX0_change_1 6 rfl rfl)
theorem dX0_change_30 : decode cX0_change 30 = .ok (.aaload, 1) := dk_50 (dk_at dksX0_change_1 7 rfl rfl)
theorem dX0_change_31 : decode cX0_change 31 = .ok (.iload_n 1, 1) := dk_27 (dk_at dksX0_change_1 8 rfl rfl)
theorem dX0_change_32 : decode cX0_change 32 = .ok (.iaload, 1) := dk_46 (dk_at dksX0_change_1 9 rfl rfl)
theorem dX0_change_33 : decode cX0_change 33 = .ok (.istore 4, 2) := dk_54 4 (dk_at dksX0_change_1 10 rfl rfl)
theorem dX0_change_35 : decode cX0_change 35 = .ok (.aload_n 0, 1) := dk_42 (dk_at dksX0_change_1 12 rfl rfl)
theorem dX0_change_36 : decode cX0_change 36 = .ok (.getfield 71, 3) := dk_180 0 71 (dk_at dksX0_change_1 13 rfl rfl)
theorem dX0_change_39 : decode cX0_change 39 = .ok (.getfield 109, 3) := dk_180 0 109 (dk_at dksX0_change_1 16 rfl rfl)
theorem dX0_change_42 : decode cX0_change 42 = .ok (.iload_n 2, 1) := dk_28 (dk_at dksX0_change_1 19 rfl rfl)
theorem dX0_change_43 : decode cX0_change 43 = .ok (.aaload, 1) := dk_50 (dk_at dksX0_change_1 20 rfl rfl)
theorem dX0_change_44 : decode cX0_change 44 = .ok (.iload_n 1, 1) := dk_27 (dk_at dksX0_change_1 21 rfl rfl)
theorem dX0_change_45 : decode cX0_change 45 = .ok (.iload_n 3, 1) := dk_29 (dk_at dksX0_change_1 22 rfl rfl)
theorem dX0_change_46 : decode cX0_change 46 = .ok (.iastore, 1) := dk_79 (dk_at dksX0_change_1 23 rfl rfl)
theorem dX0_change_47 : decode cX0_change 47 = .ok (.iload 4, 2) := dk_21 4 (dk_at dksX0_change_2 0 rfl rfl)
theorem dX0_change_49 : decode cX0_change 49 = .ok (.ireturn, 1) := dk_172 (dk_at dksX0_change_2 2 rfl rfl)
abbrev cX0_isTold : ByteArray := prog_1_method_9_code
def yX0_isTold : MethodName := ⟨RX0, "isTold", "(II)Z"⟩
def dkwX0_isTold_3 : List UInt8 := [184, 0, 9, 172, 3, 172]
abbrev dktX0_isTold_3 : List UInt8 := dkwX0_isTold_3 ++ []
def dkwX0_isTold_2 : List UInt8 := [27, 184, 0, 13, 172, 27, 184, 0, 17, 172, 27, 3, 16, 9, 184, 0, 9, 172, 27, 3, 17, 3, 231]
abbrev dktX0_isTold_2 : List UInt8 := dkwX0_isTold_2 ++ dktX0_isTold_3
def dkwX0_isTold_1 : List UInt8 := [170, 0, 0, 0, 0, 0, 58, 0, 0, 0, 0, 0, 0, 0, 3, 0, 0, 0, 31, 0, 0, 0, 36, 0, 0, 0, 41, 0, 0, 0, 49]
abbrev dktX0_isTold_1 : List UInt8 := dkwX0_isTold_1 ++ dktX0_isTold_2
def dkwX0_isTold_0 : List UInt8 := [26]
abbrev dktX0_isTold_0 : List UInt8 := dkwX0_isTold_0 ++ dktX0_isTold_1
theorem dksX0_isTold_0 : cX0_isTold.data.toList.drop 0 = dktX0_isTold_0 := by decide +kernel
theorem dksX0_isTold_1 : cX0_isTold.data.toList.drop 1 = dktX0_isTold_1 := dk_seg dksX0_isTold_0 1 rfl rfl
theorem dksX0_isTold_2 : cX0_isTold.data.toList.drop 32 = dktX0_isTold_2 := dk_seg dksX0_isTold_1 31 rfl rfl
theorem dksX0_isTold_3 : cX0_isTold.data.toList.drop 55 = dktX0_isTold_3 := dk_seg dksX0_isTold_2 23 rfl rfl
theorem dX0_isTold_0 : decode cX0_isTold 0 = .ok (.iload_n 0, 1) := dk_26 (dk_at dksX0_isTold_0 0 rfl rfl)
theorem dX0_isTold_1 : decode cX0_isTold 1 = .ok (.tableswitch 58 0 3 #[31, 36, 41, 49], 31) := by decide +kernel
theorem dX0_isTold_32 : decode cX0_isTold 32 = .ok (.iload_n 1, 1) := dk_27 (dk_at dksX0_isTold_2 0 rfl rfl)
theorem dX0_isTold_33 : decode cX0_isTold 33 = .ok (.invokestatic 13, 3) := dk_184 0 13 (dk_at dksX0_isTold_2 1 rfl rfl)
theorem dX0_isTold_36 : decode cX0_isTold 36 = .ok (.ireturn, 1) := dk_172 (dk_at dksX0_isTold_2 4 rfl rfl)
theorem dX0_isTold_37 : decode cX0_isTold 37 = .ok (.iload_n 1, 1) := dk_27 (dk_at dksX0_isTold_2 5 rfl rfl)
theorem dX0_isTold_38 : decode cX0_isTold 38 = .ok (.invokestatic 17, 3) := dk_184 0 17 (dk_at dksX0_isTold_2 6 rfl rfl)
theorem dX0_isTold_41 : decode cX0_isTold 41 = .ok (.ireturn, 1) := dk_172 (dk_at dksX0_isTold_2 9 rfl rfl)
theorem dX0_isTold_42 : decode cX0_isTold 42 = .ok (.iload_n 1, 1) := dk_27 (dk_at dksX0_isTold_2 10 rfl rfl)
theorem dX0_isTold_43 : decode cX0_isTold 43 = .ok (.iconst 0, 1) := dk_3 (dk_at dksX0_isTold_2 11 rfl rfl)
theorem dX0_isTold_44 : decode cX0_isTold 44 = .ok (.bipush 9, 2) := dk_16 9 (dk_at dksX0_isTold_2 12 rfl rfl)
theorem dX0_isTold_46 : decode cX0_isTold 46 = .ok (.invokestatic 9, 3) := dk_184 0 9 (dk_at dksX0_isTold_2 14 rfl rfl)
theorem dX0_isTold_49 : decode cX0_isTold 49 = .ok (.ireturn, 1) := dk_172 (dk_at dksX0_isTold_2 17 rfl rfl)
theorem dX0_isTold_50 : decode cX0_isTold 50 = .ok (.iload_n 1, 1) := dk_27 (dk_at dksX0_isTold_2 18 rfl rfl)
theorem dX0_isTold_51 : decode cX0_isTold 51 = .ok (.iconst 0, 1) := dk_3 (dk_at dksX0_isTold_2 19 rfl rfl)
theorem dX0_isTold_52 : decode cX0_isTold 52 = .ok (.sipush 999, 3) := dk_17 3 231 (dk_at dksX0_isTold_2 20 rfl rfl)
theorem dX0_isTold_55 : decode cX0_isTold 55 = .ok (.invokestatic 9, 3) := dk_184 0 9 (dk_at dksX0_isTold_3 0 rfl rfl)
theorem dX0_isTold_58 : decode cX0_isTold 58 = .ok (.ireturn, 1) := dk_172 (dk_at dksX0_isTold_3 3 rfl rfl)
theorem dX0_isTold_59 : decode cX0_isTold 59 = .ok (.iconst 0, 1) := dk_3 (dk_at dksX0_isTold_3 4 rfl rfl)
theorem dX0_isTold_60 : decode cX0_isTold 60 = .ok (.ireturn, 1) := dk_172 (dk_at dksX0_isTold_3 5 rfl rfl)
abbrev cX0_strikes : ByteArray := prog_1_method_35_code
def yX0_strikes : MethodName := ⟨RX0, "strikes", "(I)I"⟩
def dkwX0_strikes_1 : List UInt8 := [182, 0, 212, 153, 0, 11, 42, 7, 182, 0, 124, 167, 0, 8, 42, 27, 182, 0, 215, 172]
abbrev dktX0_strikes_1 : List UInt8 := dkwX0_strikes_1 ++ []
def dkwX0_strikes_0 : List UInt8 := [42, 27, 182, 0, 198, 154, 0, 9, 42, 3, 182, 0, 124, 172, 42, 180, 0, 71, 42, 27, 182, 0, 159]
abbrev dktX0_strikes_0 : List UInt8 := dkwX0_strikes_0 ++ dktX0_strikes_1
theorem dksX0_strikes_0 : cX0_strikes.data.toList.drop 0 = dktX0_strikes_0 := by decide +kernel
theorem dksX0_strikes_1 : cX0_strikes.data.toList.drop 23 = dktX0_strikes_1 := dk_seg dksX0_strikes_0 23 rfl rfl
theorem dX0_strikes_0 : decode cX0_strikes 0 = .ok (.aload_n 0, 1) := dk_42 (dk_at dksX0_strikes_0 0 rfl rfl)
theorem dX0_strikes_1 : decode cX0_strikes 1 = .ok (.iload_n 1, 1) := dk_27 (dk_at dksX0_strikes_0 1 rfl rfl)
theorem dX0_strikes_2 : decode cX0_strikes 2 = .ok (.invokevirtual 198, 3) := dk_182 0 198 (dk_at dksX0_strikes_0 2 rfl rfl)
theorem dX0_strikes_5 : decode cX0_strikes 5 = .ok (.ifCond .ne 9, 3) := dk_154 0 9 (dk_at dksX0_strikes_0 5 rfl rfl)
theorem dX0_strikes_8 : decode cX0_strikes 8 = .ok (.aload_n 0, 1) := dk_42 (dk_at dksX0_strikes_0 8 rfl rfl)
theorem dX0_strikes_9 : decode cX0_strikes 9 = .ok (.iconst 0, 1) := dk_3 (dk_at dksX0_strikes_0 9 rfl rfl)
theorem dX0_strikes_10 : decode cX0_strikes 10 = .ok (.invokevirtual 124, 3) := dk_182 0 124 (dk_at dksX0_strikes_0 10 rfl rfl)
theorem dX0_strikes_13 : decode cX0_strikes 13 = .ok (.ireturn, 1) := dk_172 (dk_at dksX0_strikes_0 13 rfl rfl)
theorem dX0_strikes_14 : decode cX0_strikes 14 = .ok (.aload_n 0, 1) := dk_42 (dk_at dksX0_strikes_0 14 rfl rfl)
theorem dX0_strikes_15 : decode cX0_strikes 15 = .ok (.getfield 71, 3) := dk_180 0 71 (dk_at dksX0_strikes_0 15 rfl rfl)
theorem dX0_strikes_18 : decode cX0_strikes 18 = .ok (.aload_n 0, 1) := dk_42 (dk_at dksX0_strikes_0 18 rfl rfl)
theorem dX0_strikes_19 : decode cX0_strikes 19 = .ok (.iload_n 1, 1) := dk_27 (dk_at dksX0_strikes_0 19 rfl rfl)
theorem dX0_strikes_20 : decode cX0_strikes 20 = .ok (.invokevirtual 159, 3) := dk_182 0 159 (dk_at dksX0_strikes_0 20 rfl rfl)
theorem dX0_strikes_23 : decode cX0_strikes 23 = .ok (.invokevirtual 212, 3) := dk_182 0 212 (dk_at dksX0_strikes_1 0 rfl rfl)
theorem dX0_strikes_26 : decode cX0_strikes 26 = .ok (.ifCond .eq 11, 3) := dk_153 0 11 (dk_at dksX0_strikes_1 3 rfl rfl)
theorem dX0_strikes_29 : decode cX0_strikes 29 = .ok (.aload_n 0, 1) := dk_42 (dk_at dksX0_strikes_1 6 rfl rfl)
theorem dX0_strikes_30 : decode cX0_strikes 30 = .ok (.iconst 4, 1) := dk_7 (dk_at dksX0_strikes_1 7 rfl rfl)
theorem dX0_strikes_31 : decode cX0_strikes 31 = .ok (.invokevirtual 124, 3) := dk_182 0 124 (dk_at dksX0_strikes_1 8 rfl rfl)
theorem dX0_strikes_34 : decode cX0_strikes 34 = .ok (.goto 8, 3) := dk_167 0 8 (dk_at dksX0_strikes_1 11 rfl rfl)
theorem dX0_strikes_37 : decode cX0_strikes 37 = .ok (.aload_n 0, 1) := dk_42 (dk_at dksX0_strikes_1 14 rfl rfl)
theorem dX0_strikes_38 : decode cX0_strikes 38 = .ok (.iload_n 1, 1) := dk_27 (dk_at dksX0_strikes_1 15 rfl rfl)
theorem dX0_strikes_39 : decode cX0_strikes 39 = .ok (.invokevirtual 215, 3) := dk_182 0 215 (dk_at dksX0_strikes_1 16 rfl rfl)
theorem dX0_strikes_42 : decode cX0_strikes 42 = .ok (.ireturn, 1) := dk_172 (dk_at dksX0_strikes_1 19 rfl rfl)
abbrev cX0_isMade : ByteArray := prog_1_method_34_code
def yX0_isMade : MethodName := ⟨RX0, "isMade", "(I)I"⟩
def dkwX0_isMade_3 : List UInt8 := [79, 42, 180, 0, 71, 180, 0, 133, 7, 3, 79, 4, 172]
abbrev dktX0_isMade_3 : List UInt8 := dkwX0_isMade_3 ++ []
def dkwX0_isMade_2 : List UInt8 := [184, 0, 209, 79, 42, 180, 0, 71, 180, 0, 133, 3, 16, 35, 42, 180, 0, 71, 180, 0, 133, 3, 46, 100]
abbrev dktX0_isMade_2 : List UInt8 := dkwX0_isMade_2 ++ dktX0_isMade_3
def dkwX0_isMade_1 : List UInt8 := [180, 0, 109, 6, 50, 27, 17, 3, 231, 42, 180, 0, 71, 180, 0, 109, 6, 50, 27, 46, 4, 96]
abbrev dktX0_isMade_1 : List UInt8 := dkwX0_isMade_1 ++ dktX0_isMade_2
def dkwX0_isMade_0 : List UInt8 := [42, 42, 27, 182, 0, 159, 182, 0, 162, 42, 27, 182, 0, 165, 154, 0, 5, 3, 172, 42, 180, 0, 71]
abbrev dktX0_isMade_0 : List UInt8 := dkwX0_isMade_0 ++ dktX0_isMade_1
theorem dksX0_isMade_0 : cX0_isMade.data.toList.drop 0 = dktX0_isMade_0 := by decide +kernel
theorem dksX0_isMade_1 : cX0_isMade.data.toList.drop 23 = dktX0_isMade_1 := dk_seg dksX0_isMade_0 23 rfl rfl
theorem dksX0_isMade_2 : cX0_isMade.data.toList.drop 45 = dktX0_isMade_2 := dk_seg dksX0_isMade_1 22 rfl rfl
theorem dksX0_isMade_3 : cX0_isMade.data.toList.drop 69 = dktX0_isMade_3 := dk_seg dksX0_isMade_2 24 rfl rfl
theorem dX0_isMade_0 : decode cX0_isMade 0 = .ok (.aload_n 0, 1) := dk_42 (dk_at dksX0_isMade_0 0 rfl rfl)
theorem dX0_isMade_1 : decode cX0_isMade 1 = .ok (.aload_n 0, 1) := dk_42 (dk_at dksX0_isMade_0 1 rfl rfl)
theorem dX0_isMade_2 : decode cX0_isMade 2 = .ok (.iload_n 1, 1) := dk_27 (dk_at dksX0_isMade_0 2 rfl rfl)
theorem dX0_isMade_3 : decode cX0_isMade 3 = .ok (.invokevirtual 159, 3) := dk_182 0 159 (dk_at dksX0_isMade_0 3 rfl rfl)
theorem dX0_isMade_6 : decode cX0_isMade 6 = .ok (.invokevirtual 162, 3) := dk_182 0 162 (dk_at dksX0_isMade_0 6 rfl rfl)
theorem dX0_isMade_9 : decode cX0_isMade 9 = .ok (.aload_n 0, 1) := dk_42 (dk_at dksX0_isMade_0 9 rfl rfl)
theorem dX0_isMade_10 : decode cX0_isMade 10 = .ok (.iload_n 1, 1) := dk_27 (dk_at dksX0_isMade_0 10 rfl rfl)
theorem dX0_isMade_11 : decode cX0_isMade 11 = .ok (.invokevirtual 165, 3) := dk_182 0 165 (dk_at dksX0_isMade_0 11 rfl rfl)
theorem dX0_isMade_14 : decode cX0_isMade 14 = .ok (.ifCond .ne 5, 3) := dk_154 0 5 (dk_at dksX0_isMade_0 14 rfl rfl)
theorem dX0_isMade_17 : decode cX0_isMade 17 = .ok (.iconst 0, 1) := dk_3 (dk_at dksX0_isMade_0 17 rfl rfl)
theorem dX0_isMade_18 : decode cX0_isMade 18 = .ok (.ireturn, 1) := dk_172 (dk_at dksX0_isMade_0 18 rfl rfl)
theorem dX0_isMade_19 : decode cX0_isMade 19 = .ok (.aload_n 0, 1) := dk_42 (dk_at dksX0_isMade_0 19 rfl rfl)
theorem dX0_isMade_20 : decode cX0_isMade 20 = .ok (.getfield 71, 3) := dk_180 0 71 (dk_at dksX0_isMade_0 20 rfl rfl)
theorem dX0_isMade_23 : decode cX0_isMade 23 = .ok (.getfield 109, 3) := dk_180 0 109 (dk_at dksX0_isMade_1 0 rfl rfl)
theorem dX0_isMade_26 : decode cX0_isMade 26 = .ok (.iconst 3, 1) := dk_6 (dk_at dksX0_isMade_1 3 rfl rfl)
theorem dX0_isMade_27 : decode cX0_isMade 27 = .ok (.aaload, 1) := dk_50 (dk_at dksX0_isMade_1 4 rfl rfl)
theorem dX0_isMade_28 : decode cX0_isMade 28 = .ok (.iload_n 1, 1) := dk_27 (dk_at dksX0_isMade_1 5 rfl rfl)
theorem dX0_isMade_29 : decode cX0_isMade 29 = .ok (.sipush 999, 3) := dk_17 3 231 (dk_at dksX0_isMade_1 6 rfl rfl)
theorem dX0_isMade_32 : decode cX0_isMade 32 = .ok (.aload_n 0, 1) := dk_42 (dk_at dksX0_isMade_1 9 rfl rfl)
theorem dX0_isMade_33 : decode cX0_isMade 33 = .ok (.getfield 71, 3) := dk_180 0 71 (dk_at dksX0_isMade_1 10 rfl rfl)
theorem dX0_isMade_36 : decode cX0_isMade 36 = .ok (.getfield 109, 3) := dk_180 0 109 (dk_at dksX0_isMade_1 13 rfl rfl)
theorem dX0_isMade_39 : decode cX0_isMade 39 = .ok (.iconst 3, 1) := dk_6 (dk_at dksX0_isMade_1 16 rfl rfl)
theorem dX0_isMade_40 : decode cX0_isMade 40 = .ok (.aaload, 1) := dk_50 (dk_at dksX0_isMade_1 17 rfl rfl)
theorem dX0_isMade_41 : decode cX0_isMade 41 = .ok (.iload_n 1, 1) := dk_27 (dk_at dksX0_isMade_1 18 rfl rfl)
theorem dX0_isMade_42 : decode cX0_isMade 42 = .ok (.iaload, 1) := dk_46 (dk_at dksX0_isMade_1 19 rfl rfl)
theorem dX0_isMade_43 : decode cX0_isMade 43 = .ok (.iconst 1, 1) := dk_4 (dk_at dksX0_isMade_1 20 rfl rfl)
theorem dX0_isMade_44 : decode cX0_isMade 44 = .ok (.iadd, 1) := dk_96 (dk_at dksX0_isMade_1 21 rfl rfl)
theorem dX0_isMade_45 : decode cX0_isMade 45 = .ok (.invokestatic 209, 3) := dk_184 0 209 (dk_at dksX0_isMade_2 0 rfl rfl)
theorem dX0_isMade_48 : decode cX0_isMade 48 = .ok (.iastore, 1) := dk_79 (dk_at dksX0_isMade_2 3 rfl rfl)
theorem dX0_isMade_49 : decode cX0_isMade 49 = .ok (.aload_n 0, 1) := dk_42 (dk_at dksX0_isMade_2 4 rfl rfl)
theorem dX0_isMade_50 : decode cX0_isMade 50 = .ok (.getfield 71, 3) := dk_180 0 71 (dk_at dksX0_isMade_2 5 rfl rfl)
theorem dX0_isMade_53 : decode cX0_isMade 53 = .ok (.getfield 133, 3) := dk_180 0 133 (dk_at dksX0_isMade_2 8 rfl rfl)
theorem dX0_isMade_56 : decode cX0_isMade 56 = .ok (.iconst 0, 1) := dk_3 (dk_at dksX0_isMade_2 11 rfl rfl)
theorem dX0_isMade_57 : decode cX0_isMade 57 = .ok (.bipush 35, 2) := dk_16 35 (dk_at dksX0_isMade_2 12 rfl rfl)
theorem dX0_isMade_59 : decode cX0_isMade 59 = .ok (.aload_n 0, 1) := dk_42 (dk_at dksX0_isMade_2 14 rfl rfl)
theorem dX0_isMade_60 : decode cX0_isMade 60 = .ok (.getfield 71, 3) := dk_180 0 71 (dk_at dksX0_isMade_2 15 rfl rfl)
theorem dX0_isMade_63 : decode cX0_isMade 63 = .ok (.getfield 133, 3) := dk_180 0 133 (dk_at dksX0_isMade_2 18 rfl rfl)
theorem dX0_isMade_66 : decode cX0_isMade 66 = .ok (.iconst 0, 1) := dk_3 (dk_at dksX0_isMade_2 21 rfl rfl)
theorem dX0_isMade_67 : decode cX0_isMade 67 = .ok (.iaload, 1) := dk_46 (dk_at dksX0_isMade_2 22 rfl rfl)
theorem dX0_isMade_68 : decode cX0_isMade 68 = .ok (.isub, 1) := dk_100 (dk_at dksX0_isMade_2 23 rfl rfl)
theorem dX0_isMade_69 : decode cX0_isMade 69 = .ok (.iastore, 1) := dk_79 (dk_at dksX0_isMade_3 0 rfl rfl)
theorem dX0_isMade_70 : decode cX0_isMade 70 = .ok (.aload_n 0, 1) := dk_42 (dk_at dksX0_isMade_3 1 rfl rfl)
theorem dX0_isMade_71 : decode cX0_isMade 71 = .ok (.getfield 71, 3) := dk_180 0 71 (dk_at dksX0_isMade_3 2 rfl rfl)
theorem dX0_isMade_74 : decode cX0_isMade 74 = .ok (.getfield 133, 3) := dk_180 0 133 (dk_at dksX0_isMade_3 5 rfl rfl)
theorem dX0_isMade_77 : decode cX0_isMade 77 = .ok (.iconst 4, 1) := dk_7 (dk_at dksX0_isMade_3 8 rfl rfl)
theorem dX0_isMade_78 : decode cX0_isMade 78 = .ok (.iconst 0, 1) := dk_3 (dk_at dksX0_isMade_3 9 rfl rfl)
theorem dX0_isMade_79 : decode cX0_isMade 79 = .ok (.iastore, 1) := dk_79 (dk_at dksX0_isMade_3 10 rfl rfl)
theorem dX0_isMade_80 : decode cX0_isMade 80 = .ok (.iconst 1, 1) := dk_4 (dk_at dksX0_isMade_3 11 rfl rfl)
theorem dX0_isMade_81 : decode cX0_isMade 81 = .ok (.ireturn, 1) := dk_172 (dk_at dksX0_isMade_3 12 rfl rfl)
abbrev cX0_go : ByteArray := prog_1_method_37_code
def yX0_go : MethodName := ⟨RX0, "go", "(I)I"⟩
def dkwX0_go_1 : List UInt8 := [153, 0, 11, 42, 7, 182, 0, 124, 167, 0, 8, 42, 27, 182, 0, 218, 172]
abbrev dktX0_go_1 : List UInt8 := dkwX0_go_1 ++ []
def dkwX0_go_0 : List UInt8 := [27, 4, 16, 60, 184, 0, 9, 154, 0, 9, 42, 3, 182, 0, 124, 172, 42, 180, 0, 71, 27, 182, 0, 212]
abbrev dktX0_go_0 : List UInt8 := dkwX0_go_0 ++ dktX0_go_1
theorem dksX0_go_0 : cX0_go.data.toList.drop 0 = dktX0_go_0 := by decide +kernel
theorem dksX0_go_1 : cX0_go.data.toList.drop 24 = dktX0_go_1 := dk_seg dksX0_go_0 24 rfl rfl
theorem dX0_go_0 : decode cX0_go 0 = .ok (.iload_n 1, 1) := dk_27 (dk_at dksX0_go_0 0 rfl rfl)
theorem dX0_go_1 : decode cX0_go 1 = .ok (.iconst 1, 1) := dk_4 (dk_at dksX0_go_0 1 rfl rfl)
theorem dX0_go_2 : decode cX0_go 2 = .ok (.bipush 60, 2) := dk_16 60 (dk_at dksX0_go_0 2 rfl rfl)
theorem dX0_go_4 : decode cX0_go 4 = .ok (.invokestatic 9, 3) := dk_184 0 9 (dk_at dksX0_go_0 4 rfl rfl)
theorem dX0_go_7 : decode cX0_go 7 = .ok (.ifCond .ne 9, 3) := dk_154 0 9 (dk_at dksX0_go_0 7 rfl rfl)
theorem dX0_go_10 : decode cX0_go 10 = .ok (.aload_n 0, 1) := dk_42 (dk_at dksX0_go_0 10 rfl rfl)
theorem dX0_go_11 : decode cX0_go 11 = .ok (.iconst 0, 1) := dk_3 (dk_at dksX0_go_0 11 rfl rfl)
theorem dX0_go_12 : decode cX0_go 12 = .ok (.invokevirtual 124, 3) := dk_182 0 124 (dk_at dksX0_go_0 12 rfl rfl)
theorem dX0_go_15 : decode cX0_go 15 = .ok (.ireturn, 1) := dk_172 (dk_at dksX0_go_0 15 rfl rfl)
theorem dX0_go_16 : decode cX0_go 16 = .ok (.aload_n 0, 1) := dk_42 (dk_at dksX0_go_0 16 rfl rfl)
theorem dX0_go_17 : decode cX0_go 17 = .ok (.getfield 71, 3) := dk_180 0 71 (dk_at dksX0_go_0 17 rfl rfl)
theorem dX0_go_20 : decode cX0_go 20 = .ok (.iload_n 1, 1) := dk_27 (dk_at dksX0_go_0 20 rfl rfl)
theorem dX0_go_21 : decode cX0_go 21 = .ok (.invokevirtual 212, 3) := dk_182 0 212 (dk_at dksX0_go_0 21 rfl rfl)
theorem dX0_go_24 : decode cX0_go 24 = .ok (.ifCond .eq 11, 3) := dk_153 0 11 (dk_at dksX0_go_1 0 rfl rfl)
theorem dX0_go_27 : decode cX0_go 27 = .ok (.aload_n 0, 1) := dk_42 (dk_at dksX0_go_1 3 rfl rfl)
theorem dX0_go_28 : decode cX0_go 28 = .ok (.iconst 4, 1) := dk_7 (dk_at dksX0_go_1 4 rfl rfl)
theorem dX0_go_29 : decode cX0_go 29 = .ok (.invokevirtual 124, 3) := dk_182 0 124 (dk_at dksX0_go_1 5 rfl rfl)
theorem dX0_go_32 : decode cX0_go 32 = .ok (.goto 8, 3) := dk_167 0 8 (dk_at dksX0_go_1 8 rfl rfl)
theorem dX0_go_35 : decode cX0_go 35 = .ok (.aload_n 0, 1) := dk_42 (dk_at dksX0_go_1 11 rfl rfl)
theorem dX0_go_36 : decode cX0_go 36 = .ok (.iload_n 1, 1) := dk_27 (dk_at dksX0_go_1 12 rfl rfl)
theorem dX0_go_37 : decode cX0_go 37 = .ok (.invokevirtual 218, 3) := dk_182 0 218 (dk_at dksX0_go_1 13 rfl rfl)
theorem dX0_go_40 : decode cX0_go 40 = .ok (.ireturn, 1) := dk_172 (dk_at dksX0_go_1 16 rfl rfl)
abbrev cX0_goesOn : ByteArray := prog_1_method_36_code
def yX0_goesOn : MethodName := ⟨RX0, "goesOn", "(I)I"⟩
def dkwX0_goesOn_0 : List UInt8 := [42, 27, 182, 0, 162, 42, 180, 0, 71, 180, 0, 133, 3, 46, 172]
abbrev dktX0_goesOn_0 : List UInt8 := dkwX0_goesOn_0 ++ []
theorem dksX0_goesOn_0 : cX0_goesOn.data.toList.drop 0 = dktX0_goesOn_0 := by decide +kernel
theorem dX0_goesOn_0 : decode cX0_goesOn 0 = .ok (.aload_n 0, 1) := dk_42 (dk_at dksX0_goesOn_0 0 rfl rfl)
theorem dX0_goesOn_1 : decode cX0_goesOn 1 = .ok (.iload_n 1, 1) := dk_27 (dk_at dksX0_goesOn_0 1 rfl rfl)
theorem dX0_goesOn_2 : decode cX0_goesOn 2 = .ok (.invokevirtual 162, 3) := dk_182 0 162 (dk_at dksX0_goesOn_0 2 rfl rfl)
theorem dX0_goesOn_5 : decode cX0_goesOn 5 = .ok (.aload_n 0, 1) := dk_42 (dk_at dksX0_goesOn_0 5 rfl rfl)
theorem dX0_goesOn_6 : decode cX0_goesOn 6 = .ok (.getfield 71, 3) := dk_180 0 71 (dk_at dksX0_goesOn_0 6 rfl rfl)
theorem dX0_goesOn_9 : decode cX0_goesOn 9 = .ok (.getfield 133, 3) := dk_180 0 133 (dk_at dksX0_goesOn_0 9 rfl rfl)
theorem dX0_goesOn_12 : decode cX0_goesOn 12 = .ok (.iconst 0, 1) := dk_3 (dk_at dksX0_goesOn_0 12 rfl rfl)
theorem dX0_goesOn_13 : decode cX0_goesOn 13 = .ok (.iaload, 1) := dk_46 (dk_at dksX0_goesOn_0 13 rfl rfl)
theorem dX0_goesOn_14 : decode cX0_goesOn 14 = .ok (.ireturn, 1) := dk_172 (dk_at dksX0_goesOn_0 14 rfl rfl)
abbrev cX0_now : ByteArray := prog_1_method_38_code
def yX0_now : MethodName := ⟨RX0, "now", "(I)I"⟩
def dkwX0_now_5 : List UInt8 := [182, 0, 124, 172]
abbrev dktX0_now_5 : List UInt8 := dkwX0_now_5 ++ []
def dkwX0_now_4 : List UInt8 := [180, 0, 71, 180, 0, 184, 3, 46, 42, 180, 0, 71, 180, 0, 133, 3, 46, 184, 0, 136, 172, 42, 3]
abbrev dktX0_now_4 : List UInt8 := dkwX0_now_4 ++ dktX0_now_5
def dkwX0_now_3 : List UInt8 := [42, 182, 0, 227, 172, 42, 180, 0, 71, 182, 0, 230, 172, 42, 180, 0, 71, 182, 0, 233, 172, 42]
abbrev dktX0_now_3 : List UInt8 := dkwX0_now_3 ++ dktX0_now_4
def dkwX0_now_2 : List UInt8 := [42, 180, 0, 71, 180, 0, 221, 172, 42, 180, 0, 71, 182, 0, 224, 153, 0, 7, 4, 167, 0, 4, 3, 172]
abbrev dktX0_now_2 : List UInt8 := dkwX0_now_2 ++ dktX0_now_3
def dkwX0_now_1 : List UInt8 := [170, 0, 0, 0, 0, 0, 106, 0, 0, 0, 0, 0, 0, 0, 5, 0, 0, 0, 39, 0, 0, 0, 47, 0, 0, 0, 63, 0, 0, 0, 68, 0, 0, 0, 76, 0, 0, 0, 84]
abbrev dktX0_now_1 : List UInt8 := dkwX0_now_1 ++ dktX0_now_2
def dkwX0_now_0 : List UInt8 := [27]
abbrev dktX0_now_0 : List UInt8 := dkwX0_now_0 ++ dktX0_now_1
theorem dksX0_now_0 : cX0_now.data.toList.drop 0 = dktX0_now_0 := by decide +kernel
theorem dksX0_now_1 : cX0_now.data.toList.drop 1 = dktX0_now_1 := dk_seg dksX0_now_0 1 rfl rfl
theorem dksX0_now_2 : cX0_now.data.toList.drop 40 = dktX0_now_2 := dk_seg dksX0_now_1 39 rfl rfl
theorem dksX0_now_3 : cX0_now.data.toList.drop 64 = dktX0_now_3 := dk_seg dksX0_now_2 24 rfl rfl
theorem dksX0_now_4 : cX0_now.data.toList.drop 86 = dktX0_now_4 := dk_seg dksX0_now_3 22 rfl rfl
theorem dksX0_now_5 : cX0_now.data.toList.drop 109 = dktX0_now_5 := dk_seg dksX0_now_4 23 rfl rfl
theorem dX0_now_0 : decode cX0_now 0 = .ok (.iload_n 1, 1) := dk_27 (dk_at dksX0_now_0 0 rfl rfl)
theorem dX0_now_1 : decode cX0_now 1 = .ok (.tableswitch 106 0 5 #[39, 47, 63, 68, 76, 84], 39) := by decide +kernel
theorem dX0_now_40 : decode cX0_now 40 = .ok (.aload_n 0, 1) := dk_42 (dk_at dksX0_now_2 0 rfl rfl)
theorem dX0_now_41 : decode cX0_now 41 = .ok (.getfield 71, 3) := dk_180 0 71 (dk_at dksX0_now_2 1 rfl rfl)
theorem dX0_now_44 : decode cX0_now 44 = .ok (.getfield 221, 3) := dk_180 0 221 (dk_at dksX0_now_2 4 rfl rfl)
theorem dX0_now_47 : decode cX0_now 47 = .ok (.ireturn, 1) := dk_172 (dk_at dksX0_now_2 7 rfl rfl)
theorem dX0_now_48 : decode cX0_now 48 = .ok (.aload_n 0, 1) := dk_42 (dk_at dksX0_now_2 8 rfl rfl)
theorem dX0_now_49 : decode cX0_now 49 = .ok (.getfield 71, 3) := dk_180 0 71 (dk_at dksX0_now_2 9 rfl rfl)
theorem dX0_now_52 : decode cX0_now 52 = .ok (.invokevirtual 224, 3) := dk_182 0 224 (dk_at dksX0_now_2 12 rfl rfl)
theorem dX0_now_55 : decode cX0_now 55 = .ok (.ifCond .eq 7, 3) := dk_153 0 7 (dk_at dksX0_now_2 15 rfl rfl)
theorem dX0_now_58 : decode cX0_now 58 = .ok (.iconst 1, 1) := dk_4 (dk_at dksX0_now_2 18 rfl rfl)
theorem dX0_now_59 : decode cX0_now 59 = .ok (.goto 4, 3) := dk_167 0 4 (dk_at dksX0_now_2 19 rfl rfl)
theorem dX0_now_62 : decode cX0_now 62 = .ok (.iconst 0, 1) := dk_3 (dk_at dksX0_now_2 22 rfl rfl)
theorem dX0_now_63 : decode cX0_now 63 = .ok (.ireturn, 1) := dk_172 (dk_at dksX0_now_2 23 rfl rfl)
theorem dX0_now_64 : decode cX0_now 64 = .ok (.aload_n 0, 1) := dk_42 (dk_at dksX0_now_3 0 rfl rfl)
theorem dX0_now_65 : decode cX0_now 65 = .ok (.invokevirtual 227, 3) := dk_182 0 227 (dk_at dksX0_now_3 1 rfl rfl)
theorem dX0_now_68 : decode cX0_now 68 = .ok (.ireturn, 1) := dk_172 (dk_at dksX0_now_3 4 rfl rfl)
theorem dX0_now_69 : decode cX0_now 69 = .ok (.aload_n 0, 1) := dk_42 (dk_at dksX0_now_3 5 rfl rfl)
theorem dX0_now_70 : decode cX0_now 70 = .ok (.getfield 71, 3) := dk_180 0 71 (dk_at dksX0_now_3 6 rfl rfl)
theorem dX0_now_73 : decode cX0_now 73 = .ok (.invokevirtual 230, 3) := dk_182 0 230 (dk_at dksX0_now_3 9 rfl rfl)
theorem dX0_now_76 : decode cX0_now 76 = .ok (.ireturn, 1) := dk_172 (dk_at dksX0_now_3 12 rfl rfl)
theorem dX0_now_77 : decode cX0_now 77 = .ok (.aload_n 0, 1) := dk_42 (dk_at dksX0_now_3 13 rfl rfl)
theorem dX0_now_78 : decode cX0_now 78 = .ok (.getfield 71, 3) := dk_180 0 71 (dk_at dksX0_now_3 14 rfl rfl)
theorem dX0_now_81 : decode cX0_now 81 = .ok (.invokevirtual 233, 3) := dk_182 0 233 (dk_at dksX0_now_3 17 rfl rfl)
theorem dX0_now_84 : decode cX0_now 84 = .ok (.ireturn, 1) := dk_172 (dk_at dksX0_now_3 20 rfl rfl)
theorem dX0_now_85 : decode cX0_now 85 = .ok (.aload_n 0, 1) := dk_42 (dk_at dksX0_now_3 21 rfl rfl)
theorem dX0_now_86 : decode cX0_now 86 = .ok (.getfield 71, 3) := dk_180 0 71 (dk_at dksX0_now_4 0 rfl rfl)
theorem dX0_now_89 : decode cX0_now 89 = .ok (.getfield 184, 3) := dk_180 0 184 (dk_at dksX0_now_4 3 rfl rfl)
theorem dX0_now_92 : decode cX0_now 92 = .ok (.iconst 0, 1) := dk_3 (dk_at dksX0_now_4 6 rfl rfl)
theorem dX0_now_93 : decode cX0_now 93 = .ok (.iaload, 1) := dk_46 (dk_at dksX0_now_4 7 rfl rfl)
theorem dX0_now_94 : decode cX0_now 94 = .ok (.aload_n 0, 1) := dk_42 (dk_at dksX0_now_4 8 rfl rfl)
theorem dX0_now_95 : decode cX0_now 95 = .ok (.getfield 71, 3) := dk_180 0 71 (dk_at dksX0_now_4 9 rfl rfl)
theorem dX0_now_98 : decode cX0_now 98 = .ok (.getfield 133, 3) := dk_180 0 133 (dk_at dksX0_now_4 12 rfl rfl)
theorem dX0_now_101 : decode cX0_now 101 = .ok (.iconst 0, 1) := dk_3 (dk_at dksX0_now_4 15 rfl rfl)
theorem dX0_now_102 : decode cX0_now 102 = .ok (.iaload, 1) := dk_46 (dk_at dksX0_now_4 16 rfl rfl)
theorem dX0_now_103 : decode cX0_now 103 = .ok (.invokestatic 136, 3) := dk_184 0 136 (dk_at dksX0_now_4 17 rfl rfl)
theorem dX0_now_106 : decode cX0_now 106 = .ok (.ireturn, 1) := dk_172 (dk_at dksX0_now_4 20 rfl rfl)
theorem dX0_now_107 : decode cX0_now 107 = .ok (.aload_n 0, 1) := dk_42 (dk_at dksX0_now_4 21 rfl rfl)
theorem dX0_now_108 : decode cX0_now 108 = .ok (.iconst 0, 1) := dk_3 (dk_at dksX0_now_4 22 rfl rfl)
theorem dX0_now_109 : decode cX0_now 109 = .ok (.invokevirtual 124, 3) := dk_182 0 124 (dk_at dksX0_now_5 0 rfl rfl)
theorem dX0_now_112 : decode cX0_now 112 = .ok (.ireturn, 1) := dk_172 (dk_at dksX0_now_5 3 rfl rfl)
abbrev cX0_havingIt : ByteArray := prog_1_method_24_code
def yX0_havingIt : MethodName := ⟨RX0, "havingIt", "()I"⟩
def dkwX0_havingIt_1 : List UInt8 := [4, 28, 120, 167, 0, 4, 3, 128, 60, 132, 2, 1, 167, 255, 224, 27, 172]
abbrev dktX0_havingIt_1 : List UInt8 := dkwX0_havingIt_1 ++ []
def dkwX0_havingIt_0 : List UInt8 := [3, 60, 3, 61, 28, 42, 180, 0, 71, 180, 0, 122, 162, 0, 27, 27, 42, 28, 182, 0, 168, 153, 0, 9]
abbrev dktX0_havingIt_0 : List UInt8 := dkwX0_havingIt_0 ++ dktX0_havingIt_1
theorem dksX0_havingIt_0 : cX0_havingIt.data.toList.drop 0 = dktX0_havingIt_0 := by decide +kernel
theorem dksX0_havingIt_1 : cX0_havingIt.data.toList.drop 24 = dktX0_havingIt_1 := dk_seg dksX0_havingIt_0 24 rfl rfl
theorem dX0_havingIt_0 : decode cX0_havingIt 0 = .ok (.iconst 0, 1) := dk_3 (dk_at dksX0_havingIt_0 0 rfl rfl)
theorem dX0_havingIt_1 : decode cX0_havingIt 1 = .ok (.istore_n 1, 1) := dk_60 (dk_at dksX0_havingIt_0 1 rfl rfl)
theorem dX0_havingIt_2 : decode cX0_havingIt 2 = .ok (.iconst 0, 1) := dk_3 (dk_at dksX0_havingIt_0 2 rfl rfl)
theorem dX0_havingIt_3 : decode cX0_havingIt 3 = .ok (.istore_n 2, 1) := dk_61 (dk_at dksX0_havingIt_0 3 rfl rfl)
theorem dX0_havingIt_4 : decode cX0_havingIt 4 = .ok (.iload_n 2, 1) := dk_28 (dk_at dksX0_havingIt_0 4 rfl rfl)
theorem dX0_havingIt_5 : decode cX0_havingIt 5 = .ok (.aload_n 0, 1) := dk_42 (dk_at dksX0_havingIt_0 5 rfl rfl)
theorem dX0_havingIt_6 : decode cX0_havingIt 6 = .ok (.getfield 71, 3) := dk_180 0 71 (dk_at dksX0_havingIt_0 6 rfl rfl)
theorem dX0_havingIt_9 : decode cX0_havingIt 9 = .ok (.getfield 122, 3) := dk_180 0 122 (dk_at dksX0_havingIt_0 9 rfl rfl)
theorem dX0_havingIt_12 : decode cX0_havingIt 12 = .ok (.if_icmp .ge 27, 3) := dk_162 0 27 (dk_at dksX0_havingIt_0 12 rfl rfl)
theorem dX0_havingIt_15 : decode cX0_havingIt 15 = .ok (.iload_n 1, 1) := dk_27 (dk_at dksX0_havingIt_0 15 rfl rfl)
theorem dX0_havingIt_16 : decode cX0_havingIt 16 = .ok (.aload_n 0, 1) := dk_42 (dk_at dksX0_havingIt_0 16 rfl rfl)
theorem dX0_havingIt_17 : decode cX0_havingIt 17 = .ok (.iload_n 2, 1) := dk_28 (dk_at dksX0_havingIt_0 17 rfl rfl)
theorem dX0_havingIt_18 : decode cX0_havingIt 18 = .ok (.invokevirtual 168, 3) := dk_182 0 168 (dk_at dksX0_havingIt_0 18 rfl rfl)
theorem dX0_havingIt_21 : decode cX0_havingIt 21 = .ok (.ifCond .eq 9, 3) := dk_153 0 9 (dk_at dksX0_havingIt_0 21 rfl rfl)
theorem dX0_havingIt_24 : decode cX0_havingIt 24 = .ok (.iconst 1, 1) := dk_4 (dk_at dksX0_havingIt_1 0 rfl rfl)
theorem dX0_havingIt_25 : decode cX0_havingIt 25 = .ok (.iload_n 2, 1) := dk_28 (dk_at dksX0_havingIt_1 1 rfl rfl)
theorem dX0_havingIt_26 : decode cX0_havingIt 26 = .ok (.ishl, 1) := dk_120 (dk_at dksX0_havingIt_1 2 rfl rfl)
theorem dX0_havingIt_27 : decode cX0_havingIt 27 = .ok (.goto 4, 3) := dk_167 0 4 (dk_at dksX0_havingIt_1 3 rfl rfl)
theorem dX0_havingIt_30 : decode cX0_havingIt 30 = .ok (.iconst 0, 1) := dk_3 (dk_at dksX0_havingIt_1 6 rfl rfl)
theorem dX0_havingIt_31 : decode cX0_havingIt 31 = .ok (.ior, 1) := dk_128 (dk_at dksX0_havingIt_1 7 rfl rfl)
theorem dX0_havingIt_32 : decode cX0_havingIt 32 = .ok (.istore_n 1, 1) := dk_60 (dk_at dksX0_havingIt_1 8 rfl rfl)
theorem dX0_havingIt_33 : decode cX0_havingIt 33 = .ok (.iinc 2 1, 3) := dk_132 2 1 (dk_at dksX0_havingIt_1 9 rfl rfl)
theorem dX0_havingIt_36 : decode cX0_havingIt 36 = .ok (.goto (-32), 3) := dk_167 255 224 (dk_at dksX0_havingIt_1 12 rfl rfl)
theorem dX0_havingIt_39 : decode cX0_havingIt 39 = .ok (.iload_n 1, 1) := dk_27 (dk_at dksX0_havingIt_1 15 rfl rfl)
theorem dX0_havingIt_40 : decode cX0_havingIt 40 = .ok (.ireturn, 1) := dk_172 (dk_at dksX0_havingIt_1 16 rfl rfl)
abbrev cX0_ear : ByteArray := prog_1_method_39_code
def yX0_ear : MethodName := ⟨RX0, "ear", "(I)I"⟩
def dkwX0_ear_2 : List UInt8 := [180, 0, 71, 182, 0, 239, 172]
abbrev dktX0_ear_2 : List UInt8 := dkwX0_ear_2 ++ []
def dkwX0_ear_1 : List UInt8 := [154, 0, 9, 42, 6, 182, 0, 124, 172, 27, 154, 0, 13, 42, 180, 0, 71, 182, 0, 236, 167, 0, 10, 42]
abbrev dktX0_ear_1 : List UInt8 := dkwX0_ear_1 ++ dktX0_ear_2
def dkwX0_ear_0 : List UInt8 := [27, 3, 4, 184, 0, 9, 154, 0, 9, 42, 3, 182, 0, 124, 172, 42, 180, 0, 71, 182, 0, 224]
abbrev dktX0_ear_0 : List UInt8 := dkwX0_ear_0 ++ dktX0_ear_1
theorem dksX0_ear_0 : cX0_ear.data.toList.drop 0 = dktX0_ear_0 := by decide +kernel
theorem dksX0_ear_1 : cX0_ear.data.toList.drop 22 = dktX0_ear_1 := dk_seg dksX0_ear_0 22 rfl rfl
theorem dksX0_ear_2 : cX0_ear.data.toList.drop 46 = dktX0_ear_2 := dk_seg dksX0_ear_1 24 rfl rfl
theorem dX0_ear_0 : decode cX0_ear 0 = .ok (.iload_n 1, 1) := dk_27 (dk_at dksX0_ear_0 0 rfl rfl)
theorem dX0_ear_1 : decode cX0_ear 1 = .ok (.iconst 0, 1) := dk_3 (dk_at dksX0_ear_0 1 rfl rfl)
theorem dX0_ear_2 : decode cX0_ear 2 = .ok (.iconst 1, 1) := dk_4 (dk_at dksX0_ear_0 2 rfl rfl)
theorem dX0_ear_3 : decode cX0_ear 3 = .ok (.invokestatic 9, 3) := dk_184 0 9 (dk_at dksX0_ear_0 3 rfl rfl)
theorem dX0_ear_6 : decode cX0_ear 6 = .ok (.ifCond .ne 9, 3) := dk_154 0 9 (dk_at dksX0_ear_0 6 rfl rfl)
theorem dX0_ear_9 : decode cX0_ear 9 = .ok (.aload_n 0, 1) := dk_42 (dk_at dksX0_ear_0 9 rfl rfl)
theorem dX0_ear_10 : decode cX0_ear 10 = .ok (.iconst 0, 1) := dk_3 (dk_at dksX0_ear_0 10 rfl rfl)
theorem dX0_ear_11 : decode cX0_ear 11 = .ok (.invokevirtual 124, 3) := dk_182 0 124 (dk_at dksX0_ear_0 11 rfl rfl)
theorem dX0_ear_14 : decode cX0_ear 14 = .ok (.ireturn, 1) := dk_172 (dk_at dksX0_ear_0 14 rfl rfl)
theorem dX0_ear_15 : decode cX0_ear 15 = .ok (.aload_n 0, 1) := dk_42 (dk_at dksX0_ear_0 15 rfl rfl)
theorem dX0_ear_16 : decode cX0_ear 16 = .ok (.getfield 71, 3) := dk_180 0 71 (dk_at dksX0_ear_0 16 rfl rfl)
theorem dX0_ear_19 : decode cX0_ear 19 = .ok (.invokevirtual 224, 3) := dk_182 0 224 (dk_at dksX0_ear_0 19 rfl rfl)
theorem dX0_ear_22 : decode cX0_ear 22 = .ok (.ifCond .ne 9, 3) := dk_154 0 9 (dk_at dksX0_ear_1 0 rfl rfl)
theorem dX0_ear_25 : decode cX0_ear 25 = .ok (.aload_n 0, 1) := dk_42 (dk_at dksX0_ear_1 3 rfl rfl)
theorem dX0_ear_26 : decode cX0_ear 26 = .ok (.iconst 3, 1) := dk_6 (dk_at dksX0_ear_1 4 rfl rfl)
theorem dX0_ear_27 : decode cX0_ear 27 = .ok (.invokevirtual 124, 3) := dk_182 0 124 (dk_at dksX0_ear_1 5 rfl rfl)
theorem dX0_ear_30 : decode cX0_ear 30 = .ok (.ireturn, 1) := dk_172 (dk_at dksX0_ear_1 8 rfl rfl)
theorem dX0_ear_31 : decode cX0_ear 31 = .ok (.iload_n 1, 1) := dk_27 (dk_at dksX0_ear_1 9 rfl rfl)
theorem dX0_ear_32 : decode cX0_ear 32 = .ok (.ifCond .ne 13, 3) := dk_154 0 13 (dk_at dksX0_ear_1 10 rfl rfl)
theorem dX0_ear_35 : decode cX0_ear 35 = .ok (.aload_n 0, 1) := dk_42 (dk_at dksX0_ear_1 13 rfl rfl)
theorem dX0_ear_36 : decode cX0_ear 36 = .ok (.getfield 71, 3) := dk_180 0 71 (dk_at dksX0_ear_1 14 rfl rfl)
theorem dX0_ear_39 : decode cX0_ear 39 = .ok (.invokevirtual 236, 3) := dk_182 0 236 (dk_at dksX0_ear_1 17 rfl rfl)
theorem dX0_ear_42 : decode cX0_ear 42 = .ok (.goto 10, 3) := dk_167 0 10 (dk_at dksX0_ear_1 20 rfl rfl)
theorem dX0_ear_45 : decode cX0_ear 45 = .ok (.aload_n 0, 1) := dk_42 (dk_at dksX0_ear_1 23 rfl rfl)
theorem dX0_ear_46 : decode cX0_ear 46 = .ok (.getfield 71, 3) := dk_180 0 71 (dk_at dksX0_ear_2 0 rfl rfl)
theorem dX0_ear_49 : decode cX0_ear 49 = .ok (.invokevirtual 239, 3) := dk_182 0 239 (dk_at dksX0_ear_2 3 rfl rfl)
theorem dX0_ear_52 : decode cX0_ear 52 = .ok (.ireturn, 1) := dk_172 (dk_at dksX0_ear_2 6 rfl rfl)
abbrev cX0_where : ByteArray := prog_1_method_41_code
def yX0_where : MethodName := ⟨RX0, "where", "(I)I"⟩
def dkwX0_where_1 : List UInt8 := [172]
abbrev dktX0_where_1 : List UInt8 := dkwX0_where_1 ++ []
def dkwX0_where_0 : List UInt8 := [27, 3, 17, 0, 200, 184, 0, 9, 153, 0, 11, 42, 27, 182, 0, 242, 167, 0, 8, 42, 3, 182, 0, 124]
abbrev dktX0_where_0 : List UInt8 := dkwX0_where_0 ++ dktX0_where_1
theorem dksX0_where_0 : cX0_where.data.toList.drop 0 = dktX0_where_0 := by decide +kernel
theorem dksX0_where_1 : cX0_where.data.toList.drop 24 = dktX0_where_1 := dk_seg dksX0_where_0 24 rfl rfl
theorem dX0_where_0 : decode cX0_where 0 = .ok (.iload_n 1, 1) := dk_27 (dk_at dksX0_where_0 0 rfl rfl)
theorem dX0_where_1 : decode cX0_where 1 = .ok (.iconst 0, 1) := dk_3 (dk_at dksX0_where_0 1 rfl rfl)
theorem dX0_where_2 : decode cX0_where 2 = .ok (.sipush 200, 3) := dk_17 0 200 (dk_at dksX0_where_0 2 rfl rfl)
theorem dX0_where_5 : decode cX0_where 5 = .ok (.invokestatic 9, 3) := dk_184 0 9 (dk_at dksX0_where_0 5 rfl rfl)
theorem dX0_where_8 : decode cX0_where 8 = .ok (.ifCond .eq 11, 3) := dk_153 0 11 (dk_at dksX0_where_0 8 rfl rfl)
theorem dX0_where_11 : decode cX0_where 11 = .ok (.aload_n 0, 1) := dk_42 (dk_at dksX0_where_0 11 rfl rfl)
theorem dX0_where_12 : decode cX0_where 12 = .ok (.iload_n 1, 1) := dk_27 (dk_at dksX0_where_0 12 rfl rfl)
theorem dX0_where_13 : decode cX0_where 13 = .ok (.invokevirtual 242, 3) := dk_182 0 242 (dk_at dksX0_where_0 13 rfl rfl)
theorem dX0_where_16 : decode cX0_where 16 = .ok (.goto 8, 3) := dk_167 0 8 (dk_at dksX0_where_0 16 rfl rfl)
theorem dX0_where_19 : decode cX0_where 19 = .ok (.aload_n 0, 1) := dk_42 (dk_at dksX0_where_0 19 rfl rfl)
theorem dX0_where_20 : decode cX0_where 20 = .ok (.iconst 0, 1) := dk_3 (dk_at dksX0_where_0 20 rfl rfl)
theorem dX0_where_21 : decode cX0_where 21 = .ok (.invokevirtual 124, 3) := dk_182 0 124 (dk_at dksX0_where_0 21 rfl rfl)
theorem dX0_where_24 : decode cX0_where 24 = .ok (.ireturn, 1) := dk_172 (dk_at dksX0_where_1 0 rfl rfl)
abbrev cX0_cellBehind : ByteArray := prog_1_method_40_code
def yX0_cellBehind : MethodName := ⟨RX0, "cellBehind", "(I)I"⟩
def dkwX0_cellBehind_1 : List UInt8 := [180, 0, 78, 182, 0, 155, 28, 172, 78, 42, 180, 0, 71, 42, 180, 0, 78, 182, 0, 155, 45, 191]
abbrev dktX0_cellBehind_1 : List UInt8 := dkwX0_cellBehind_1 ++ []
def dkwX0_cellBehind_0 : List UInt8 := [42, 180, 0, 78, 42, 180, 0, 71, 182, 0, 155, 42, 27, 182, 0, 218, 61, 42, 180, 0, 71, 42]
abbrev dktX0_cellBehind_0 : List UInt8 := dkwX0_cellBehind_0 ++ dktX0_cellBehind_1
theorem dksX0_cellBehind_0 : cX0_cellBehind.data.toList.drop 0 = dktX0_cellBehind_0 := by decide +kernel
theorem dksX0_cellBehind_1 : cX0_cellBehind.data.toList.drop 22 = dktX0_cellBehind_1 := dk_seg dksX0_cellBehind_0 22 rfl rfl
theorem dX0_cellBehind_0 : decode cX0_cellBehind 0 = .ok (.aload_n 0, 1) := dk_42 (dk_at dksX0_cellBehind_0 0 rfl rfl)
theorem dX0_cellBehind_1 : decode cX0_cellBehind 1 = .ok (.getfield 78, 3) := dk_180 0 78 (dk_at dksX0_cellBehind_0 1 rfl rfl)
theorem dX0_cellBehind_4 : decode cX0_cellBehind 4 = .ok (.aload_n 0, 1) := dk_42 (dk_at dksX0_cellBehind_0 4 rfl rfl)
theorem dX0_cellBehind_5 : decode cX0_cellBehind 5 = .ok (.getfield 71, 3) := dk_180 0 71 (dk_at dksX0_cellBehind_0 5 rfl rfl)
theorem dX0_cellBehind_8 : decode cX0_cellBehind 8 = .ok (.invokevirtual 155, 3) := dk_182 0 155 (dk_at dksX0_cellBehind_0 8 rfl rfl)
theorem dX0_cellBehind_11 : decode cX0_cellBehind 11 = .ok (.aload_n 0, 1) := dk_42 (dk_at dksX0_cellBehind_0 11 rfl rfl)
theorem dX0_cellBehind_12 : decode cX0_cellBehind 12 = .ok (.iload_n 1, 1) := dk_27 (dk_at dksX0_cellBehind_0 12 rfl rfl)
theorem dX0_cellBehind_13 : decode cX0_cellBehind 13 = .ok (.invokevirtual 218, 3) := dk_182 0 218 (dk_at dksX0_cellBehind_0 13 rfl rfl)
theorem dX0_cellBehind_16 : decode cX0_cellBehind 16 = .ok (.istore_n 2, 1) := dk_61 (dk_at dksX0_cellBehind_0 16 rfl rfl)
theorem dX0_cellBehind_17 : decode cX0_cellBehind 17 = .ok (.aload_n 0, 1) := dk_42 (dk_at dksX0_cellBehind_0 17 rfl rfl)
theorem dX0_cellBehind_18 : decode cX0_cellBehind 18 = .ok (.getfield 71, 3) := dk_180 0 71 (dk_at dksX0_cellBehind_0 18 rfl rfl)
theorem dX0_cellBehind_21 : decode cX0_cellBehind 21 = .ok (.aload_n 0, 1) := dk_42 (dk_at dksX0_cellBehind_0 21 rfl rfl)
theorem dX0_cellBehind_22 : decode cX0_cellBehind 22 = .ok (.getfield 78, 3) := dk_180 0 78 (dk_at dksX0_cellBehind_1 0 rfl rfl)
theorem dX0_cellBehind_25 : decode cX0_cellBehind 25 = .ok (.invokevirtual 155, 3) := dk_182 0 155 (dk_at dksX0_cellBehind_1 3 rfl rfl)
theorem dX0_cellBehind_28 : decode cX0_cellBehind 28 = .ok (.iload_n 2, 1) := dk_28 (dk_at dksX0_cellBehind_1 6 rfl rfl)
theorem dX0_cellBehind_29 : decode cX0_cellBehind 29 = .ok (.ireturn, 1) := dk_172 (dk_at dksX0_cellBehind_1 7 rfl rfl)
theorem dX0_cellBehind_30 : decode cX0_cellBehind 30 = .ok (.astore_n 3, 1) := dk_78 (dk_at dksX0_cellBehind_1 8 rfl rfl)
theorem dX0_cellBehind_31 : decode cX0_cellBehind 31 = .ok (.aload_n 0, 1) := dk_42 (dk_at dksX0_cellBehind_1 9 rfl rfl)
theorem dX0_cellBehind_32 : decode cX0_cellBehind 32 = .ok (.getfield 71, 3) := dk_180 0 71 (dk_at dksX0_cellBehind_1 10 rfl rfl)
theorem dX0_cellBehind_35 : decode cX0_cellBehind 35 = .ok (.aload_n 0, 1) := dk_42 (dk_at dksX0_cellBehind_1 13 rfl rfl)
theorem dX0_cellBehind_36 : decode cX0_cellBehind 36 = .ok (.getfield 78, 3) := dk_180 0 78 (dk_at dksX0_cellBehind_1 14 rfl rfl)
theorem dX0_cellBehind_39 : decode cX0_cellBehind 39 = .ok (.invokevirtual 155, 3) := dk_182 0 155 (dk_at dksX0_cellBehind_1 17 rfl rfl)
theorem dX0_cellBehind_42 : decode cX0_cellBehind 42 = .ok (.aload_n 3, 1) := dk_45 (dk_at dksX0_cellBehind_1 20 rfl rfl)
theorem dX0_cellBehind_43 : decode cX0_cellBehind 43 = .ok (.athrow, 1) := dk_191 (dk_at dksX0_cellBehind_1 21 rfl rfl)
abbrev cX0_heard : ByteArray := prog_1_method_43_code
def yX0_heard : MethodName := ⟨RX0, "heard", "(I)I"⟩
def dkwX0_heard_1 : List UInt8 := [172]
abbrev dktX0_heard_1 : List UInt8 := dkwX0_heard_1 ++ []
def dkwX0_heard_0 : List UInt8 := [27, 3, 17, 0, 200, 184, 0, 9, 153, 0, 11, 42, 27, 182, 0, 245, 167, 0, 8, 42, 3, 182, 0, 124]
abbrev dktX0_heard_0 : List UInt8 := dkwX0_heard_0 ++ dktX0_heard_1
theorem dksX0_heard_0 : cX0_heard.data.toList.drop 0 = dktX0_heard_0 := by decide +kernel
theorem dksX0_heard_1 : cX0_heard.data.toList.drop 24 = dktX0_heard_1 := dk_seg dksX0_heard_0 24 rfl rfl
theorem dX0_heard_0 : decode cX0_heard 0 = .ok (.iload_n 1, 1) := dk_27 (dk_at dksX0_heard_0 0 rfl rfl)
theorem dX0_heard_1 : decode cX0_heard 1 = .ok (.iconst 0, 1) := dk_3 (dk_at dksX0_heard_0 1 rfl rfl)
theorem dX0_heard_2 : decode cX0_heard 2 = .ok (.sipush 200, 3) := dk_17 0 200 (dk_at dksX0_heard_0 2 rfl rfl)
theorem dX0_heard_5 : decode cX0_heard 5 = .ok (.invokestatic 9, 3) := dk_184 0 9 (dk_at dksX0_heard_0 5 rfl rfl)
theorem dX0_heard_8 : decode cX0_heard 8 = .ok (.ifCond .eq 11, 3) := dk_153 0 11 (dk_at dksX0_heard_0 8 rfl rfl)
theorem dX0_heard_11 : decode cX0_heard 11 = .ok (.aload_n 0, 1) := dk_42 (dk_at dksX0_heard_0 11 rfl rfl)
theorem dX0_heard_12 : decode cX0_heard 12 = .ok (.iload_n 1, 1) := dk_27 (dk_at dksX0_heard_0 12 rfl rfl)
theorem dX0_heard_13 : decode cX0_heard 13 = .ok (.invokevirtual 245, 3) := dk_182 0 245 (dk_at dksX0_heard_0 13 rfl rfl)
theorem dX0_heard_16 : decode cX0_heard 16 = .ok (.goto 8, 3) := dk_167 0 8 (dk_at dksX0_heard_0 16 rfl rfl)
theorem dX0_heard_19 : decode cX0_heard 19 = .ok (.aload_n 0, 1) := dk_42 (dk_at dksX0_heard_0 19 rfl rfl)
theorem dX0_heard_20 : decode cX0_heard 20 = .ok (.iconst 0, 1) := dk_3 (dk_at dksX0_heard_0 20 rfl rfl)
theorem dX0_heard_21 : decode cX0_heard 21 = .ok (.invokevirtual 124, 3) := dk_182 0 124 (dk_at dksX0_heard_0 21 rfl rfl)
theorem dX0_heard_24 : decode cX0_heard 24 = .ok (.ireturn, 1) := dk_172 (dk_at dksX0_heard_1 0 rfl rfl)
abbrev cX0_heardIn : ByteArray := prog_1_method_42_code
def yX0_heardIn : MethodName := ⟨RX0, "heardIn", "(I)I"⟩
def dkwX0_heardIn_3 : List UInt8 := [180, 0, 71, 42, 180, 0, 78, 182, 0, 155, 25, 4, 191]
abbrev dktX0_heardIn_3 : List UInt8 := dkwX0_heardIn_3 ++ []
def dkwX0_heardIn_2 : List UInt8 := [132, 3, 1, 167, 255, 223, 28, 62, 42, 180, 0, 71, 42, 180, 0, 78, 182, 0, 155, 29, 172, 58, 4, 42]
abbrev dktX0_heardIn_2 : List UInt8 := dkwX0_heardIn_2 ++ dktX0_heardIn_3
def dkwX0_heardIn_1 : List UInt8 := [180, 0, 71, 182, 0, 224, 153, 0, 7, 4, 167, 0, 4, 3, 96, 61, 42, 180, 0, 71, 182, 0, 126]
abbrev dktX0_heardIn_1 : List UInt8 := dkwX0_heardIn_1 ++ dktX0_heardIn_2
def dkwX0_heardIn_0 : List UInt8 := [42, 180, 0, 78, 42, 180, 0, 71, 182, 0, 155, 3, 61, 3, 62, 29, 27, 162, 0, 34, 28, 42]
abbrev dktX0_heardIn_0 : List UInt8 := dkwX0_heardIn_0 ++ dktX0_heardIn_1
theorem dksX0_heardIn_0 : cX0_heardIn.data.toList.drop 0 = dktX0_heardIn_0 := by decide +kernel
theorem dksX0_heardIn_1 : cX0_heardIn.data.toList.drop 22 = dktX0_heardIn_1 := dk_seg dksX0_heardIn_0 22 rfl rfl
theorem dksX0_heardIn_2 : cX0_heardIn.data.toList.drop 45 = dktX0_heardIn_2 := dk_seg dksX0_heardIn_1 23 rfl rfl
theorem dksX0_heardIn_3 : cX0_heardIn.data.toList.drop 69 = dktX0_heardIn_3 := dk_seg dksX0_heardIn_2 24 rfl rfl
theorem dX0_heardIn_0 : decode cX0_heardIn 0 = .ok (.aload_n 0, 1) := dk_42 (dk_at dksX0_heardIn_0 0 rfl rfl)
theorem dX0_heardIn_1 : decode cX0_heardIn 1 = .ok (.getfield 78, 3) := dk_180 0 78 (dk_at dksX0_heardIn_0 1 rfl rfl)
theorem dX0_heardIn_4 : decode cX0_heardIn 4 = .ok (.aload_n 0, 1) := dk_42 (dk_at dksX0_heardIn_0 4 rfl rfl)
theorem dX0_heardIn_5 : decode cX0_heardIn 5 = .ok (.getfield 71, 3) := dk_180 0 71 (dk_at dksX0_heardIn_0 5 rfl rfl)
theorem dX0_heardIn_8 : decode cX0_heardIn 8 = .ok (.invokevirtual 155, 3) := dk_182 0 155 (dk_at dksX0_heardIn_0 8 rfl rfl)
theorem dX0_heardIn_11 : decode cX0_heardIn 11 = .ok (.iconst 0, 1) := dk_3 (dk_at dksX0_heardIn_0 11 rfl rfl)
theorem dX0_heardIn_12 : decode cX0_heardIn 12 = .ok (.istore_n 2, 1) := dk_61 (dk_at dksX0_heardIn_0 12 rfl rfl)
theorem dX0_heardIn_13 : decode cX0_heardIn 13 = .ok (.iconst 0, 1) := dk_3 (dk_at dksX0_heardIn_0 13 rfl rfl)
theorem dX0_heardIn_14 : decode cX0_heardIn 14 = .ok (.istore_n 3, 1) := dk_62 (dk_at dksX0_heardIn_0 14 rfl rfl)
theorem dX0_heardIn_15 : decode cX0_heardIn 15 = .ok (.iload_n 3, 1) := dk_29 (dk_at dksX0_heardIn_0 15 rfl rfl)
theorem dX0_heardIn_16 : decode cX0_heardIn 16 = .ok (.iload_n 1, 1) := dk_27 (dk_at dksX0_heardIn_0 16 rfl rfl)
theorem dX0_heardIn_17 : decode cX0_heardIn 17 = .ok (.if_icmp .ge 34, 3) := dk_162 0 34 (dk_at dksX0_heardIn_0 17 rfl rfl)
theorem dX0_heardIn_20 : decode cX0_heardIn 20 = .ok (.iload_n 2, 1) := dk_28 (dk_at dksX0_heardIn_0 20 rfl rfl)
theorem dX0_heardIn_21 : decode cX0_heardIn 21 = .ok (.aload_n 0, 1) := dk_42 (dk_at dksX0_heardIn_0 21 rfl rfl)
theorem dX0_heardIn_22 : decode cX0_heardIn 22 = .ok (.getfield 71, 3) := dk_180 0 71 (dk_at dksX0_heardIn_1 0 rfl rfl)
theorem dX0_heardIn_25 : decode cX0_heardIn 25 = .ok (.invokevirtual 224, 3) := dk_182 0 224 (dk_at dksX0_heardIn_1 3 rfl rfl)
theorem dX0_heardIn_28 : decode cX0_heardIn 28 = .ok (.ifCond .eq 7, 3) := dk_153 0 7 (dk_at dksX0_heardIn_1 6 rfl rfl)
theorem dX0_heardIn_31 : decode cX0_heardIn 31 = .ok (.iconst 1, 1) := dk_4 (dk_at dksX0_heardIn_1 9 rfl rfl)
theorem dX0_heardIn_32 : decode cX0_heardIn 32 = .ok (.goto 4, 3) := dk_167 0 4 (dk_at dksX0_heardIn_1 10 rfl rfl)
theorem dX0_heardIn_35 : decode cX0_heardIn 35 = .ok (.iconst 0, 1) := dk_3 (dk_at dksX0_heardIn_1 13 rfl rfl)
theorem dX0_heardIn_36 : decode cX0_heardIn 36 = .ok (.iadd, 1) := dk_96 (dk_at dksX0_heardIn_1 14 rfl rfl)
theorem dX0_heardIn_37 : decode cX0_heardIn 37 = .ok (.istore_n 2, 1) := dk_61 (dk_at dksX0_heardIn_1 15 rfl rfl)
theorem dX0_heardIn_38 : decode cX0_heardIn 38 = .ok (.aload_n 0, 1) := dk_42 (dk_at dksX0_heardIn_1 16 rfl rfl)
theorem dX0_heardIn_39 : decode cX0_heardIn 39 = .ok (.getfield 71, 3) := dk_180 0 71 (dk_at dksX0_heardIn_1 17 rfl rfl)
theorem dX0_heardIn_42 : decode cX0_heardIn 42 = .ok (.invokevirtual 126, 3) := dk_182 0 126 (dk_at dksX0_heardIn_1 20 rfl rfl)
theorem dX0_heardIn_45 : decode cX0_heardIn 45 = .ok (.iinc 3 1, 3) := dk_132 3 1 (dk_at dksX0_heardIn_2 0 rfl rfl)
theorem dX0_heardIn_48 : decode cX0_heardIn 48 = .ok (.goto (-33), 3) := dk_167 255 223 (dk_at dksX0_heardIn_2 3 rfl rfl)
theorem dX0_heardIn_51 : decode cX0_heardIn 51 = .ok (.iload_n 2, 1) := dk_28 (dk_at dksX0_heardIn_2 6 rfl rfl)
theorem dX0_heardIn_52 : decode cX0_heardIn 52 = .ok (.istore_n 3, 1) := dk_62 (dk_at dksX0_heardIn_2 7 rfl rfl)
theorem dX0_heardIn_53 : decode cX0_heardIn 53 = .ok (.aload_n 0, 1) := dk_42 (dk_at dksX0_heardIn_2 8 rfl rfl)
theorem dX0_heardIn_54 : decode cX0_heardIn 54 = .ok (.getfield 71, 3) := dk_180 0 71 (dk_at dksX0_heardIn_2 9 rfl rfl)
theorem dX0_heardIn_57 : decode cX0_heardIn 57 = .ok (.aload_n 0, 1) := dk_42 (dk_at dksX0_heardIn_2 12 rfl rfl)
theorem dX0_heardIn_58 : decode cX0_heardIn 58 = .ok (.getfield 78, 3) := dk_180 0 78 (dk_at dksX0_heardIn_2 13 rfl rfl)
theorem dX0_heardIn_61 : decode cX0_heardIn 61 = .ok (.invokevirtual 155, 3) := dk_182 0 155 (dk_at dksX0_heardIn_2 16 rfl rfl)
theorem dX0_heardIn_64 : decode cX0_heardIn 64 = .ok (.iload_n 3, 1) := dk_29 (dk_at dksX0_heardIn_2 19 rfl rfl)
theorem dX0_heardIn_65 : decode cX0_heardIn 65 = .ok (.ireturn, 1) := dk_172 (dk_at dksX0_heardIn_2 20 rfl rfl)
theorem dX0_heardIn_66 : decode cX0_heardIn 66 = .ok (.astore 4, 2) := dk_58 4 (dk_at dksX0_heardIn_2 21 rfl rfl)
theorem dX0_heardIn_68 : decode cX0_heardIn 68 = .ok (.aload_n 0, 1) := dk_42 (dk_at dksX0_heardIn_2 23 rfl rfl)
theorem dX0_heardIn_69 : decode cX0_heardIn 69 = .ok (.getfield 71, 3) := dk_180 0 71 (dk_at dksX0_heardIn_3 0 rfl rfl)
theorem dX0_heardIn_72 : decode cX0_heardIn 72 = .ok (.aload_n 0, 1) := dk_42 (dk_at dksX0_heardIn_3 3 rfl rfl)
theorem dX0_heardIn_73 : decode cX0_heardIn 73 = .ok (.getfield 78, 3) := dk_180 0 78 (dk_at dksX0_heardIn_3 4 rfl rfl)
theorem dX0_heardIn_76 : decode cX0_heardIn 76 = .ok (.invokevirtual 155, 3) := dk_182 0 155 (dk_at dksX0_heardIn_3 7 rfl rfl)
theorem dX0_heardIn_79 : decode cX0_heardIn 79 = .ok (.aload 4, 2) := dk_25 4 (dk_at dksX0_heardIn_3 10 rfl rfl)
theorem dX0_heardIn_81 : decode cX0_heardIn 81 = .ok (.athrow, 1) := dk_191 (dk_at dksX0_heardIn_3 12 rfl rfl)
abbrev cX0_when : ByteArray := prog_1_method_45_code
def yX0_when : MethodName := ⟨RX0, "when", "(I)I"⟩
def dkwX0_when_1 : List UInt8 := [172]
abbrev dktX0_when_1 : List UInt8 := dkwX0_when_1 ++ []
def dkwX0_when_0 : List UInt8 := [27, 184, 0, 17, 153, 0, 15, 42, 42, 27, 182, 0, 248, 182, 0, 251, 167, 0, 8, 42, 3, 182, 0, 124]
abbrev dktX0_when_0 : List UInt8 := dkwX0_when_0 ++ dktX0_when_1
theorem dksX0_when_0 : cX0_when.data.toList.drop 0 = dktX0_when_0 := by decide +kernel
theorem dksX0_when_1 : cX0_when.data.toList.drop 24 = dktX0_when_1 := dk_seg dksX0_when_0 24 rfl rfl
theorem dX0_when_0 : decode cX0_when 0 = .ok (.iload_n 1, 1) := dk_27 (dk_at dksX0_when_0 0 rfl rfl)
theorem dX0_when_1 : decode cX0_when 1 = .ok (.invokestatic 17, 3) := dk_184 0 17 (dk_at dksX0_when_0 1 rfl rfl)
theorem dX0_when_4 : decode cX0_when 4 = .ok (.ifCond .eq 15, 3) := dk_153 0 15 (dk_at dksX0_when_0 4 rfl rfl)
theorem dX0_when_7 : decode cX0_when 7 = .ok (.aload_n 0, 1) := dk_42 (dk_at dksX0_when_0 7 rfl rfl)
theorem dX0_when_8 : decode cX0_when 8 = .ok (.aload_n 0, 1) := dk_42 (dk_at dksX0_when_0 8 rfl rfl)
theorem dX0_when_9 : decode cX0_when 9 = .ok (.iload_n 1, 1) := dk_27 (dk_at dksX0_when_0 9 rfl rfl)
theorem dX0_when_10 : decode cX0_when 10 = .ok (.invokevirtual 248, 3) := dk_182 0 248 (dk_at dksX0_when_0 10 rfl rfl)
theorem dX0_when_13 : decode cX0_when 13 = .ok (.invokevirtual 251, 3) := dk_182 0 251 (dk_at dksX0_when_0 13 rfl rfl)
theorem dX0_when_16 : decode cX0_when 16 = .ok (.goto 8, 3) := dk_167 0 8 (dk_at dksX0_when_0 16 rfl rfl)
theorem dX0_when_19 : decode cX0_when 19 = .ok (.aload_n 0, 1) := dk_42 (dk_at dksX0_when_0 19 rfl rfl)
theorem dX0_when_20 : decode cX0_when 20 = .ok (.iconst 0, 1) := dk_3 (dk_at dksX0_when_0 20 rfl rfl)
theorem dX0_when_21 : decode cX0_when 21 = .ok (.invokevirtual 124, 3) := dk_182 0 124 (dk_at dksX0_when_0 21 rfl rfl)
theorem dX0_when_24 : decode cX0_when 24 = .ok (.ireturn, 1) := dk_172 (dk_at dksX0_when_1 0 rfl rfl)
abbrev cX0_ticksTill : ByteArray := prog_1_method_44_code
def yX0_ticksTill : MethodName := ⟨RX0, "ticksTill", "(I)I"⟩
def dkwX0_ticksTill_4 : List UInt8 := [42, 180, 0, 71, 42, 180, 0, 78, 182, 0, 155, 25, 4, 191]
abbrev dktX0_ticksTill_4 : List UInt8 := dkwX0_ticksTill_4 ++ []
def dkwX0_ticksTill_3 : List UInt8 := [163, 0, 7, 28, 167, 0, 4, 2, 62, 42, 180, 0, 71, 42, 180, 0, 78, 182, 0, 155, 29, 172, 58, 4]
abbrev dktX0_ticksTill_3 : List UInt8 := dkwX0_ticksTill_3 ++ dktX0_ticksTill_4
def dkwX0_ticksTill_2 : List UInt8 := [46, 27, 159, 0, 16, 42, 180, 0, 71, 182, 0, 126, 132, 2, 1, 167, 255, 208, 28, 17, 0, 200]
abbrev dktX0_ticksTill_2 : List UInt8 := dkwX0_ticksTill_2 ++ dktX0_ticksTill_3
def dkwX0_ticksTill_1 : List UInt8 := [160, 0, 16, 42, 180, 0, 71, 182, 0, 224, 153, 0, 19, 167, 0, 29, 42, 180, 0, 71, 180, 0, 133, 3]
abbrev dktX0_ticksTill_1 : List UInt8 := dkwX0_ticksTill_1 ++ dktX0_ticksTill_2
def dkwX0_ticksTill_0 : List UInt8 := [42, 180, 0, 78, 42, 180, 0, 71, 182, 0, 155, 3, 61, 28, 17, 0, 200, 163, 0, 47, 27, 2]
abbrev dktX0_ticksTill_0 : List UInt8 := dkwX0_ticksTill_0 ++ dktX0_ticksTill_1
theorem dksX0_ticksTill_0 : cX0_ticksTill.data.toList.drop 0 = dktX0_ticksTill_0 := by decide +kernel
theorem dksX0_ticksTill_1 : cX0_ticksTill.data.toList.drop 22 = dktX0_ticksTill_1 := dk_seg dksX0_ticksTill_0 22 rfl rfl
theorem dksX0_ticksTill_2 : cX0_ticksTill.data.toList.drop 46 = dktX0_ticksTill_2 := dk_seg dksX0_ticksTill_1 24 rfl rfl
theorem dksX0_ticksTill_3 : cX0_ticksTill.data.toList.drop 68 = dktX0_ticksTill_3 := dk_seg dksX0_ticksTill_2 22 rfl rfl
theorem dksX0_ticksTill_4 : cX0_ticksTill.data.toList.drop 92 = dktX0_ticksTill_4 := dk_seg dksX0_ticksTill_3 24 rfl rfl
theorem dX0_ticksTill_0 : decode cX0_ticksTill 0 = .ok (.aload_n 0, 1) := dk_42 (dk_at dksX0_ticksTill_0 0 rfl rfl)
theorem dX0_ticksTill_1 : decode cX0_ticksTill 1 = .ok (.getfield 78, 3) := dk_180 0 78 (dk_at dksX0_ticksTill_0 1 rfl rfl)
theorem dX0_ticksTill_4 : decode cX0_ticksTill 4 = .ok (.aload_n 0, 1) := dk_42 (dk_at dksX0_ticksTill_0 4 rfl rfl)
theorem dX0_ticksTill_5 : decode cX0_ticksTill 5 = .ok (.getfield 71, 3) := dk_180 0 71 (dk_at dksX0_ticksTill_0 5 rfl rfl)
theorem dX0_ticksTill_8 : decode cX0_ticksTill 8 = .ok (.invokevirtual 155, 3) := dk_182 0 155 (dk_at dksX0_ticksTill_0 8 rfl rfl)
theorem dX0_ticksTill_11 : decode cX0_ticksTill 11 = .ok (.iconst 0, 1) := dk_3 (dk_at dksX0_ticksTill_0 11 rfl rfl)
theorem dX0_ticksTill_12 : decode cX0_ticksTill 12 = .ok (.istore_n 2, 1) := dk_61 (dk_at dksX0_ticksTill_0 12 rfl rfl)
theorem dX0_ticksTill_13 : decode cX0_ticksTill 13 = .ok (.iload_n 2, 1) := dk_28 (dk_at dksX0_ticksTill_0 13 rfl rfl)
theorem dX0_ticksTill_14 : decode cX0_ticksTill 14 = .ok (.sipush 200, 3) := dk_17 0 200 (dk_at dksX0_ticksTill_0 14 rfl rfl)
theorem dX0_ticksTill_17 : decode cX0_ticksTill 17 = .ok (.if_icmp .gt 47, 3) := dk_163 0 47 (dk_at dksX0_ticksTill_0 17 rfl rfl)
theorem dX0_ticksTill_20 : decode cX0_ticksTill 20 = .ok (.iload_n 1, 1) := dk_27 (dk_at dksX0_ticksTill_0 20 rfl rfl)
theorem dX0_ticksTill_21 : decode cX0_ticksTill 21 = .ok (.iconst (-1), 1) := dk_2 (dk_at dksX0_ticksTill_0 21 rfl rfl)
theorem dX0_ticksTill_22 : decode cX0_ticksTill 22 = .ok (.if_icmp .ne 16, 3) := dk_160 0 16 (dk_at dksX0_ticksTill_1 0 rfl rfl)
theorem dX0_ticksTill_25 : decode cX0_ticksTill 25 = .ok (.aload_n 0, 1) := dk_42 (dk_at dksX0_ticksTill_1 3 rfl rfl)
theorem dX0_ticksTill_26 : decode cX0_ticksTill 26 = .ok (.getfield 71, 3) := dk_180 0 71 (dk_at dksX0_ticksTill_1 4 rfl rfl)
theorem dX0_ticksTill_29 : decode cX0_ticksTill 29 = .ok (.invokevirtual 224, 3) := dk_182 0 224 (dk_at dksX0_ticksTill_1 7 rfl rfl)
theorem dX0_ticksTill_32 : decode cX0_ticksTill 32 = .ok (.ifCond .eq 19, 3) := dk_153 0 19 (dk_at dksX0_ticksTill_1 10 rfl rfl)
theorem dX0_ticksTill_35 : decode cX0_ticksTill 35 = .ok (.goto 29, 3) := dk_167 0 29 (dk_at dksX0_ticksTill_1 13 rfl rfl)
theorem dX0_ticksTill_38 : decode cX0_ticksTill 38 = .ok (.aload_n 0, 1) := dk_42 (dk_at dksX0_ticksTill_1 16 rfl rfl)
theorem dX0_ticksTill_39 : decode cX0_ticksTill 39 = .ok (.getfield 71, 3) := dk_180 0 71 (dk_at dksX0_ticksTill_1 17 rfl rfl)
theorem dX0_ticksTill_42 : decode cX0_ticksTill 42 = .ok (.getfield 133, 3) := dk_180 0 133 (dk_at dksX0_ticksTill_1 20 rfl rfl)
theorem dX0_ticksTill_45 : decode cX0_ticksTill 45 = .ok (.iconst 0, 1) := dk_3 (dk_at dksX0_ticksTill_1 23 rfl rfl)
theorem dX0_ticksTill_46 : decode cX0_ticksTill 46 = .ok (.iaload, 1) := dk_46 (dk_at dksX0_ticksTill_2 0 rfl rfl)
theorem dX0_ticksTill_47 : decode cX0_ticksTill 47 = .ok (.iload_n 1, 1) := dk_27 (dk_at dksX0_ticksTill_2 1 rfl rfl)
theorem dX0_ticksTill_48 : decode cX0_ticksTill 48 = .ok (.if_icmp .eq 16, 3) := dk_159 0 16 (dk_at dksX0_ticksTill_2 2 rfl rfl)
theorem dX0_ticksTill_51 : decode cX0_ticksTill 51 = .ok (.aload_n 0, 1) := dk_42 (dk_at dksX0_ticksTill_2 5 rfl rfl)
theorem dX0_ticksTill_52 : decode cX0_ticksTill 52 = .ok (.getfield 71, 3) := dk_180 0 71 (dk_at dksX0_ticksTill_2 6 rfl rfl)
theorem dX0_ticksTill_55 : decode cX0_ticksTill 55 = .ok (.invokevirtual 126, 3) := dk_182 0 126 (dk_at dksX0_ticksTill_2 9 rfl rfl)
theorem dX0_ticksTill_58 : decode cX0_ticksTill 58 = .ok (.iinc 2 1, 3) := dk_132 2 1 (dk_at dksX0_ticksTill_2 12 rfl rfl)
theorem dX0_ticksTill_61 : decode cX0_ticksTill 61 = .ok (.goto (-48), 3) := dk_167 255 208 (dk_at dksX0_ticksTill_2 15 rfl rfl)
theorem dX0_ticksTill_64 : decode cX0_ticksTill 64 = .ok (.iload_n 2, 1) := dk_28 (dk_at dksX0_ticksTill_2 18 rfl rfl)
theorem dX0_ticksTill_65 : decode cX0_ticksTill 65 = .ok (.sipush 200, 3) := dk_17 0 200 (dk_at dksX0_ticksTill_2 19 rfl rfl)
theorem dX0_ticksTill_68 : decode cX0_ticksTill 68 = .ok (.if_icmp .gt 7, 3) := dk_163 0 7 (dk_at dksX0_ticksTill_3 0 rfl rfl)
theorem dX0_ticksTill_71 : decode cX0_ticksTill 71 = .ok (.iload_n 2, 1) := dk_28 (dk_at dksX0_ticksTill_3 3 rfl rfl)
theorem dX0_ticksTill_72 : decode cX0_ticksTill 72 = .ok (.goto 4, 3) := dk_167 0 4 (dk_at dksX0_ticksTill_3 4 rfl rfl)
theorem dX0_ticksTill_75 : decode cX0_ticksTill 75 = .ok (.iconst (-1), 1) := dk_2 (dk_at dksX0_ticksTill_3 7 rfl rfl)
theorem dX0_ticksTill_76 : decode cX0_ticksTill 76 = .ok (.istore_n 3, 1) := dk_62 (dk_at dksX0_ticksTill_3 8 rfl rfl)
theorem dX0_ticksTill_77 : decode cX0_ticksTill 77 = .ok (.aload_n 0, 1) := dk_42 (dk_at dksX0_ticksTill_3 9 rfl rfl)
theorem dX0_ticksTill_78 : decode cX0_ticksTill 78 = .ok (.getfield 71, 3) := dk_180 0 71 (dk_at dksX0_ticksTill_3 10 rfl rfl)
theorem dX0_ticksTill_81 : decode cX0_ticksTill 81 = .ok (.aload_n 0, 1) := dk_42 (dk_at dksX0_ticksTill_3 13 rfl rfl)
theorem dX0_ticksTill_82 : decode cX0_ticksTill 82 = .ok (.getfield 78, 3) := dk_180 0 78 (dk_at dksX0_ticksTill_3 14 rfl rfl)
theorem dX0_ticksTill_85 : decode cX0_ticksTill 85 = .ok (.invokevirtual 155, 3) := dk_182 0 155 (dk_at dksX0_ticksTill_3 17 rfl rfl)
theorem dX0_ticksTill_88 : decode cX0_ticksTill 88 = .ok (.iload_n 3, 1) := dk_29 (dk_at dksX0_ticksTill_3 20 rfl rfl)
theorem dX0_ticksTill_89 : decode cX0_ticksTill 89 = .ok (.ireturn, 1) := dk_172 (dk_at dksX0_ticksTill_3 21 rfl rfl)
theorem dX0_ticksTill_90 : decode cX0_ticksTill 90 = .ok (.astore 4, 2) := dk_58 4 (dk_at dksX0_ticksTill_3 22 rfl rfl)
theorem dX0_ticksTill_92 : decode cX0_ticksTill 92 = .ok (.aload_n 0, 1) := dk_42 (dk_at dksX0_ticksTill_4 0 rfl rfl)
theorem dX0_ticksTill_93 : decode cX0_ticksTill 93 = .ok (.getfield 71, 3) := dk_180 0 71 (dk_at dksX0_ticksTill_4 1 rfl rfl)
theorem dX0_ticksTill_96 : decode cX0_ticksTill 96 = .ok (.aload_n 0, 1) := dk_42 (dk_at dksX0_ticksTill_4 4 rfl rfl)
theorem dX0_ticksTill_97 : decode cX0_ticksTill 97 = .ok (.getfield 78, 3) := dk_180 0 78 (dk_at dksX0_ticksTill_4 5 rfl rfl)
theorem dX0_ticksTill_100 : decode cX0_ticksTill 100 = .ok (.invokevirtual 155, 3) := dk_182 0 155 (dk_at dksX0_ticksTill_4 8 rfl rfl)
theorem dX0_ticksTill_103 : decode cX0_ticksTill 103 = .ok (.aload 4, 2) := dk_25 4 (dk_at dksX0_ticksTill_4 11 rfl rfl)
theorem dX0_ticksTill_105 : decode cX0_ticksTill 105 = .ok (.athrow, 1) := dk_191 (dk_at dksX0_ticksTill_4 13 rfl rfl)
abbrev cX0_orNone : ByteArray := prog_1_method_19_code
def yX0_orNone : MethodName := ⟨RX0, "orNone", "(I)I"⟩
def dkwX0_orNone_0 : List UInt8 := [27, 2, 160, 0, 11, 42, 6, 182, 0, 124, 167, 0, 4, 27, 172]
abbrev dktX0_orNone_0 : List UInt8 := dkwX0_orNone_0 ++ []
theorem dksX0_orNone_0 : cX0_orNone.data.toList.drop 0 = dktX0_orNone_0 := by decide +kernel
theorem dX0_orNone_0 : decode cX0_orNone 0 = .ok (.iload_n 1, 1) := dk_27 (dk_at dksX0_orNone_0 0 rfl rfl)
theorem dX0_orNone_1 : decode cX0_orNone 1 = .ok (.iconst (-1), 1) := dk_2 (dk_at dksX0_orNone_0 1 rfl rfl)
theorem dX0_orNone_2 : decode cX0_orNone 2 = .ok (.if_icmp .ne 11, 3) := dk_160 0 11 (dk_at dksX0_orNone_0 2 rfl rfl)
theorem dX0_orNone_5 : decode cX0_orNone 5 = .ok (.aload_n 0, 1) := dk_42 (dk_at dksX0_orNone_0 5 rfl rfl)
theorem dX0_orNone_6 : decode cX0_orNone 6 = .ok (.iconst 3, 1) := dk_6 (dk_at dksX0_orNone_0 6 rfl rfl)
theorem dX0_orNone_7 : decode cX0_orNone 7 = .ok (.invokevirtual 124, 3) := dk_182 0 124 (dk_at dksX0_orNone_0 7 rfl rfl)
theorem dX0_orNone_10 : decode cX0_orNone 10 = .ok (.goto 4, 3) := dk_167 0 4 (dk_at dksX0_orNone_0 10 rfl rfl)
theorem dX0_orNone_13 : decode cX0_orNone 13 = .ok (.iload_n 1, 1) := dk_27 (dk_at dksX0_orNone_0 13 rfl rfl)
theorem dX0_orNone_14 : decode cX0_orNone 14 = .ok (.ireturn, 1) := dk_172 (dk_at dksX0_orNone_0 14 rfl rfl)
abbrev cX0_rustle : ByteArray := prog_1_method_46_code
def yX0_rustle : MethodName := ⟨RX0, "rustle", "()I"⟩
def dkwX0_rustle_0 : List UInt8 := [42, 42, 2, 182, 0, 248, 182, 0, 251, 172]
abbrev dktX0_rustle_0 : List UInt8 := dkwX0_rustle_0 ++ []
theorem dksX0_rustle_0 : cX0_rustle.data.toList.drop 0 = dktX0_rustle_0 := by decide +kernel
theorem dX0_rustle_0 : decode cX0_rustle 0 = .ok (.aload_n 0, 1) := dk_42 (dk_at dksX0_rustle_0 0 rfl rfl)
theorem dX0_rustle_1 : decode cX0_rustle 1 = .ok (.aload_n 0, 1) := dk_42 (dk_at dksX0_rustle_0 1 rfl rfl)
theorem dX0_rustle_2 : decode cX0_rustle 2 = .ok (.iconst (-1), 1) := dk_2 (dk_at dksX0_rustle_0 2 rfl rfl)
theorem dX0_rustle_3 : decode cX0_rustle 3 = .ok (.invokevirtual 248, 3) := dk_182 0 248 (dk_at dksX0_rustle_0 3 rfl rfl)
theorem dX0_rustle_6 : decode cX0_rustle 6 = .ok (.invokevirtual 251, 3) := dk_182 0 251 (dk_at dksX0_rustle_0 6 rfl rfl)
theorem dX0_rustle_9 : decode cX0_rustle 9 = .ok (.ireturn, 1) := dk_172 (dk_at dksX0_rustle_0 9 rfl rfl)
abbrev cX0_run : ByteArray := prog_1_method_48_code
def yX0_run : MethodName := ⟨RX0, "run", "(I)J"⟩
def dkwX0_run_1 : List UInt8 := [133, 173]
abbrev dktX0_run_1 : List UInt8 := dkwX0_run_1 ++ []
def dkwX0_run_0 : List UInt8 := [27, 3, 17, 0, 200, 184, 0, 9, 153, 0, 11, 42, 27, 182, 0, 254, 167, 0, 9, 42, 3, 182, 0, 124]
abbrev dktX0_run_0 : List UInt8 := dkwX0_run_0 ++ dktX0_run_1
theorem dksX0_run_0 : cX0_run.data.toList.drop 0 = dktX0_run_0 := by decide +kernel
theorem dksX0_run_1 : cX0_run.data.toList.drop 24 = dktX0_run_1 := dk_seg dksX0_run_0 24 rfl rfl
theorem dX0_run_0 : decode cX0_run 0 = .ok (.iload_n 1, 1) := dk_27 (dk_at dksX0_run_0 0 rfl rfl)
theorem dX0_run_1 : decode cX0_run 1 = .ok (.iconst 0, 1) := dk_3 (dk_at dksX0_run_0 1 rfl rfl)
theorem dX0_run_2 : decode cX0_run 2 = .ok (.sipush 200, 3) := dk_17 0 200 (dk_at dksX0_run_0 2 rfl rfl)
theorem dX0_run_5 : decode cX0_run 5 = .ok (.invokestatic 9, 3) := dk_184 0 9 (dk_at dksX0_run_0 5 rfl rfl)
theorem dX0_run_8 : decode cX0_run 8 = .ok (.ifCond .eq 11, 3) := dk_153 0 11 (dk_at dksX0_run_0 8 rfl rfl)
theorem dX0_run_11 : decode cX0_run 11 = .ok (.aload_n 0, 1) := dk_42 (dk_at dksX0_run_0 11 rfl rfl)
theorem dX0_run_12 : decode cX0_run 12 = .ok (.iload_n 1, 1) := dk_27 (dk_at dksX0_run_0 12 rfl rfl)
theorem dX0_run_13 : decode cX0_run 13 = .ok (.invokevirtual 254, 3) := dk_182 0 254 (dk_at dksX0_run_0 13 rfl rfl)
theorem dX0_run_16 : decode cX0_run 16 = .ok (.goto 9, 3) := dk_167 0 9 (dk_at dksX0_run_0 16 rfl rfl)
theorem dX0_run_19 : decode cX0_run 19 = .ok (.aload_n 0, 1) := dk_42 (dk_at dksX0_run_0 19 rfl rfl)
theorem dX0_run_20 : decode cX0_run 20 = .ok (.iconst 0, 1) := dk_3 (dk_at dksX0_run_0 20 rfl rfl)
theorem dX0_run_21 : decode cX0_run 21 = .ok (.invokevirtual 124, 3) := dk_182 0 124 (dk_at dksX0_run_0 21 rfl rfl)
theorem dX0_run_24 : decode cX0_run 24 = .ok (.i2l, 1) := dk_133 (dk_at dksX0_run_1 0 rfl rfl)
theorem dX0_run_25 : decode cX0_run 25 = .ok (.lreturn, 1) := dk_173 (dk_at dksX0_run_1 1 rfl rfl)
abbrev cX0_cellsIn : ByteArray := prog_1_method_47_code
def yX0_cellsIn : MethodName := ⟨RX0, "cellsIn", "(I)J"⟩
def dkwX0_cellsIn_3 : List UInt8 := [182, 0, 155, 22, 4, 173, 58, 6, 42, 180, 0, 71, 42, 180, 0, 78, 182, 0, 155, 25, 6, 191]
abbrev dktX0_cellsIn_3 : List UInt8 := dkwX0_cellsIn_3 ++ []
def dkwX0_cellsIn_2 : List UInt8 := [3, 46, 121, 129, 65, 132, 4, 1, 167, 255, 226, 32, 55, 4, 42, 180, 0, 71, 42, 180, 0, 78]
abbrev dktX0_cellsIn_2 : List UInt8 := dkwX0_cellsIn_2 ++ dktX0_cellsIn_3
def dkwX0_cellsIn_1 : List UInt8 := [54, 4, 21, 4, 27, 162, 0, 30, 42, 180, 0, 71, 182, 0, 126, 32, 10, 42, 180, 0, 71, 180, 0, 133]
abbrev dktX0_cellsIn_1 : List UInt8 := dkwX0_cellsIn_1 ++ dktX0_cellsIn_2
def dkwX0_cellsIn_0 : List UInt8 := [42, 180, 0, 78, 42, 180, 0, 71, 182, 0, 155, 10, 42, 180, 0, 71, 180, 0, 133, 3, 46, 121, 65, 3]
abbrev dktX0_cellsIn_0 : List UInt8 := dkwX0_cellsIn_0 ++ dktX0_cellsIn_1
theorem dksX0_cellsIn_0 : cX0_cellsIn.data.toList.drop 0 = dktX0_cellsIn_0 := by decide +kernel
theorem dksX0_cellsIn_1 : cX0_cellsIn.data.toList.drop 24 = dktX0_cellsIn_1 := dk_seg dksX0_cellsIn_0 24 rfl rfl
theorem dksX0_cellsIn_2 : cX0_cellsIn.data.toList.drop 48 = dktX0_cellsIn_2 := dk_seg dksX0_cellsIn_1 24 rfl rfl
theorem dksX0_cellsIn_3 : cX0_cellsIn.data.toList.drop 70 = dktX0_cellsIn_3 := dk_seg dksX0_cellsIn_2 22 rfl rfl
theorem dX0_cellsIn_0 : decode cX0_cellsIn 0 = .ok (.aload_n 0, 1) := dk_42 (dk_at dksX0_cellsIn_0 0 rfl rfl)
theorem dX0_cellsIn_1 : decode cX0_cellsIn 1 = .ok (.getfield 78, 3) := dk_180 0 78 (dk_at dksX0_cellsIn_0 1 rfl rfl)
theorem dX0_cellsIn_4 : decode cX0_cellsIn 4 = .ok (.aload_n 0, 1) := dk_42 (dk_at dksX0_cellsIn_0 4 rfl rfl)
theorem dX0_cellsIn_5 : decode cX0_cellsIn 5 = .ok (.getfield 71, 3) := dk_180 0 71 (dk_at dksX0_cellsIn_0 5 rfl rfl)
theorem dX0_cellsIn_8 : decode cX0_cellsIn 8 = .ok (.invokevirtual 155, 3) := dk_182 0 155 (dk_at dksX0_cellsIn_0 8 rfl rfl)
theorem dX0_cellsIn_11 : decode cX0_cellsIn 11 = .ok (.lconst 1, 1) := dk_10 (dk_at dksX0_cellsIn_0 11 rfl rfl)
theorem dX0_cellsIn_12 : decode cX0_cellsIn 12 = .ok (.aload_n 0, 1) := dk_42 (dk_at dksX0_cellsIn_0 12 rfl rfl)
theorem dX0_cellsIn_13 : decode cX0_cellsIn 13 = .ok (.getfield 71, 3) := dk_180 0 71 (dk_at dksX0_cellsIn_0 13 rfl rfl)
theorem dX0_cellsIn_16 : decode cX0_cellsIn 16 = .ok (.getfield 133, 3) := dk_180 0 133 (dk_at dksX0_cellsIn_0 16 rfl rfl)
theorem dX0_cellsIn_19 : decode cX0_cellsIn 19 = .ok (.iconst 0, 1) := dk_3 (dk_at dksX0_cellsIn_0 19 rfl rfl)
theorem dX0_cellsIn_20 : decode cX0_cellsIn 20 = .ok (.iaload, 1) := dk_46 (dk_at dksX0_cellsIn_0 20 rfl rfl)
theorem dX0_cellsIn_21 : decode cX0_cellsIn 21 = .ok (.lshl, 1) := dk_121 (dk_at dksX0_cellsIn_0 21 rfl rfl)
theorem dX0_cellsIn_22 : decode cX0_cellsIn 22 = .ok (.lstore_n 2, 1) := dk_65 (dk_at dksX0_cellsIn_0 22 rfl rfl)
theorem dX0_cellsIn_23 : decode cX0_cellsIn 23 = .ok (.iconst 0, 1) := dk_3 (dk_at dksX0_cellsIn_0 23 rfl rfl)
theorem dX0_cellsIn_24 : decode cX0_cellsIn 24 = .ok (.istore 4, 2) := dk_54 4 (dk_at dksX0_cellsIn_1 0 rfl rfl)
theorem dX0_cellsIn_26 : decode cX0_cellsIn 26 = .ok (.iload 4, 2) := dk_21 4 (dk_at dksX0_cellsIn_1 2 rfl rfl)
theorem dX0_cellsIn_28 : decode cX0_cellsIn 28 = .ok (.iload_n 1, 1) := dk_27 (dk_at dksX0_cellsIn_1 4 rfl rfl)
theorem dX0_cellsIn_29 : decode cX0_cellsIn 29 = .ok (.if_icmp .ge 30, 3) := dk_162 0 30 (dk_at dksX0_cellsIn_1 5 rfl rfl)
theorem dX0_cellsIn_32 : decode cX0_cellsIn 32 = .ok (.aload_n 0, 1) := dk_42 (dk_at dksX0_cellsIn_1 8 rfl rfl)
theorem dX0_cellsIn_33 : decode cX0_cellsIn 33 = .ok (.getfield 71, 3) := dk_180 0 71 (dk_at dksX0_cellsIn_1 9 rfl rfl)
theorem dX0_cellsIn_36 : decode cX0_cellsIn 36 = .ok (.invokevirtual 126, 3) := dk_182 0 126 (dk_at dksX0_cellsIn_1 12 rfl rfl)
theorem dX0_cellsIn_39 : decode cX0_cellsIn 39 = .ok (.lload_n 2, 1) := dk_32 (dk_at dksX0_cellsIn_1 15 rfl rfl)
theorem dX0_cellsIn_40 : decode cX0_cellsIn 40 = .ok (.lconst 1, 1) := dk_10 (dk_at dksX0_cellsIn_1 16 rfl rfl)
theorem dX0_cellsIn_41 : decode cX0_cellsIn 41 = .ok (.aload_n 0, 1) := dk_42 (dk_at dksX0_cellsIn_1 17 rfl rfl)
theorem dX0_cellsIn_42 : decode cX0_cellsIn 42 = .ok (.getfield 71, 3) := dk_180 0 71 (dk_at dksX0_cellsIn_1 18 rfl rfl)
theorem dX0_cellsIn_45 : decode cX0_cellsIn 45 = .ok (.getfield 133, 3) := dk_180 0 133 (dk_at dksX0_cellsIn_1 21 rfl rfl)
theorem dX0_cellsIn_48 : decode cX0_cellsIn 48 = .ok (.iconst 0, 1) := dk_3 (dk_at dksX0_cellsIn_2 0 rfl rfl)
theorem dX0_cellsIn_49 : decode cX0_cellsIn 49 = .ok (.iaload, 1) := dk_46 (dk_at dksX0_cellsIn_2 1 rfl rfl)
theorem dX0_cellsIn_50 : decode cX0_cellsIn 50 = .ok (.lshl, 1) := dk_121 (dk_at dksX0_cellsIn_2 2 rfl rfl)
theorem dX0_cellsIn_51 : decode cX0_cellsIn 51 = .ok (.lor, 1) := dk_129 (dk_at dksX0_cellsIn_2 3 rfl rfl)
theorem dX0_cellsIn_52 : decode cX0_cellsIn 52 = .ok (.lstore_n 2, 1) := dk_65 (dk_at dksX0_cellsIn_2 4 rfl rfl)
theorem dX0_cellsIn_53 : decode cX0_cellsIn 53 = .ok (.iinc 4 1, 3) := dk_132 4 1 (dk_at dksX0_cellsIn_2 5 rfl rfl)
theorem dX0_cellsIn_56 : decode cX0_cellsIn 56 = .ok (.goto (-30), 3) := dk_167 255 226 (dk_at dksX0_cellsIn_2 8 rfl rfl)
theorem dX0_cellsIn_59 : decode cX0_cellsIn 59 = .ok (.lload_n 2, 1) := dk_32 (dk_at dksX0_cellsIn_2 11 rfl rfl)
theorem dX0_cellsIn_60 : decode cX0_cellsIn 60 = .ok (.lstore 4, 2) := dk_55 4 (dk_at dksX0_cellsIn_2 12 rfl rfl)
theorem dX0_cellsIn_62 : decode cX0_cellsIn 62 = .ok (.aload_n 0, 1) := dk_42 (dk_at dksX0_cellsIn_2 14 rfl rfl)
theorem dX0_cellsIn_63 : decode cX0_cellsIn 63 = .ok (.getfield 71, 3) := dk_180 0 71 (dk_at dksX0_cellsIn_2 15 rfl rfl)
theorem dX0_cellsIn_66 : decode cX0_cellsIn 66 = .ok (.aload_n 0, 1) := dk_42 (dk_at dksX0_cellsIn_2 18 rfl rfl)
theorem dX0_cellsIn_67 : decode cX0_cellsIn 67 = .ok (.getfield 78, 3) := dk_180 0 78 (dk_at dksX0_cellsIn_2 19 rfl rfl)
theorem dX0_cellsIn_70 : decode cX0_cellsIn 70 = .ok (.invokevirtual 155, 3) := dk_182 0 155 (dk_at dksX0_cellsIn_3 0 rfl rfl)
theorem dX0_cellsIn_73 : decode cX0_cellsIn 73 = .ok (.lload 4, 2) := dk_22 4 (dk_at dksX0_cellsIn_3 3 rfl rfl)
theorem dX0_cellsIn_75 : decode cX0_cellsIn 75 = .ok (.lreturn, 1) := dk_173 (dk_at dksX0_cellsIn_3 5 rfl rfl)
theorem dX0_cellsIn_76 : decode cX0_cellsIn 76 = .ok (.astore 6, 2) := dk_58 6 (dk_at dksX0_cellsIn_3 6 rfl rfl)
theorem dX0_cellsIn_78 : decode cX0_cellsIn 78 = .ok (.aload_n 0, 1) := dk_42 (dk_at dksX0_cellsIn_3 8 rfl rfl)
theorem dX0_cellsIn_79 : decode cX0_cellsIn 79 = .ok (.getfield 71, 3) := dk_180 0 71 (dk_at dksX0_cellsIn_3 9 rfl rfl)
theorem dX0_cellsIn_82 : decode cX0_cellsIn 82 = .ok (.aload_n 0, 1) := dk_42 (dk_at dksX0_cellsIn_3 12 rfl rfl)
theorem dX0_cellsIn_83 : decode cX0_cellsIn 83 = .ok (.getfield 78, 3) := dk_180 0 78 (dk_at dksX0_cellsIn_3 13 rfl rfl)
theorem dX0_cellsIn_86 : decode cX0_cellsIn 86 = .ok (.invokevirtual 155, 3) := dk_182 0 155 (dk_at dksX0_cellsIn_3 16 rfl rfl)
theorem dX0_cellsIn_89 : decode cX0_cellsIn 89 = .ok (.aload 6, 2) := dk_25 6 (dk_at dksX0_cellsIn_3 19 rfl rfl)
theorem dX0_cellsIn_91 : decode cX0_cellsIn 91 = .ok (.athrow, 1) := dk_191 (dk_at dksX0_cellsIn_3 21 rfl rfl)
abbrev cX0_soonest : ByteArray := prog_1_method_50_code
def yX0_soonest : MethodName := ⟨RX0, "soonest", "(I)I"⟩
def dkwX0_soonest_1 : List UInt8 := [182, 0, 124, 172]
abbrev dktX0_soonest_1 : List UInt8 := dkwX0_soonest_1 ++ []
def dkwX0_soonest_0 : List UInt8 := [42, 27, 182, 0, 198, 153, 0, 15, 42, 42, 27, 182, 1, 2, 182, 0, 251, 167, 0, 8, 42, 3]
abbrev dktX0_soonest_0 : List UInt8 := dkwX0_soonest_0 ++ dktX0_soonest_1
theorem dksX0_soonest_0 : cX0_soonest.data.toList.drop 0 = dktX0_soonest_0 := by decide +kernel
theorem dksX0_soonest_1 : cX0_soonest.data.toList.drop 22 = dktX0_soonest_1 := dk_seg dksX0_soonest_0 22 rfl rfl
theorem dX0_soonest_0 : decode cX0_soonest 0 = .ok (.aload_n 0, 1) := dk_42 (dk_at dksX0_soonest_0 0 rfl rfl)
theorem dX0_soonest_1 : decode cX0_soonest 1 = .ok (.iload_n 1, 1) := dk_27 (dk_at dksX0_soonest_0 1 rfl rfl)
theorem dX0_soonest_2 : decode cX0_soonest 2 = .ok (.invokevirtual 198, 3) := dk_182 0 198 (dk_at dksX0_soonest_0 2 rfl rfl)
theorem dX0_soonest_5 : decode cX0_soonest 5 = .ok (.ifCond .eq 15, 3) := dk_153 0 15 (dk_at dksX0_soonest_0 5 rfl rfl)
theorem dX0_soonest_8 : decode cX0_soonest 8 = .ok (.aload_n 0, 1) := dk_42 (dk_at dksX0_soonest_0 8 rfl rfl)
theorem dX0_soonest_9 : decode cX0_soonest 9 = .ok (.aload_n 0, 1) := dk_42 (dk_at dksX0_soonest_0 9 rfl rfl)
theorem dX0_soonest_10 : decode cX0_soonest 10 = .ok (.iload_n 1, 1) := dk_27 (dk_at dksX0_soonest_0 10 rfl rfl)
theorem dX0_soonest_11 : decode cX0_soonest 11 = .ok (.invokevirtual 258, 3) := dk_182 1 2 (dk_at dksX0_soonest_0 11 rfl rfl)
theorem dX0_soonest_14 : decode cX0_soonest 14 = .ok (.invokevirtual 251, 3) := dk_182 0 251 (dk_at dksX0_soonest_0 14 rfl rfl)
theorem dX0_soonest_17 : decode cX0_soonest 17 = .ok (.goto 8, 3) := dk_167 0 8 (dk_at dksX0_soonest_0 17 rfl rfl)
theorem dX0_soonest_20 : decode cX0_soonest 20 = .ok (.aload_n 0, 1) := dk_42 (dk_at dksX0_soonest_0 20 rfl rfl)
theorem dX0_soonest_21 : decode cX0_soonest 21 = .ok (.iconst 0, 1) := dk_3 (dk_at dksX0_soonest_0 21 rfl rfl)
theorem dX0_soonest_22 : decode cX0_soonest 22 = .ok (.invokevirtual 124, 3) := dk_182 0 124 (dk_at dksX0_soonest_1 0 rfl rfl)
theorem dX0_soonest_25 : decode cX0_soonest 25 = .ok (.ireturn, 1) := dk_172 (dk_at dksX0_soonest_1 3 rfl rfl)
abbrev cX0_soonestFor : ByteArray := prog_1_method_49_code
def yX0_soonestFor : MethodName := ⟨RX0, "soonestFor", "(I)I"⟩
def dkwX0_soonestFor_3 : List UInt8 := [42, 180, 0, 71, 42, 180, 0, 81, 182, 0, 155, 25, 4, 191]
abbrev dktX0_soonestFor_3 : List UInt8 := dkwX0_soonestFor_3 ++ []
def dkwX0_soonestFor_2 : List UInt8 := [163, 0, 7, 28, 167, 0, 4, 2, 62, 42, 180, 0, 71, 42, 180, 0, 81, 182, 0, 155, 29, 172, 58, 4]
abbrev dktX0_soonestFor_2 : List UInt8 := dkwX0_soonestFor_2 ++ dktX0_soonestFor_3
def dkwX0_soonestFor_1 : List UInt8 := [182, 0, 168, 154, 0, 16, 42, 180, 0, 71, 182, 0, 126, 132, 2, 1, 167, 255, 231, 28, 17, 0, 200]
abbrev dktX0_soonestFor_1 : List UInt8 := dkwX0_soonestFor_1 ++ dktX0_soonestFor_2
def dkwX0_soonestFor_0 : List UInt8 := [42, 180, 0, 81, 42, 180, 0, 71, 182, 0, 155, 3, 61, 28, 17, 0, 200, 163, 0, 24, 42, 27]
abbrev dktX0_soonestFor_0 : List UInt8 := dkwX0_soonestFor_0 ++ dktX0_soonestFor_1
theorem dksX0_soonestFor_0 : cX0_soonestFor.data.toList.drop 0 = dktX0_soonestFor_0 := by decide +kernel
theorem dksX0_soonestFor_1 : cX0_soonestFor.data.toList.drop 22 = dktX0_soonestFor_1 := dk_seg dksX0_soonestFor_0 22 rfl rfl
theorem dksX0_soonestFor_2 : cX0_soonestFor.data.toList.drop 45 = dktX0_soonestFor_2 := dk_seg dksX0_soonestFor_1 23 rfl rfl
theorem dksX0_soonestFor_3 : cX0_soonestFor.data.toList.drop 69 = dktX0_soonestFor_3 := dk_seg dksX0_soonestFor_2 24 rfl rfl
theorem dX0_soonestFor_0 : decode cX0_soonestFor 0 = .ok (.aload_n 0, 1) := dk_42 (dk_at dksX0_soonestFor_0 0 rfl rfl)
theorem dX0_soonestFor_1 : decode cX0_soonestFor 1 = .ok (.getfield 81, 3) := dk_180 0 81 (dk_at dksX0_soonestFor_0 1 rfl rfl)
theorem dX0_soonestFor_4 : decode cX0_soonestFor 4 = .ok (.aload_n 0, 1) := dk_42 (dk_at dksX0_soonestFor_0 4 rfl rfl)
theorem dX0_soonestFor_5 : decode cX0_soonestFor 5 = .ok (.getfield 71, 3) := dk_180 0 71 (dk_at dksX0_soonestFor_0 5 rfl rfl)
theorem dX0_soonestFor_8 : decode cX0_soonestFor 8 = .ok (.invokevirtual 155, 3) := dk_182 0 155 (dk_at dksX0_soonestFor_0 8 rfl rfl)
theorem dX0_soonestFor_11 : decode cX0_soonestFor 11 = .ok (.iconst 0, 1) := dk_3 (dk_at dksX0_soonestFor_0 11 rfl rfl)
theorem dX0_soonestFor_12 : decode cX0_soonestFor 12 = .ok (.istore_n 2, 1) := dk_61 (dk_at dksX0_soonestFor_0 12 rfl rfl)
theorem dX0_soonestFor_13 : decode cX0_soonestFor 13 = .ok (.iload_n 2, 1) := dk_28 (dk_at dksX0_soonestFor_0 13 rfl rfl)
theorem dX0_soonestFor_14 : decode cX0_soonestFor 14 = .ok (.sipush 200, 3) := dk_17 0 200 (dk_at dksX0_soonestFor_0 14 rfl rfl)
theorem dX0_soonestFor_17 : decode cX0_soonestFor 17 = .ok (.if_icmp .gt 24, 3) := dk_163 0 24 (dk_at dksX0_soonestFor_0 17 rfl rfl)
theorem dX0_soonestFor_20 : decode cX0_soonestFor 20 = .ok (.aload_n 0, 1) := dk_42 (dk_at dksX0_soonestFor_0 20 rfl rfl)
theorem dX0_soonestFor_21 : decode cX0_soonestFor 21 = .ok (.iload_n 1, 1) := dk_27 (dk_at dksX0_soonestFor_0 21 rfl rfl)
theorem dX0_soonestFor_22 : decode cX0_soonestFor 22 = .ok (.invokevirtual 168, 3) := dk_182 0 168 (dk_at dksX0_soonestFor_1 0 rfl rfl)
theorem dX0_soonestFor_25 : decode cX0_soonestFor 25 = .ok (.ifCond .ne 16, 3) := dk_154 0 16 (dk_at dksX0_soonestFor_1 3 rfl rfl)
theorem dX0_soonestFor_28 : decode cX0_soonestFor 28 = .ok (.aload_n 0, 1) := dk_42 (dk_at dksX0_soonestFor_1 6 rfl rfl)
theorem dX0_soonestFor_29 : decode cX0_soonestFor 29 = .ok (.getfield 71, 3) := dk_180 0 71 (dk_at dksX0_soonestFor_1 7 rfl rfl)
theorem dX0_soonestFor_32 : decode cX0_soonestFor 32 = .ok (.invokevirtual 126, 3) := dk_182 0 126 (dk_at dksX0_soonestFor_1 10 rfl rfl)
theorem dX0_soonestFor_35 : decode cX0_soonestFor 35 = .ok (.iinc 2 1, 3) := dk_132 2 1 (dk_at dksX0_soonestFor_1 13 rfl rfl)
theorem dX0_soonestFor_38 : decode cX0_soonestFor 38 = .ok (.goto (-25), 3) := dk_167 255 231 (dk_at dksX0_soonestFor_1 16 rfl rfl)
theorem dX0_soonestFor_41 : decode cX0_soonestFor 41 = .ok (.iload_n 2, 1) := dk_28 (dk_at dksX0_soonestFor_1 19 rfl rfl)
theorem dX0_soonestFor_42 : decode cX0_soonestFor 42 = .ok (.sipush 200, 3) := dk_17 0 200 (dk_at dksX0_soonestFor_1 20 rfl rfl)
theorem dX0_soonestFor_45 : decode cX0_soonestFor 45 = .ok (.if_icmp .gt 7, 3) := dk_163 0 7 (dk_at dksX0_soonestFor_2 0 rfl rfl)
theorem dX0_soonestFor_48 : decode cX0_soonestFor 48 = .ok (.iload_n 2, 1) := dk_28 (dk_at dksX0_soonestFor_2 3 rfl rfl)
theorem dX0_soonestFor_49 : decode cX0_soonestFor 49 = .ok (.goto 4, 3) := dk_167 0 4 (dk_at dksX0_soonestFor_2 4 rfl rfl)
theorem dX0_soonestFor_52 : decode cX0_soonestFor 52 = .ok (.iconst (-1), 1) := dk_2 (dk_at dksX0_soonestFor_2 7 rfl rfl)
theorem dX0_soonestFor_53 : decode cX0_soonestFor 53 = .ok (.istore_n 3, 1) := dk_62 (dk_at dksX0_soonestFor_2 8 rfl rfl)
theorem dX0_soonestFor_54 : decode cX0_soonestFor 54 = .ok (.aload_n 0, 1) := dk_42 (dk_at dksX0_soonestFor_2 9 rfl rfl)
theorem dX0_soonestFor_55 : decode cX0_soonestFor 55 = .ok (.getfield 71, 3) := dk_180 0 71 (dk_at dksX0_soonestFor_2 10 rfl rfl)
theorem dX0_soonestFor_58 : decode cX0_soonestFor 58 = .ok (.aload_n 0, 1) := dk_42 (dk_at dksX0_soonestFor_2 13 rfl rfl)
theorem dX0_soonestFor_59 : decode cX0_soonestFor 59 = .ok (.getfield 81, 3) := dk_180 0 81 (dk_at dksX0_soonestFor_2 14 rfl rfl)
theorem dX0_soonestFor_62 : decode cX0_soonestFor 62 = .ok (.invokevirtual 155, 3) := dk_182 0 155 (dk_at dksX0_soonestFor_2 17 rfl rfl)
theorem dX0_soonestFor_65 : decode cX0_soonestFor 65 = .ok (.iload_n 3, 1) := dk_29 (dk_at dksX0_soonestFor_2 20 rfl rfl)
theorem dX0_soonestFor_66 : decode cX0_soonestFor 66 = .ok (.ireturn, 1) := dk_172 (dk_at dksX0_soonestFor_2 21 rfl rfl)
theorem dX0_soonestFor_67 : decode cX0_soonestFor 67 = .ok (.astore 4, 2) := dk_58 4 (dk_at dksX0_soonestFor_2 22 rfl rfl)
theorem dX0_soonestFor_69 : decode cX0_soonestFor 69 = .ok (.aload_n 0, 1) := dk_42 (dk_at dksX0_soonestFor_3 0 rfl rfl)
theorem dX0_soonestFor_70 : decode cX0_soonestFor 70 = .ok (.getfield 71, 3) := dk_180 0 71 (dk_at dksX0_soonestFor_3 1 rfl rfl)
theorem dX0_soonestFor_73 : decode cX0_soonestFor 73 = .ok (.aload_n 0, 1) := dk_42 (dk_at dksX0_soonestFor_3 4 rfl rfl)
theorem dX0_soonestFor_74 : decode cX0_soonestFor 74 = .ok (.getfield 81, 3) := dk_180 0 81 (dk_at dksX0_soonestFor_3 5 rfl rfl)
theorem dX0_soonestFor_77 : decode cX0_soonestFor 77 = .ok (.invokevirtual 155, 3) := dk_182 0 155 (dk_at dksX0_soonestFor_3 8 rfl rfl)
theorem dX0_soonestFor_80 : decode cX0_soonestFor 80 = .ok (.aload 4, 2) := dk_25 4 (dk_at dksX0_soonestFor_3 11 rfl rfl)
theorem dX0_soonestFor_82 : decode cX0_soonestFor 82 = .ok (.athrow, 1) := dk_191 (dk_at dksX0_soonestFor_3 13 rfl rfl)
abbrev cX0_chances : ByteArray := prog_1_method_52_code
def yX0_chances : MethodName := ⟨RX0, "chances", "(II)I"⟩
def dkwX0_chances_1 : List UInt8 := [182, 1, 5, 167, 0, 8, 42, 3, 182, 0, 124, 172]
abbrev dktX0_chances_1 : List UInt8 := dkwX0_chances_1 ++ []
def dkwX0_chances_0 : List UInt8 := [42, 27, 182, 0, 198, 153, 0, 23, 28, 3, 17, 0, 200, 184, 0, 9, 153, 0, 12, 42, 27, 28]
abbrev dktX0_chances_0 : List UInt8 := dkwX0_chances_0 ++ dktX0_chances_1
theorem dksX0_chances_0 : cX0_chances.data.toList.drop 0 = dktX0_chances_0 := by decide +kernel
theorem dksX0_chances_1 : cX0_chances.data.toList.drop 22 = dktX0_chances_1 := dk_seg dksX0_chances_0 22 rfl rfl
theorem dX0_chances_0 : decode cX0_chances 0 = .ok (.aload_n 0, 1) := dk_42 (dk_at dksX0_chances_0 0 rfl rfl)
theorem dX0_chances_1 : decode cX0_chances 1 = .ok (.iload_n 1, 1) := dk_27 (dk_at dksX0_chances_0 1 rfl rfl)
theorem dX0_chances_2 : decode cX0_chances 2 = .ok (.invokevirtual 198, 3) := dk_182 0 198 (dk_at dksX0_chances_0 2 rfl rfl)
theorem dX0_chances_5 : decode cX0_chances 5 = .ok (.ifCond .eq 23, 3) := dk_153 0 23 (dk_at dksX0_chances_0 5 rfl rfl)
theorem dX0_chances_8 : decode cX0_chances 8 = .ok (.iload_n 2, 1) := dk_28 (dk_at dksX0_chances_0 8 rfl rfl)
theorem dX0_chances_9 : decode cX0_chances 9 = .ok (.iconst 0, 1) := dk_3 (dk_at dksX0_chances_0 9 rfl rfl)
theorem dX0_chances_10 : decode cX0_chances 10 = .ok (.sipush 200, 3) := dk_17 0 200 (dk_at dksX0_chances_0 10 rfl rfl)
theorem dX0_chances_13 : decode cX0_chances 13 = .ok (.invokestatic 9, 3) := dk_184 0 9 (dk_at dksX0_chances_0 13 rfl rfl)
theorem dX0_chances_16 : decode cX0_chances 16 = .ok (.ifCond .eq 12, 3) := dk_153 0 12 (dk_at dksX0_chances_0 16 rfl rfl)
theorem dX0_chances_19 : decode cX0_chances 19 = .ok (.aload_n 0, 1) := dk_42 (dk_at dksX0_chances_0 19 rfl rfl)
theorem dX0_chances_20 : decode cX0_chances 20 = .ok (.iload_n 1, 1) := dk_27 (dk_at dksX0_chances_0 20 rfl rfl)
theorem dX0_chances_21 : decode cX0_chances 21 = .ok (.iload_n 2, 1) := dk_28 (dk_at dksX0_chances_0 21 rfl rfl)
theorem dX0_chances_22 : decode cX0_chances 22 = .ok (.invokevirtual 261, 3) := dk_182 1 5 (dk_at dksX0_chances_1 0 rfl rfl)
theorem dX0_chances_25 : decode cX0_chances 25 = .ok (.goto 8, 3) := dk_167 0 8 (dk_at dksX0_chances_1 3 rfl rfl)
theorem dX0_chances_28 : decode cX0_chances 28 = .ok (.aload_n 0, 1) := dk_42 (dk_at dksX0_chances_1 6 rfl rfl)
theorem dX0_chances_29 : decode cX0_chances 29 = .ok (.iconst 0, 1) := dk_3 (dk_at dksX0_chances_1 7 rfl rfl)
theorem dX0_chances_30 : decode cX0_chances 30 = .ok (.invokevirtual 124, 3) := dk_182 0 124 (dk_at dksX0_chances_1 8 rfl rfl)
theorem dX0_chances_33 : decode cX0_chances 33 = .ok (.ireturn, 1) := dk_172 (dk_at dksX0_chances_1 11 rfl rfl)
abbrev cX0_chancesOf : ByteArray := prog_1_method_51_code
def yX0_chancesOf : MethodName := ⟨RX0, "chancesOf", "(II)I"⟩
def dkwX0_chancesOf_3 : List UInt8 := [180, 0, 71, 42, 180, 0, 81, 182, 0, 155, 25, 5, 191]
abbrev dktX0_chancesOf_3 : List UInt8 := dkwX0_chancesOf_3 ++ []
def dkwX0_chancesOf_2 : List UInt8 := [167, 255, 224, 29, 54, 4, 42, 180, 0, 71, 42, 180, 0, 81, 182, 0, 155, 21, 4, 172, 58, 5, 42]
abbrev dktX0_chancesOf_2 : List UInt8 := dkwX0_chancesOf_2 ++ dktX0_chancesOf_3
def dkwX0_chancesOf_1 : List UInt8 := [27, 182, 0, 168, 153, 0, 7, 4, 167, 0, 4, 3, 96, 62, 42, 180, 0, 71, 182, 0, 126, 132, 4, 1]
abbrev dktX0_chancesOf_1 : List UInt8 := dkwX0_chancesOf_1 ++ dktX0_chancesOf_2
def dkwX0_chancesOf_0 : List UInt8 := [42, 180, 0, 81, 42, 180, 0, 71, 182, 0, 155, 3, 62, 3, 54, 4, 21, 4, 28, 162, 0, 32, 29, 42]
abbrev dktX0_chancesOf_0 : List UInt8 := dkwX0_chancesOf_0 ++ dktX0_chancesOf_1
theorem dksX0_chancesOf_0 : cX0_chancesOf.data.toList.drop 0 = dktX0_chancesOf_0 := by decide +kernel
theorem dksX0_chancesOf_1 : cX0_chancesOf.data.toList.drop 24 = dktX0_chancesOf_1 := dk_seg dksX0_chancesOf_0 24 rfl rfl
theorem dksX0_chancesOf_2 : cX0_chancesOf.data.toList.drop 48 = dktX0_chancesOf_2 := dk_seg dksX0_chancesOf_1 24 rfl rfl
theorem dksX0_chancesOf_3 : cX0_chancesOf.data.toList.drop 71 = dktX0_chancesOf_3 := dk_seg dksX0_chancesOf_2 23 rfl rfl
theorem dX0_chancesOf_0 : decode cX0_chancesOf 0 = .ok (.aload_n 0, 1) := dk_42 (dk_at dksX0_chancesOf_0 0 rfl rfl)
theorem dX0_chancesOf_1 : decode cX0_chancesOf 1 = .ok (.getfield 81, 3) := dk_180 0 81 (dk_at dksX0_chancesOf_0 1 rfl rfl)
theorem dX0_chancesOf_4 : decode cX0_chancesOf 4 = .ok (.aload_n 0, 1) := dk_42 (dk_at dksX0_chancesOf_0 4 rfl rfl)
theorem dX0_chancesOf_5 : decode cX0_chancesOf 5 = .ok (.getfield 71, 3) := dk_180 0 71 (dk_at dksX0_chancesOf_0 5 rfl rfl)
theorem dX0_chancesOf_8 : decode cX0_chancesOf 8 = .ok (.invokevirtual 155, 3) := dk_182 0 155 (dk_at dksX0_chancesOf_0 8 rfl rfl)
theorem dX0_chancesOf_11 : decode cX0_chancesOf 11 = .ok (.iconst 0, 1) := dk_3 (dk_at dksX0_chancesOf_0 11 rfl rfl)
theorem dX0_chancesOf_12 : decode cX0_chancesOf 12 = .ok (.istore_n 3, 1) := dk_62 (dk_at dksX0_chancesOf_0 12 rfl rfl)
theorem dX0_chancesOf_13 : decode cX0_chancesOf 13 = .ok (.iconst 0, 1) := dk_3 (dk_at dksX0_chancesOf_0 13 rfl rfl)
theorem dX0_chancesOf_14 : decode cX0_chancesOf 14 = .ok (.istore 4, 2) := dk_54 4 (dk_at dksX0_chancesOf_0 14 rfl rfl)
theorem dX0_chancesOf_16 : decode cX0_chancesOf 16 = .ok (.iload 4, 2) := dk_21 4 (dk_at dksX0_chancesOf_0 16 rfl rfl)
theorem dX0_chancesOf_18 : decode cX0_chancesOf 18 = .ok (.iload_n 2, 1) := dk_28 (dk_at dksX0_chancesOf_0 18 rfl rfl)
theorem dX0_chancesOf_19 : decode cX0_chancesOf 19 = .ok (.if_icmp .ge 32, 3) := dk_162 0 32 (dk_at dksX0_chancesOf_0 19 rfl rfl)
theorem dX0_chancesOf_22 : decode cX0_chancesOf 22 = .ok (.iload_n 3, 1) := dk_29 (dk_at dksX0_chancesOf_0 22 rfl rfl)
theorem dX0_chancesOf_23 : decode cX0_chancesOf 23 = .ok (.aload_n 0, 1) := dk_42 (dk_at dksX0_chancesOf_0 23 rfl rfl)
theorem dX0_chancesOf_24 : decode cX0_chancesOf 24 = .ok (.iload_n 1, 1) := dk_27 (dk_at dksX0_chancesOf_1 0 rfl rfl)
theorem dX0_chancesOf_25 : decode cX0_chancesOf 25 = .ok (.invokevirtual 168, 3) := dk_182 0 168 (dk_at dksX0_chancesOf_1 1 rfl rfl)
theorem dX0_chancesOf_28 : decode cX0_chancesOf 28 = .ok (.ifCond .eq 7, 3) := dk_153 0 7 (dk_at dksX0_chancesOf_1 4 rfl rfl)
theorem dX0_chancesOf_31 : decode cX0_chancesOf 31 = .ok (.iconst 1, 1) := dk_4 (dk_at dksX0_chancesOf_1 7 rfl rfl)
theorem dX0_chancesOf_32 : decode cX0_chancesOf 32 = .ok (.goto 4, 3) := dk_167 0 4 (dk_at dksX0_chancesOf_1 8 rfl rfl)
theorem dX0_chancesOf_35 : decode cX0_chancesOf 35 = .ok (.iconst 0, 1) := dk_3 (dk_at dksX0_chancesOf_1 11 rfl rfl)
theorem dX0_chancesOf_36 : decode cX0_chancesOf 36 = .ok (.iadd, 1) := dk_96 (dk_at dksX0_chancesOf_1 12 rfl rfl)
theorem dX0_chancesOf_37 : decode cX0_chancesOf 37 = .ok (.istore_n 3, 1) := dk_62 (dk_at dksX0_chancesOf_1 13 rfl rfl)
theorem dX0_chancesOf_38 : decode cX0_chancesOf 38 = .ok (.aload_n 0, 1) := dk_42 (dk_at dksX0_chancesOf_1 14 rfl rfl)
theorem dX0_chancesOf_39 : decode cX0_chancesOf 39 = .ok (.getfield 71, 3) := dk_180 0 71 (dk_at dksX0_chancesOf_1 15 rfl rfl)
theorem dX0_chancesOf_42 : decode cX0_chancesOf 42 = .ok (.invokevirtual 126, 3) := dk_182 0 126 (dk_at dksX0_chancesOf_1 18 rfl rfl)
theorem dX0_chancesOf_45 : decode cX0_chancesOf 45 = .ok (.iinc 4 1, 3) := dk_132 4 1 (dk_at dksX0_chancesOf_1 21 rfl rfl)
theorem dX0_chancesOf_48 : decode cX0_chancesOf 48 = .ok (.goto (-32), 3) := dk_167 255 224 (dk_at dksX0_chancesOf_2 0 rfl rfl)
theorem dX0_chancesOf_51 : decode cX0_chancesOf 51 = .ok (.iload_n 3, 1) := dk_29 (dk_at dksX0_chancesOf_2 3 rfl rfl)
theorem dX0_chancesOf_52 : decode cX0_chancesOf 52 = .ok (.istore 4, 2) := dk_54 4 (dk_at dksX0_chancesOf_2 4 rfl rfl)
theorem dX0_chancesOf_54 : decode cX0_chancesOf 54 = .ok (.aload_n 0, 1) := dk_42 (dk_at dksX0_chancesOf_2 6 rfl rfl)
theorem dX0_chancesOf_55 : decode cX0_chancesOf 55 = .ok (.getfield 71, 3) := dk_180 0 71 (dk_at dksX0_chancesOf_2 7 rfl rfl)
theorem dX0_chancesOf_58 : decode cX0_chancesOf 58 = .ok (.aload_n 0, 1) := dk_42 (dk_at dksX0_chancesOf_2 10 rfl rfl)
theorem dX0_chancesOf_59 : decode cX0_chancesOf 59 = .ok (.getfield 81, 3) := dk_180 0 81 (dk_at dksX0_chancesOf_2 11 rfl rfl)
theorem dX0_chancesOf_62 : decode cX0_chancesOf 62 = .ok (.invokevirtual 155, 3) := dk_182 0 155 (dk_at dksX0_chancesOf_2 14 rfl rfl)
theorem dX0_chancesOf_65 : decode cX0_chancesOf 65 = .ok (.iload 4, 2) := dk_21 4 (dk_at dksX0_chancesOf_2 17 rfl rfl)
theorem dX0_chancesOf_67 : decode cX0_chancesOf 67 = .ok (.ireturn, 1) := dk_172 (dk_at dksX0_chancesOf_2 19 rfl rfl)
theorem dX0_chancesOf_68 : decode cX0_chancesOf 68 = .ok (.astore 5, 2) := dk_58 5 (dk_at dksX0_chancesOf_2 20 rfl rfl)
theorem dX0_chancesOf_70 : decode cX0_chancesOf 70 = .ok (.aload_n 0, 1) := dk_42 (dk_at dksX0_chancesOf_2 22 rfl rfl)
theorem dX0_chancesOf_71 : decode cX0_chancesOf 71 = .ok (.getfield 71, 3) := dk_180 0 71 (dk_at dksX0_chancesOf_3 0 rfl rfl)
theorem dX0_chancesOf_74 : decode cX0_chancesOf 74 = .ok (.aload_n 0, 1) := dk_42 (dk_at dksX0_chancesOf_3 3 rfl rfl)
theorem dX0_chancesOf_75 : decode cX0_chancesOf 75 = .ok (.getfield 81, 3) := dk_180 0 81 (dk_at dksX0_chancesOf_3 4 rfl rfl)
theorem dX0_chancesOf_78 : decode cX0_chancesOf 78 = .ok (.invokevirtual 155, 3) := dk_182 0 155 (dk_at dksX0_chancesOf_3 7 rfl rfl)
theorem dX0_chancesOf_81 : decode cX0_chancesOf 81 = .ok (.aload 5, 2) := dk_25 5 (dk_at dksX0_chancesOf_3 10 rfl rfl)
theorem dX0_chancesOf_83 : decode cX0_chancesOf 83 = .ok (.athrow, 1) := dk_191 (dk_at dksX0_chancesOf_3 12 rfl rfl)
abbrev cX0_aim : ByteArray := prog_1_method_55_code
def yX0_aim : MethodName := ⟨RX0, "aim", "(I)I"⟩
def dkwX0_aim_1 : List UInt8 := [3, 182, 0, 124, 172]
abbrev dktX0_aim_1 : List UInt8 := dkwX0_aim_1 ++ []
def dkwX0_aim_0 : List UInt8 := [42, 27, 182, 0, 198, 153, 0, 18, 42, 42, 27, 4, 16, 36, 182, 1, 14, 182, 1, 18, 167, 0, 8, 42]
abbrev dktX0_aim_0 : List UInt8 := dkwX0_aim_0 ++ dktX0_aim_1
theorem dksX0_aim_0 : cX0_aim.data.toList.drop 0 = dktX0_aim_0 := by decide +kernel
theorem dksX0_aim_1 : cX0_aim.data.toList.drop 24 = dktX0_aim_1 := dk_seg dksX0_aim_0 24 rfl rfl
theorem dX0_aim_0 : decode cX0_aim 0 = .ok (.aload_n 0, 1) := dk_42 (dk_at dksX0_aim_0 0 rfl rfl)
theorem dX0_aim_1 : decode cX0_aim 1 = .ok (.iload_n 1, 1) := dk_27 (dk_at dksX0_aim_0 1 rfl rfl)
theorem dX0_aim_2 : decode cX0_aim 2 = .ok (.invokevirtual 198, 3) := dk_182 0 198 (dk_at dksX0_aim_0 2 rfl rfl)
theorem dX0_aim_5 : decode cX0_aim 5 = .ok (.ifCond .eq 18, 3) := dk_153 0 18 (dk_at dksX0_aim_0 5 rfl rfl)
theorem dX0_aim_8 : decode cX0_aim 8 = .ok (.aload_n 0, 1) := dk_42 (dk_at dksX0_aim_0 8 rfl rfl)
theorem dX0_aim_9 : decode cX0_aim 9 = .ok (.aload_n 0, 1) := dk_42 (dk_at dksX0_aim_0 9 rfl rfl)
theorem dX0_aim_10 : decode cX0_aim 10 = .ok (.iload_n 1, 1) := dk_27 (dk_at dksX0_aim_0 10 rfl rfl)
theorem dX0_aim_11 : decode cX0_aim 11 = .ok (.iconst 1, 1) := dk_4 (dk_at dksX0_aim_0 11 rfl rfl)
theorem dX0_aim_12 : decode cX0_aim 12 = .ok (.bipush 36, 2) := dk_16 36 (dk_at dksX0_aim_0 12 rfl rfl)
theorem dX0_aim_14 : decode cX0_aim 14 = .ok (.invokevirtual 270, 3) := dk_182 1 14 (dk_at dksX0_aim_0 14 rfl rfl)
theorem dX0_aim_17 : decode cX0_aim 17 = .ok (.invokevirtual 274, 3) := dk_182 1 18 (dk_at dksX0_aim_0 17 rfl rfl)
theorem dX0_aim_20 : decode cX0_aim 20 = .ok (.goto 8, 3) := dk_167 0 8 (dk_at dksX0_aim_0 20 rfl rfl)
theorem dX0_aim_23 : decode cX0_aim 23 = .ok (.aload_n 0, 1) := dk_42 (dk_at dksX0_aim_0 23 rfl rfl)
theorem dX0_aim_24 : decode cX0_aim 24 = .ok (.iconst 0, 1) := dk_3 (dk_at dksX0_aim_1 0 rfl rfl)
theorem dX0_aim_25 : decode cX0_aim 25 = .ok (.invokevirtual 124, 3) := dk_182 0 124 (dk_at dksX0_aim_1 1 rfl rfl)
theorem dX0_aim_28 : decode cX0_aim 28 = .ok (.ireturn, 1) := dk_172 (dk_at dksX0_aim_1 4 rfl rfl)
abbrev cX0_allThatHave : ByteArray := prog_1_method_53_code
def yX0_allThatHave : MethodName := ⟨RX0, "allThatHave", "(III)J"⟩
def dkwX0_allThatHave_3 : List UInt8 := [180, 0, 109, 28, 50, 27, 21, 4, 79, 22, 5, 173]
abbrev dktX0_allThatHave_3 : List UInt8 := dkwX0_allThatHave_3 ++ []
def dkwX0_allThatHave_2 : List UInt8 := [153, 0, 10, 10, 21, 7, 121, 167, 0, 4, 9, 129, 55, 5, 132, 7, 1, 167, 255, 213, 42, 180, 0, 71]
abbrev dktX0_allThatHave_2 : List UInt8 := dkwX0_allThatHave_2 ++ dktX0_allThatHave_3
def dkwX0_allThatHave_1 : List UInt8 := [162, 0, 43, 42, 180, 0, 71, 180, 0, 109, 28, 50, 27, 21, 7, 79, 22, 5, 42, 27, 182, 0, 168]
abbrev dktX0_allThatHave_1 : List UInt8 := dkwX0_allThatHave_1 ++ dktX0_allThatHave_2
def dkwX0_allThatHave_0 : List UInt8 := [42, 180, 0, 71, 180, 0, 109, 28, 50, 27, 46, 54, 4, 9, 55, 5, 3, 54, 7, 21, 7, 29]
abbrev dktX0_allThatHave_0 : List UInt8 := dkwX0_allThatHave_0 ++ dktX0_allThatHave_1
theorem dksX0_allThatHave_0 : cX0_allThatHave.data.toList.drop 0 = dktX0_allThatHave_0 := by decide +kernel
theorem dksX0_allThatHave_1 : cX0_allThatHave.data.toList.drop 22 = dktX0_allThatHave_1 := dk_seg dksX0_allThatHave_0 22 rfl rfl
theorem dksX0_allThatHave_2 : cX0_allThatHave.data.toList.drop 45 = dktX0_allThatHave_2 := dk_seg dksX0_allThatHave_1 23 rfl rfl
theorem dksX0_allThatHave_3 : cX0_allThatHave.data.toList.drop 69 = dktX0_allThatHave_3 := dk_seg dksX0_allThatHave_2 24 rfl rfl
theorem dX0_allThatHave_0 : decode cX0_allThatHave 0 = .ok (.aload_n 0, 1) := dk_42 (dk_at dksX0_allThatHave_0 0 rfl rfl)
theorem dX0_allThatHave_1 : decode cX0_allThatHave 1 = .ok (.getfield 71, 3) := dk_180 0 71 (dk_at dksX0_allThatHave_0 1 rfl rfl)
theorem dX0_allThatHave_4 : decode cX0_allThatHave 4 = .ok (.getfield 109, 3) := dk_180 0 109 (dk_at dksX0_allThatHave_0 4 rfl rfl)
theorem dX0_allThatHave_7 : decode cX0_allThatHave 7 = .ok (.iload_n 2, 1) := dk_28 (dk_at dksX0_allThatHave_0 7 rfl rfl)
theorem dX0_allThatHave_8 : decode cX0_allThatHave 8 = .ok (.aaload, 1) := dk_50 (dk_at dksX0_allThatHave_0 8 rfl rfl)
theorem dX0_allThatHave_9 : decode cX0_allThatHave 9 = .ok (.iload_n 1, 1) := dk_27 (dk_at dksX0_allThatHave_0 9 rfl rfl)
theorem dX0_allThatHave_10 : decode cX0_allThatHave 10 = .ok (.iaload, 1) := dk_46 (dk_at dksX0_allThatHave_0 10 rfl rfl)
theorem dX0_allThatHave_11 : decode cX0_allThatHave 11 = .ok (.istore 4, 2) := dk_54 4 (dk_at dksX0_allThatHave_0 11 rfl rfl)
theorem dX0_allThatHave_13 : decode cX0_allThatHave 13 = .ok (.lconst 0, 1) := dk_9 (dk_at dksX0_allThatHave_0 13 rfl rfl)
theorem dX0_allThatHave_14 : decode cX0_allThatHave 14 = .ok (.lstore 5, 2) := dk_55 5 (dk_at dksX0_allThatHave_0 14 rfl rfl)
theorem dX0_allThatHave_16 : decode cX0_allThatHave 16 = .ok (.iconst 0, 1) := dk_3 (dk_at dksX0_allThatHave_0 16 rfl rfl)
theorem dX0_allThatHave_17 : decode cX0_allThatHave 17 = .ok (.istore 7, 2) := dk_54 7 (dk_at dksX0_allThatHave_0 17 rfl rfl)
theorem dX0_allThatHave_19 : decode cX0_allThatHave 19 = .ok (.iload 7, 2) := dk_21 7 (dk_at dksX0_allThatHave_0 19 rfl rfl)
theorem dX0_allThatHave_21 : decode cX0_allThatHave 21 = .ok (.iload_n 3, 1) := dk_29 (dk_at dksX0_allThatHave_0 21 rfl rfl)
theorem dX0_allThatHave_22 : decode cX0_allThatHave 22 = .ok (.if_icmp .ge 43, 3) := dk_162 0 43 (dk_at dksX0_allThatHave_1 0 rfl rfl)
theorem dX0_allThatHave_25 : decode cX0_allThatHave 25 = .ok (.aload_n 0, 1) := dk_42 (dk_at dksX0_allThatHave_1 3 rfl rfl)
theorem dX0_allThatHave_26 : decode cX0_allThatHave 26 = .ok (.getfield 71, 3) := dk_180 0 71 (dk_at dksX0_allThatHave_1 4 rfl rfl)
theorem dX0_allThatHave_29 : decode cX0_allThatHave 29 = .ok (.getfield 109, 3) := dk_180 0 109 (dk_at dksX0_allThatHave_1 7 rfl rfl)
theorem dX0_allThatHave_32 : decode cX0_allThatHave 32 = .ok (.iload_n 2, 1) := dk_28 (dk_at dksX0_allThatHave_1 10 rfl rfl)
theorem dX0_allThatHave_33 : decode cX0_allThatHave 33 = .ok (.aaload, 1) := dk_50 (dk_at dksX0_allThatHave_1 11 rfl rfl)
theorem dX0_allThatHave_34 : decode cX0_allThatHave 34 = .ok (.iload_n 1, 1) := dk_27 (dk_at dksX0_allThatHave_1 12 rfl rfl)
theorem dX0_allThatHave_35 : decode cX0_allThatHave 35 = .ok (.iload 7, 2) := dk_21 7 (dk_at dksX0_allThatHave_1 13 rfl rfl)
theorem dX0_allThatHave_37 : decode cX0_allThatHave 37 = .ok (.iastore, 1) := dk_79 (dk_at dksX0_allThatHave_1 15 rfl rfl)
theorem dX0_allThatHave_38 : decode cX0_allThatHave 38 = .ok (.lload 5, 2) := dk_22 5 (dk_at dksX0_allThatHave_1 16 rfl rfl)
theorem dX0_allThatHave_40 : decode cX0_allThatHave 40 = .ok (.aload_n 0, 1) := dk_42 (dk_at dksX0_allThatHave_1 18 rfl rfl)
theorem dX0_allThatHave_41 : decode cX0_allThatHave 41 = .ok (.iload_n 1, 1) := dk_27 (dk_at dksX0_allThatHave_1 19 rfl rfl)
theorem dX0_allThatHave_42 : decode cX0_allThatHave 42 = .ok (.invokevirtual 168, 3) := dk_182 0 168 (dk_at dksX0_allThatHave_1 20 rfl rfl)
theorem dX0_allThatHave_45 : decode cX0_allThatHave 45 = .ok (.ifCond .eq 10, 3) := dk_153 0 10 (dk_at dksX0_allThatHave_2 0 rfl rfl)
theorem dX0_allThatHave_48 : decode cX0_allThatHave 48 = .ok (.lconst 1, 1) := dk_10 (dk_at dksX0_allThatHave_2 3 rfl rfl)
theorem dX0_allThatHave_49 : decode cX0_allThatHave 49 = .ok (.iload 7, 2) := dk_21 7 (dk_at dksX0_allThatHave_2 4 rfl rfl)
theorem dX0_allThatHave_51 : decode cX0_allThatHave 51 = .ok (.lshl, 1) := dk_121 (dk_at dksX0_allThatHave_2 6 rfl rfl)
theorem dX0_allThatHave_52 : decode cX0_allThatHave 52 = .ok (.goto 4, 3) := dk_167 0 4 (dk_at dksX0_allThatHave_2 7 rfl rfl)
theorem dX0_allThatHave_55 : decode cX0_allThatHave 55 = .ok (.lconst 0, 1) := dk_9 (dk_at dksX0_allThatHave_2 10 rfl rfl)
theorem dX0_allThatHave_56 : decode cX0_allThatHave 56 = .ok (.lor, 1) := dk_129 (dk_at dksX0_allThatHave_2 11 rfl rfl)
theorem dX0_allThatHave_57 : decode cX0_allThatHave 57 = .ok (.lstore 5, 2) := dk_55 5 (dk_at dksX0_allThatHave_2 12 rfl rfl)
theorem dX0_allThatHave_59 : decode cX0_allThatHave 59 = .ok (.iinc 7 1, 3) := dk_132 7 1 (dk_at dksX0_allThatHave_2 14 rfl rfl)
theorem dX0_allThatHave_62 : decode cX0_allThatHave 62 = .ok (.goto (-43), 3) := dk_167 255 213 (dk_at dksX0_allThatHave_2 17 rfl rfl)
theorem dX0_allThatHave_65 : decode cX0_allThatHave 65 = .ok (.aload_n 0, 1) := dk_42 (dk_at dksX0_allThatHave_2 20 rfl rfl)
theorem dX0_allThatHave_66 : decode cX0_allThatHave 66 = .ok (.getfield 71, 3) := dk_180 0 71 (dk_at dksX0_allThatHave_2 21 rfl rfl)
theorem dX0_allThatHave_69 : decode cX0_allThatHave 69 = .ok (.getfield 109, 3) := dk_180 0 109 (dk_at dksX0_allThatHave_3 0 rfl rfl)
theorem dX0_allThatHave_72 : decode cX0_allThatHave 72 = .ok (.iload_n 2, 1) := dk_28 (dk_at dksX0_allThatHave_3 3 rfl rfl)
theorem dX0_allThatHave_73 : decode cX0_allThatHave 73 = .ok (.aaload, 1) := dk_50 (dk_at dksX0_allThatHave_3 4 rfl rfl)
theorem dX0_allThatHave_74 : decode cX0_allThatHave 74 = .ok (.iload_n 1, 1) := dk_27 (dk_at dksX0_allThatHave_3 5 rfl rfl)
theorem dX0_allThatHave_75 : decode cX0_allThatHave 75 = .ok (.iload 4, 2) := dk_21 4 (dk_at dksX0_allThatHave_3 6 rfl rfl)
theorem dX0_allThatHave_77 : decode cX0_allThatHave 77 = .ok (.iastore, 1) := dk_79 (dk_at dksX0_allThatHave_3 8 rfl rfl)
theorem dX0_allThatHave_78 : decode cX0_allThatHave 78 = .ok (.lload 5, 2) := dk_22 5 (dk_at dksX0_allThatHave_3 9 rfl rfl)
theorem dX0_allThatHave_80 : decode cX0_allThatHave 80 = .ok (.lreturn, 1) := dk_173 (dk_at dksX0_allThatHave_3 11 rfl rfl)
abbrev cX0_leastOf : ByteArray := prog_1_method_54_code
def yX0_leastOf : MethodName := ⟨RX0, "leastOf", "(J)I"⟩
def dkwX0_leastOf_0 : List UInt8 := [31, 9, 148, 154, 0, 11, 42, 6, 182, 0, 124, 167, 0, 7, 31, 184, 1, 8, 172]
abbrev dktX0_leastOf_0 : List UInt8 := dkwX0_leastOf_0 ++ []
theorem dksX0_leastOf_0 : cX0_leastOf.data.toList.drop 0 = dktX0_leastOf_0 := by decide +kernel
theorem dX0_leastOf_0 : decode cX0_leastOf 0 = .ok (.lload_n 1, 1) := dk_31 (dk_at dksX0_leastOf_0 0 rfl rfl)
theorem dX0_leastOf_1 : decode cX0_leastOf 1 = .ok (.lconst 0, 1) := dk_9 (dk_at dksX0_leastOf_0 1 rfl rfl)
theorem dX0_leastOf_2 : decode cX0_leastOf 2 = .ok (.lcmp, 1) := dk_148 (dk_at dksX0_leastOf_0 2 rfl rfl)
theorem dX0_leastOf_3 : decode cX0_leastOf 3 = .ok (.ifCond .ne 11, 3) := dk_154 0 11 (dk_at dksX0_leastOf_0 3 rfl rfl)
theorem dX0_leastOf_6 : decode cX0_leastOf 6 = .ok (.aload_n 0, 1) := dk_42 (dk_at dksX0_leastOf_0 6 rfl rfl)
theorem dX0_leastOf_7 : decode cX0_leastOf 7 = .ok (.iconst 3, 1) := dk_6 (dk_at dksX0_leastOf_0 7 rfl rfl)
theorem dX0_leastOf_8 : decode cX0_leastOf 8 = .ok (.invokevirtual 124, 3) := dk_182 0 124 (dk_at dksX0_leastOf_0 8 rfl rfl)
theorem dX0_leastOf_11 : decode cX0_leastOf 11 = .ok (.goto 7, 3) := dk_167 0 7 (dk_at dksX0_leastOf_0 11 rfl rfl)
theorem dX0_leastOf_14 : decode cX0_leastOf 14 = .ok (.lload_n 1, 1) := dk_31 (dk_at dksX0_leastOf_0 14 rfl rfl)
theorem dX0_leastOf_15 : decode cX0_leastOf 15 = .ok (.invokestatic 264, 3) := dk_184 1 8 (dk_at dksX0_leastOf_0 15 rfl rfl)
theorem dX0_leastOf_18 : decode cX0_leastOf 18 = .ok (.ireturn, 1) := dk_172 (dk_at dksX0_leastOf_0 18 rfl rfl)
abbrev cX0_aims : ByteArray := prog_1_method_56_code
def yX0_aims : MethodName := ⟨RX0, "aims", "(I)J"⟩
def dkwX0_aims_1 : List UInt8 := [133, 173]
abbrev dktX0_aims_1 : List UInt8 := dkwX0_aims_1 ++ []
def dkwX0_aims_0 : List UInt8 := [42, 27, 182, 0, 198, 153, 0, 14, 42, 27, 4, 16, 36, 182, 1, 14, 167, 0, 9, 42, 3, 182, 0, 124]
abbrev dktX0_aims_0 : List UInt8 := dkwX0_aims_0 ++ dktX0_aims_1
theorem dksX0_aims_0 : cX0_aims.data.toList.drop 0 = dktX0_aims_0 := by decide +kernel
theorem dksX0_aims_1 : cX0_aims.data.toList.drop 24 = dktX0_aims_1 := dk_seg dksX0_aims_0 24 rfl rfl
theorem dX0_aims_0 : decode cX0_aims 0 = .ok (.aload_n 0, 1) := dk_42 (dk_at dksX0_aims_0 0 rfl rfl)
theorem dX0_aims_1 : decode cX0_aims 1 = .ok (.iload_n 1, 1) := dk_27 (dk_at dksX0_aims_0 1 rfl rfl)
theorem dX0_aims_2 : decode cX0_aims 2 = .ok (.invokevirtual 198, 3) := dk_182 0 198 (dk_at dksX0_aims_0 2 rfl rfl)
theorem dX0_aims_5 : decode cX0_aims 5 = .ok (.ifCond .eq 14, 3) := dk_153 0 14 (dk_at dksX0_aims_0 5 rfl rfl)
theorem dX0_aims_8 : decode cX0_aims 8 = .ok (.aload_n 0, 1) := dk_42 (dk_at dksX0_aims_0 8 rfl rfl)
theorem dX0_aims_9 : decode cX0_aims 9 = .ok (.iload_n 1, 1) := dk_27 (dk_at dksX0_aims_0 9 rfl rfl)
theorem dX0_aims_10 : decode cX0_aims 10 = .ok (.iconst 1, 1) := dk_4 (dk_at dksX0_aims_0 10 rfl rfl)
theorem dX0_aims_11 : decode cX0_aims 11 = .ok (.bipush 36, 2) := dk_16 36 (dk_at dksX0_aims_0 11 rfl rfl)
theorem dX0_aims_13 : decode cX0_aims 13 = .ok (.invokevirtual 270, 3) := dk_182 1 14 (dk_at dksX0_aims_0 13 rfl rfl)
theorem dX0_aims_16 : decode cX0_aims 16 = .ok (.goto 9, 3) := dk_167 0 9 (dk_at dksX0_aims_0 16 rfl rfl)
theorem dX0_aims_19 : decode cX0_aims 19 = .ok (.aload_n 0, 1) := dk_42 (dk_at dksX0_aims_0 19 rfl rfl)
theorem dX0_aims_20 : decode cX0_aims 20 = .ok (.iconst 0, 1) := dk_3 (dk_at dksX0_aims_0 20 rfl rfl)
theorem dX0_aims_21 : decode cX0_aims 21 = .ok (.invokevirtual 124, 3) := dk_182 0 124 (dk_at dksX0_aims_0 21 rfl rfl)
theorem dX0_aims_24 : decode cX0_aims 24 = .ok (.i2l, 1) := dk_133 (dk_at dksX0_aims_1 0 rfl rfl)
theorem dX0_aims_25 : decode cX0_aims 25 = .ok (.lreturn, 1) := dk_173 (dk_at dksX0_aims_1 1 rfl rfl)
abbrev cX0_kinds : ByteArray := prog_1_method_57_code
def yX0_kinds : MethodName := ⟨RX0, "kinds", "(I)I"⟩
def dkwX0_kinds_1 : List UInt8 := [182, 0, 124, 172]
abbrev dktX0_kinds_1 : List UInt8 := dkwX0_kinds_1 ++ []
def dkwX0_kinds_0 : List UInt8 := [42, 27, 182, 0, 198, 153, 0, 15, 42, 27, 3, 16, 7, 182, 1, 14, 136, 167, 0, 8, 42, 3]
abbrev dktX0_kinds_0 : List UInt8 := dkwX0_kinds_0 ++ dktX0_kinds_1
theorem dksX0_kinds_0 : cX0_kinds.data.toList.drop 0 = dktX0_kinds_0 := by decide +kernel
theorem dksX0_kinds_1 : cX0_kinds.data.toList.drop 22 = dktX0_kinds_1 := dk_seg dksX0_kinds_0 22 rfl rfl
theorem dX0_kinds_0 : decode cX0_kinds 0 = .ok (.aload_n 0, 1) := dk_42 (dk_at dksX0_kinds_0 0 rfl rfl)
theorem dX0_kinds_1 : decode cX0_kinds 1 = .ok (.iload_n 1, 1) := dk_27 (dk_at dksX0_kinds_0 1 rfl rfl)
theorem dX0_kinds_2 : decode cX0_kinds 2 = .ok (.invokevirtual 198, 3) := dk_182 0 198 (dk_at dksX0_kinds_0 2 rfl rfl)
theorem dX0_kinds_5 : decode cX0_kinds 5 = .ok (.ifCond .eq 15, 3) := dk_153 0 15 (dk_at dksX0_kinds_0 5 rfl rfl)
theorem dX0_kinds_8 : decode cX0_kinds 8 = .ok (.aload_n 0, 1) := dk_42 (dk_at dksX0_kinds_0 8 rfl rfl)
theorem dX0_kinds_9 : decode cX0_kinds 9 = .ok (.iload_n 1, 1) := dk_27 (dk_at dksX0_kinds_0 9 rfl rfl)
theorem dX0_kinds_10 : decode cX0_kinds 10 = .ok (.iconst 0, 1) := dk_3 (dk_at dksX0_kinds_0 10 rfl rfl)
theorem dX0_kinds_11 : decode cX0_kinds 11 = .ok (.bipush 7, 2) := dk_16 7 (dk_at dksX0_kinds_0 11 rfl rfl)
theorem dX0_kinds_13 : decode cX0_kinds 13 = .ok (.invokevirtual 270, 3) := dk_182 1 14 (dk_at dksX0_kinds_0 13 rfl rfl)
theorem dX0_kinds_16 : decode cX0_kinds 16 = .ok (.l2i, 1) := dk_136 (dk_at dksX0_kinds_0 16 rfl rfl)
theorem dX0_kinds_17 : decode cX0_kinds 17 = .ok (.goto 8, 3) := dk_167 0 8 (dk_at dksX0_kinds_0 17 rfl rfl)
theorem dX0_kinds_20 : decode cX0_kinds 20 = .ok (.aload_n 0, 1) := dk_42 (dk_at dksX0_kinds_0 20 rfl rfl)
theorem dX0_kinds_21 : decode cX0_kinds 21 = .ok (.iconst 0, 1) := dk_3 (dk_at dksX0_kinds_0 21 rfl rfl)
theorem dX0_kinds_22 : decode cX0_kinds 22 = .ok (.invokevirtual 124, 3) := dk_182 0 124 (dk_at dksX0_kinds_1 0 rfl rfl)
theorem dX0_kinds_25 : decode cX0_kinds 25 = .ok (.ireturn, 1) := dk_172 (dk_at dksX0_kinds_1 3 rfl rfl)
abbrev cX0_waitFor : ByteArray := prog_1_method_58_code
def yX0_waitFor : MethodName := ⟨RX0, "waitFor", "(I)I"⟩
def dkwX0_waitFor_1 : List UInt8 := [3, 182, 0, 124, 172]
abbrev dktX0_waitFor_1 : List UInt8 := dkwX0_waitFor_1 ++ []
def dkwX0_waitFor_0 : List UInt8 := [42, 27, 182, 0, 198, 153, 0, 18, 42, 42, 27, 5, 16, 10, 182, 1, 14, 182, 1, 18, 167, 0, 8, 42]
abbrev dktX0_waitFor_0 : List UInt8 := dkwX0_waitFor_0 ++ dktX0_waitFor_1
theorem dksX0_waitFor_0 : cX0_waitFor.data.toList.drop 0 = dktX0_waitFor_0 := by decide +kernel
theorem dksX0_waitFor_1 : cX0_waitFor.data.toList.drop 24 = dktX0_waitFor_1 := dk_seg dksX0_waitFor_0 24 rfl rfl
theorem dX0_waitFor_0 : decode cX0_waitFor 0 = .ok (.aload_n 0, 1) := dk_42 (dk_at dksX0_waitFor_0 0 rfl rfl)
theorem dX0_waitFor_1 : decode cX0_waitFor 1 = .ok (.iload_n 1, 1) := dk_27 (dk_at dksX0_waitFor_0 1 rfl rfl)
theorem dX0_waitFor_2 : decode cX0_waitFor 2 = .ok (.invokevirtual 198, 3) := dk_182 0 198 (dk_at dksX0_waitFor_0 2 rfl rfl)
theorem dX0_waitFor_5 : decode cX0_waitFor 5 = .ok (.ifCond .eq 18, 3) := dk_153 0 18 (dk_at dksX0_waitFor_0 5 rfl rfl)
theorem dX0_waitFor_8 : decode cX0_waitFor 8 = .ok (.aload_n 0, 1) := dk_42 (dk_at dksX0_waitFor_0 8 rfl rfl)
theorem dX0_waitFor_9 : decode cX0_waitFor 9 = .ok (.aload_n 0, 1) := dk_42 (dk_at dksX0_waitFor_0 9 rfl rfl)
theorem dX0_waitFor_10 : decode cX0_waitFor 10 = .ok (.iload_n 1, 1) := dk_27 (dk_at dksX0_waitFor_0 10 rfl rfl)
theorem dX0_waitFor_11 : decode cX0_waitFor 11 = .ok (.iconst 2, 1) := dk_5 (dk_at dksX0_waitFor_0 11 rfl rfl)
theorem dX0_waitFor_12 : decode cX0_waitFor 12 = .ok (.bipush 10, 2) := dk_16 10 (dk_at dksX0_waitFor_0 12 rfl rfl)
theorem dX0_waitFor_14 : decode cX0_waitFor 14 = .ok (.invokevirtual 270, 3) := dk_182 1 14 (dk_at dksX0_waitFor_0 14 rfl rfl)
theorem dX0_waitFor_17 : decode cX0_waitFor 17 = .ok (.invokevirtual 274, 3) := dk_182 1 18 (dk_at dksX0_waitFor_0 17 rfl rfl)
theorem dX0_waitFor_20 : decode cX0_waitFor 20 = .ok (.goto 8, 3) := dk_167 0 8 (dk_at dksX0_waitFor_0 20 rfl rfl)
theorem dX0_waitFor_23 : decode cX0_waitFor 23 = .ok (.aload_n 0, 1) := dk_42 (dk_at dksX0_waitFor_0 23 rfl rfl)
theorem dX0_waitFor_24 : decode cX0_waitFor 24 = .ok (.iconst 0, 1) := dk_3 (dk_at dksX0_waitFor_1 0 rfl rfl)
theorem dX0_waitFor_25 : decode cX0_waitFor 25 = .ok (.invokevirtual 124, 3) := dk_182 0 124 (dk_at dksX0_waitFor_1 1 rfl rfl)
theorem dX0_waitFor_28 : decode cX0_waitFor 28 = .ok (.ireturn, 1) := dk_172 (dk_at dksX0_waitFor_1 4 rfl rfl)
abbrev cX0_best : ByteArray := prog_1_method_60_code
def yX0_best : MethodName := ⟨RX0, "best", "(I)I"⟩
def dkwX0_best_1 : List UInt8 := [182, 0, 124, 172]
abbrev dktX0_best_1 : List UInt8 := dkwX0_best_1 ++ []
def dkwX0_best_0 : List UInt8 := [27, 3, 16, 100, 184, 0, 9, 153, 0, 15, 42, 42, 27, 182, 1, 24, 182, 0, 251, 167, 0, 8, 42, 3]
abbrev dktX0_best_0 : List UInt8 := dkwX0_best_0 ++ dktX0_best_1
theorem dksX0_best_0 : cX0_best.data.toList.drop 0 = dktX0_best_0 := by decide +kernel
theorem dksX0_best_1 : cX0_best.data.toList.drop 24 = dktX0_best_1 := dk_seg dksX0_best_0 24 rfl rfl
theorem dX0_best_0 : decode cX0_best 0 = .ok (.iload_n 1, 1) := dk_27 (dk_at dksX0_best_0 0 rfl rfl)
theorem dX0_best_1 : decode cX0_best 1 = .ok (.iconst 0, 1) := dk_3 (dk_at dksX0_best_0 1 rfl rfl)
theorem dX0_best_2 : decode cX0_best 2 = .ok (.bipush 100, 2) := dk_16 100 (dk_at dksX0_best_0 2 rfl rfl)
theorem dX0_best_4 : decode cX0_best 4 = .ok (.invokestatic 9, 3) := dk_184 0 9 (dk_at dksX0_best_0 4 rfl rfl)
theorem dX0_best_7 : decode cX0_best 7 = .ok (.ifCond .eq 15, 3) := dk_153 0 15 (dk_at dksX0_best_0 7 rfl rfl)
theorem dX0_best_10 : decode cX0_best 10 = .ok (.aload_n 0, 1) := dk_42 (dk_at dksX0_best_0 10 rfl rfl)
theorem dX0_best_11 : decode cX0_best 11 = .ok (.aload_n 0, 1) := dk_42 (dk_at dksX0_best_0 11 rfl rfl)
theorem dX0_best_12 : decode cX0_best 12 = .ok (.iload_n 1, 1) := dk_27 (dk_at dksX0_best_0 12 rfl rfl)
theorem dX0_best_13 : decode cX0_best 13 = .ok (.invokevirtual 280, 3) := dk_182 1 24 (dk_at dksX0_best_0 13 rfl rfl)
theorem dX0_best_16 : decode cX0_best 16 = .ok (.invokevirtual 251, 3) := dk_182 0 251 (dk_at dksX0_best_0 16 rfl rfl)
theorem dX0_best_19 : decode cX0_best 19 = .ok (.goto 8, 3) := dk_167 0 8 (dk_at dksX0_best_0 19 rfl rfl)
theorem dX0_best_22 : decode cX0_best 22 = .ok (.aload_n 0, 1) := dk_42 (dk_at dksX0_best_0 22 rfl rfl)
theorem dX0_best_23 : decode cX0_best 23 = .ok (.iconst 0, 1) := dk_3 (dk_at dksX0_best_0 23 rfl rfl)
theorem dX0_best_24 : decode cX0_best 24 = .ok (.invokevirtual 124, 3) := dk_182 0 124 (dk_at dksX0_best_1 0 rfl rfl)
theorem dX0_best_27 : decode cX0_best 27 = .ok (.ireturn, 1) := dk_172 (dk_at dksX0_best_1 3 rfl rfl)
abbrev cX0_bestIn : ByteArray := prog_1_method_59_code
def yX0_bestIn : MethodName := ⟨RX0, "bestIn", "(I)I"⟩
def dkwX0_bestIn_2 : List UInt8 := [62, 132, 4, 1, 167, 255, 212, 28, 172]
abbrev dktX0_bestIn_2 : List UInt8 := dkwX0_bestIn_2 ++ []
def dkwX0_bestIn_1 : List UInt8 := [182, 1, 5, 54, 5, 21, 5, 29, 164, 0, 8, 21, 4, 167, 0, 4, 28, 61, 29, 21, 5, 184, 1, 21]
abbrev dktX0_bestIn_1 : List UInt8 := dkwX0_bestIn_1 ++ dktX0_bestIn_2
def dkwX0_bestIn_0 : List UInt8 := [2, 61, 2, 62, 3, 54, 4, 21, 4, 42, 180, 0, 71, 180, 0, 122, 162, 0, 38, 42, 21, 4, 27]
abbrev dktX0_bestIn_0 : List UInt8 := dkwX0_bestIn_0 ++ dktX0_bestIn_1
theorem dksX0_bestIn_0 : cX0_bestIn.data.toList.drop 0 = dktX0_bestIn_0 := by decide +kernel
theorem dksX0_bestIn_1 : cX0_bestIn.data.toList.drop 23 = dktX0_bestIn_1 := dk_seg dksX0_bestIn_0 23 rfl rfl
theorem dksX0_bestIn_2 : cX0_bestIn.data.toList.drop 47 = dktX0_bestIn_2 := dk_seg dksX0_bestIn_1 24 rfl rfl
theorem dX0_bestIn_0 : decode cX0_bestIn 0 = .ok (.iconst (-1), 1) := dk_2 (dk_at dksX0_bestIn_0 0 rfl rfl)
theorem dX0_bestIn_1 : decode cX0_bestIn 1 = .ok (.istore_n 2, 1) := dk_61 (dk_at dksX0_bestIn_0 1 rfl rfl)
theorem dX0_bestIn_2 : decode cX0_bestIn 2 = .ok (.iconst (-1), 1) := dk_2 (dk_at dksX0_bestIn_0 2 rfl rfl)
theorem dX0_bestIn_3 : decode cX0_bestIn 3 = .ok (.istore_n 3, 1) := dk_62 (dk_at dksX0_bestIn_0 3 rfl rfl)
theorem dX0_bestIn_4 : decode cX0_bestIn 4 = .ok (.iconst 0, 1) := dk_3 (dk_at dksX0_bestIn_0 4 rfl rfl)
theorem dX0_bestIn_5 : decode cX0_bestIn 5 = .ok (.istore 4, 2) := dk_54 4 (dk_at dksX0_bestIn_0 5 rfl rfl)
theorem dX0_bestIn_7 : decode cX0_bestIn 7 = .ok (.iload 4, 2) := dk_21 4 (dk_at dksX0_bestIn_0 7 rfl rfl)
theorem dX0_bestIn_9 : decode cX0_bestIn 9 = .ok (.aload_n 0, 1) := dk_42 (dk_at dksX0_bestIn_0 9 rfl rfl)
theorem dX0_bestIn_10 : decode cX0_bestIn 10 = .ok (.getfield 71, 3) := dk_180 0 71 (dk_at dksX0_bestIn_0 10 rfl rfl)
theorem dX0_bestIn_13 : decode cX0_bestIn 13 = .ok (.getfield 122, 3) := dk_180 0 122 (dk_at dksX0_bestIn_0 13 rfl rfl)
theorem dX0_bestIn_16 : decode cX0_bestIn 16 = .ok (.if_icmp .ge 38, 3) := dk_162 0 38 (dk_at dksX0_bestIn_0 16 rfl rfl)
theorem dX0_bestIn_19 : decode cX0_bestIn 19 = .ok (.aload_n 0, 1) := dk_42 (dk_at dksX0_bestIn_0 19 rfl rfl)
theorem dX0_bestIn_20 : decode cX0_bestIn 20 = .ok (.iload 4, 2) := dk_21 4 (dk_at dksX0_bestIn_0 20 rfl rfl)
theorem dX0_bestIn_22 : decode cX0_bestIn 22 = .ok (.iload_n 1, 1) := dk_27 (dk_at dksX0_bestIn_0 22 rfl rfl)
theorem dX0_bestIn_23 : decode cX0_bestIn 23 = .ok (.invokevirtual 261, 3) := dk_182 1 5 (dk_at dksX0_bestIn_1 0 rfl rfl)
theorem dX0_bestIn_26 : decode cX0_bestIn 26 = .ok (.istore 5, 2) := dk_54 5 (dk_at dksX0_bestIn_1 3 rfl rfl)
theorem dX0_bestIn_28 : decode cX0_bestIn 28 = .ok (.iload 5, 2) := dk_21 5 (dk_at dksX0_bestIn_1 5 rfl rfl)
theorem dX0_bestIn_30 : decode cX0_bestIn 30 = .ok (.iload_n 3, 1) := dk_29 (dk_at dksX0_bestIn_1 7 rfl rfl)
theorem dX0_bestIn_31 : decode cX0_bestIn 31 = .ok (.if_icmp .le 8, 3) := dk_164 0 8 (dk_at dksX0_bestIn_1 8 rfl rfl)
theorem dX0_bestIn_34 : decode cX0_bestIn 34 = .ok (.iload 4, 2) := dk_21 4 (dk_at dksX0_bestIn_1 11 rfl rfl)
theorem dX0_bestIn_36 : decode cX0_bestIn 36 = .ok (.goto 4, 3) := dk_167 0 4 (dk_at dksX0_bestIn_1 13 rfl rfl)
theorem dX0_bestIn_39 : decode cX0_bestIn 39 = .ok (.iload_n 2, 1) := dk_28 (dk_at dksX0_bestIn_1 16 rfl rfl)
theorem dX0_bestIn_40 : decode cX0_bestIn 40 = .ok (.istore_n 2, 1) := dk_61 (dk_at dksX0_bestIn_1 17 rfl rfl)
theorem dX0_bestIn_41 : decode cX0_bestIn 41 = .ok (.iload_n 3, 1) := dk_29 (dk_at dksX0_bestIn_1 18 rfl rfl)
theorem dX0_bestIn_42 : decode cX0_bestIn 42 = .ok (.iload 5, 2) := dk_21 5 (dk_at dksX0_bestIn_1 19 rfl rfl)
theorem dX0_bestIn_44 : decode cX0_bestIn 44 = .ok (.invokestatic 277, 3) := dk_184 1 21 (dk_at dksX0_bestIn_1 21 rfl rfl)
theorem dX0_bestIn_47 : decode cX0_bestIn 47 = .ok (.istore_n 3, 1) := dk_62 (dk_at dksX0_bestIn_2 0 rfl rfl)
theorem dX0_bestIn_48 : decode cX0_bestIn 48 = .ok (.iinc 4 1, 3) := dk_132 4 1 (dk_at dksX0_bestIn_2 1 rfl rfl)
theorem dX0_bestIn_51 : decode cX0_bestIn 51 = .ok (.goto (-44), 3) := dk_167 255 212 (dk_at dksX0_bestIn_2 4 rfl rfl)
theorem dX0_bestIn_54 : decode cX0_bestIn 54 = .ok (.iload_n 2, 1) := dk_28 (dk_at dksX0_bestIn_2 7 rfl rfl)
theorem dX0_bestIn_55 : decode cX0_bestIn 55 = .ok (.ireturn, 1) := dk_172 (dk_at dksX0_bestIn_2 8 rfl rfl)
abbrev cX0_post : ByteArray := prog_1_method_62_code
def yX0_post : MethodName := ⟨RX0, "post", "(I)I"⟩
def dkwX0_post_1 : List UInt8 := [182, 0, 124, 172]
abbrev dktX0_post_1 : List UInt8 := dkwX0_post_1 ++ []
def dkwX0_post_0 : List UInt8 := [27, 3, 16, 100, 184, 0, 9, 153, 0, 14, 42, 3, 16, 36, 27, 182, 1, 27, 167, 0, 8, 42, 3]
abbrev dktX0_post_0 : List UInt8 := dkwX0_post_0 ++ dktX0_post_1
theorem dksX0_post_0 : cX0_post.data.toList.drop 0 = dktX0_post_0 := by decide +kernel
theorem dksX0_post_1 : cX0_post.data.toList.drop 23 = dktX0_post_1 := dk_seg dksX0_post_0 23 rfl rfl
theorem dX0_post_0 : decode cX0_post 0 = .ok (.iload_n 1, 1) := dk_27 (dk_at dksX0_post_0 0 rfl rfl)
theorem dX0_post_1 : decode cX0_post 1 = .ok (.iconst 0, 1) := dk_3 (dk_at dksX0_post_0 1 rfl rfl)
theorem dX0_post_2 : decode cX0_post 2 = .ok (.bipush 100, 2) := dk_16 100 (dk_at dksX0_post_0 2 rfl rfl)
theorem dX0_post_4 : decode cX0_post 4 = .ok (.invokestatic 9, 3) := dk_184 0 9 (dk_at dksX0_post_0 4 rfl rfl)
theorem dX0_post_7 : decode cX0_post 7 = .ok (.ifCond .eq 14, 3) := dk_153 0 14 (dk_at dksX0_post_0 7 rfl rfl)
theorem dX0_post_10 : decode cX0_post 10 = .ok (.aload_n 0, 1) := dk_42 (dk_at dksX0_post_0 10 rfl rfl)
theorem dX0_post_11 : decode cX0_post 11 = .ok (.iconst 0, 1) := dk_3 (dk_at dksX0_post_0 11 rfl rfl)
theorem dX0_post_12 : decode cX0_post 12 = .ok (.bipush 36, 2) := dk_16 36 (dk_at dksX0_post_0 12 rfl rfl)
theorem dX0_post_14 : decode cX0_post 14 = .ok (.iload_n 1, 1) := dk_27 (dk_at dksX0_post_0 14 rfl rfl)
theorem dX0_post_15 : decode cX0_post 15 = .ok (.invokevirtual 283, 3) := dk_182 1 27 (dk_at dksX0_post_0 15 rfl rfl)
theorem dX0_post_18 : decode cX0_post 18 = .ok (.goto 8, 3) := dk_167 0 8 (dk_at dksX0_post_0 18 rfl rfl)
theorem dX0_post_21 : decode cX0_post 21 = .ok (.aload_n 0, 1) := dk_42 (dk_at dksX0_post_0 21 rfl rfl)
theorem dX0_post_22 : decode cX0_post 22 = .ok (.iconst 0, 1) := dk_3 (dk_at dksX0_post_0 22 rfl rfl)
theorem dX0_post_23 : decode cX0_post 23 = .ok (.invokevirtual 124, 3) := dk_182 0 124 (dk_at dksX0_post_1 0 rfl rfl)
theorem dX0_post_26 : decode cX0_post 26 = .ok (.ireturn, 1) := dk_172 (dk_at dksX0_post_1 3 rfl rfl)
abbrev cX0_bestOwl : ByteArray := prog_1_method_61_code
def yX0_bestOwl : MethodName := ⟨RX0, "bestOwl", "(III)I"⟩
def dkwX0_bestOwl_3 : List UInt8 := [132, 7, 1, 167, 255, 204, 42, 180, 0, 71, 180, 0, 184, 27, 21, 4, 79, 21, 5, 172]
abbrev dktX0_bestOwl_3 : List UInt8 := dkwX0_bestOwl_3 ++ []
def dkwX0_bestOwl_2 : List UInt8 := [21, 6, 164, 0, 8, 21, 7, 167, 0, 5, 21, 5, 54, 5, 21, 6, 21, 8, 184, 1, 21, 54, 6]
abbrev dktX0_bestOwl_2 : List UInt8 := dkwX0_bestOwl_2 ++ dktX0_bestOwl_3
def dkwX0_bestOwl_1 : List UInt8 := [162, 0, 52, 42, 180, 0, 71, 180, 0, 184, 27, 21, 7, 79, 42, 29, 182, 0, 245, 54, 8, 21, 8]
abbrev dktX0_bestOwl_1 : List UInt8 := dkwX0_bestOwl_1 ++ dktX0_bestOwl_2
def dkwX0_bestOwl_0 : List UInt8 := [42, 180, 0, 71, 180, 0, 184, 27, 46, 54, 4, 3, 54, 5, 2, 54, 6, 3, 54, 7, 21, 7, 28]
abbrev dktX0_bestOwl_0 : List UInt8 := dkwX0_bestOwl_0 ++ dktX0_bestOwl_1
theorem dksX0_bestOwl_0 : cX0_bestOwl.data.toList.drop 0 = dktX0_bestOwl_0 := by decide +kernel
theorem dksX0_bestOwl_1 : cX0_bestOwl.data.toList.drop 23 = dktX0_bestOwl_1 := dk_seg dksX0_bestOwl_0 23 rfl rfl
theorem dksX0_bestOwl_2 : cX0_bestOwl.data.toList.drop 46 = dktX0_bestOwl_2 := dk_seg dksX0_bestOwl_1 23 rfl rfl
theorem dksX0_bestOwl_3 : cX0_bestOwl.data.toList.drop 69 = dktX0_bestOwl_3 := dk_seg dksX0_bestOwl_2 23 rfl rfl
theorem dX0_bestOwl_0 : decode cX0_bestOwl 0 = .ok (.aload_n 0, 1) := dk_42 (dk_at dksX0_bestOwl_0 0 rfl rfl)
theorem dX0_bestOwl_1 : decode cX0_bestOwl 1 = .ok (.getfield 71, 3) := dk_180 0 71 (dk_at dksX0_bestOwl_0 1 rfl rfl)
theorem dX0_bestOwl_4 : decode cX0_bestOwl 4 = .ok (.getfield 184, 3) := dk_180 0 184 (dk_at dksX0_bestOwl_0 4 rfl rfl)
theorem dX0_bestOwl_7 : decode cX0_bestOwl 7 = .ok (.iload_n 1, 1) := dk_27 (dk_at dksX0_bestOwl_0 7 rfl rfl)
theorem dX0_bestOwl_8 : decode cX0_bestOwl 8 = .ok (.iaload, 1) := dk_46 (dk_at dksX0_bestOwl_0 8 rfl rfl)
theorem dX0_bestOwl_9 : decode cX0_bestOwl 9 = .ok (.istore 4, 2) := dk_54 4 (dk_at dksX0_bestOwl_0 9 rfl rfl)
theorem dX0_bestOwl_11 : decode cX0_bestOwl 11 = .ok (.iconst 0, 1) := dk_3 (dk_at dksX0_bestOwl_0 11 rfl rfl)
theorem dX0_bestOwl_12 : decode cX0_bestOwl 12 = .ok (.istore 5, 2) := dk_54 5 (dk_at dksX0_bestOwl_0 12 rfl rfl)
theorem dX0_bestOwl_14 : decode cX0_bestOwl 14 = .ok (.iconst (-1), 1) := dk_2 (dk_at dksX0_bestOwl_0 14 rfl rfl)
theorem dX0_bestOwl_15 : decode cX0_bestOwl 15 = .ok (.istore 6, 2) := dk_54 6 (dk_at dksX0_bestOwl_0 15 rfl rfl)
theorem dX0_bestOwl_17 : decode cX0_bestOwl 17 = .ok (.iconst 0, 1) := dk_3 (dk_at dksX0_bestOwl_0 17 rfl rfl)
theorem dX0_bestOwl_18 : decode cX0_bestOwl 18 = .ok (.istore 7, 2) := dk_54 7 (dk_at dksX0_bestOwl_0 18 rfl rfl)
theorem dX0_bestOwl_20 : decode cX0_bestOwl 20 = .ok (.iload 7, 2) := dk_21 7 (dk_at dksX0_bestOwl_0 20 rfl rfl)
theorem dX0_bestOwl_22 : decode cX0_bestOwl 22 = .ok (.iload_n 2, 1) := dk_28 (dk_at dksX0_bestOwl_0 22 rfl rfl)
theorem dX0_bestOwl_23 : decode cX0_bestOwl 23 = .ok (.if_icmp .ge 52, 3) := dk_162 0 52 (dk_at dksX0_bestOwl_1 0 rfl rfl)
theorem dX0_bestOwl_26 : decode cX0_bestOwl 26 = .ok (.aload_n 0, 1) := dk_42 (dk_at dksX0_bestOwl_1 3 rfl rfl)
theorem dX0_bestOwl_27 : decode cX0_bestOwl 27 = .ok (.getfield 71, 3) := dk_180 0 71 (dk_at dksX0_bestOwl_1 4 rfl rfl)
theorem dX0_bestOwl_30 : decode cX0_bestOwl 30 = .ok (.getfield 184, 3) := dk_180 0 184 (dk_at dksX0_bestOwl_1 7 rfl rfl)
theorem dX0_bestOwl_33 : decode cX0_bestOwl 33 = .ok (.iload_n 1, 1) := dk_27 (dk_at dksX0_bestOwl_1 10 rfl rfl)
theorem dX0_bestOwl_34 : decode cX0_bestOwl 34 = .ok (.iload 7, 2) := dk_21 7 (dk_at dksX0_bestOwl_1 11 rfl rfl)
theorem dX0_bestOwl_36 : decode cX0_bestOwl 36 = .ok (.iastore, 1) := dk_79 (dk_at dksX0_bestOwl_1 13 rfl rfl)
theorem dX0_bestOwl_37 : decode cX0_bestOwl 37 = .ok (.aload_n 0, 1) := dk_42 (dk_at dksX0_bestOwl_1 14 rfl rfl)
theorem dX0_bestOwl_38 : decode cX0_bestOwl 38 = .ok (.iload_n 3, 1) := dk_29 (dk_at dksX0_bestOwl_1 15 rfl rfl)
theorem dX0_bestOwl_39 : decode cX0_bestOwl 39 = .ok (.invokevirtual 245, 3) := dk_182 0 245 (dk_at dksX0_bestOwl_1 16 rfl rfl)
theorem dX0_bestOwl_42 : decode cX0_bestOwl 42 = .ok (.istore 8, 2) := dk_54 8 (dk_at dksX0_bestOwl_1 19 rfl rfl)
theorem dX0_bestOwl_44 : decode cX0_bestOwl 44 = .ok (.iload 8, 2) := dk_21 8 (dk_at dksX0_bestOwl_1 21 rfl rfl)
theorem dX0_bestOwl_46 : decode cX0_bestOwl 46 = .ok (.iload 6, 2) := dk_21 6 (dk_at dksX0_bestOwl_2 0 rfl rfl)
theorem dX0_bestOwl_48 : decode cX0_bestOwl 48 = .ok (.if_icmp .le 8, 3) := dk_164 0 8 (dk_at dksX0_bestOwl_2 2 rfl rfl)
theorem dX0_bestOwl_51 : decode cX0_bestOwl 51 = .ok (.iload 7, 2) := dk_21 7 (dk_at dksX0_bestOwl_2 5 rfl rfl)
theorem dX0_bestOwl_53 : decode cX0_bestOwl 53 = .ok (.goto 5, 3) := dk_167 0 5 (dk_at dksX0_bestOwl_2 7 rfl rfl)
theorem dX0_bestOwl_56 : decode cX0_bestOwl 56 = .ok (.iload 5, 2) := dk_21 5 (dk_at dksX0_bestOwl_2 10 rfl rfl)
theorem dX0_bestOwl_58 : decode cX0_bestOwl 58 = .ok (.istore 5, 2) := dk_54 5 (dk_at dksX0_bestOwl_2 12 rfl rfl)
theorem dX0_bestOwl_60 : decode cX0_bestOwl 60 = .ok (.iload 6, 2) := dk_21 6 (dk_at dksX0_bestOwl_2 14 rfl rfl)
theorem dX0_bestOwl_62 : decode cX0_bestOwl 62 = .ok (.iload 8, 2) := dk_21 8 (dk_at dksX0_bestOwl_2 16 rfl rfl)
theorem dX0_bestOwl_64 : decode cX0_bestOwl 64 = .ok (.invokestatic 277, 3) := dk_184 1 21 (dk_at dksX0_bestOwl_2 18 rfl rfl)
theorem dX0_bestOwl_67 : decode cX0_bestOwl 67 = .ok (.istore 6, 2) := dk_54 6 (dk_at dksX0_bestOwl_2 21 rfl rfl)
theorem dX0_bestOwl_69 : decode cX0_bestOwl 69 = .ok (.iinc 7 1, 3) := dk_132 7 1 (dk_at dksX0_bestOwl_3 0 rfl rfl)
theorem dX0_bestOwl_72 : decode cX0_bestOwl 72 = .ok (.goto (-52), 3) := dk_167 255 204 (dk_at dksX0_bestOwl_3 3 rfl rfl)
theorem dX0_bestOwl_75 : decode cX0_bestOwl 75 = .ok (.aload_n 0, 1) := dk_42 (dk_at dksX0_bestOwl_3 6 rfl rfl)
theorem dX0_bestOwl_76 : decode cX0_bestOwl 76 = .ok (.getfield 71, 3) := dk_180 0 71 (dk_at dksX0_bestOwl_3 7 rfl rfl)
theorem dX0_bestOwl_79 : decode cX0_bestOwl 79 = .ok (.getfield 184, 3) := dk_180 0 184 (dk_at dksX0_bestOwl_3 10 rfl rfl)
theorem dX0_bestOwl_82 : decode cX0_bestOwl 82 = .ok (.iload_n 1, 1) := dk_27 (dk_at dksX0_bestOwl_3 13 rfl rfl)
theorem dX0_bestOwl_83 : decode cX0_bestOwl 83 = .ok (.iload 4, 2) := dk_21 4 (dk_at dksX0_bestOwl_3 14 rfl rfl)
theorem dX0_bestOwl_85 : decode cX0_bestOwl 85 = .ok (.iastore, 1) := dk_79 (dk_at dksX0_bestOwl_3 16 rfl rfl)
theorem dX0_bestOwl_86 : decode cX0_bestOwl 86 = .ok (.iload 5, 2) := dk_21 5 (dk_at dksX0_bestOwl_3 17 rfl rfl)
theorem dX0_bestOwl_88 : decode cX0_bestOwl 88 = .ok (.ireturn, 1) := dk_172 (dk_at dksX0_bestOwl_3 19 rfl rfl)
abbrev cX0_face : ByteArray := prog_1_method_63_code
def yX0_face : MethodName := ⟨RX0, "face", "(I)I"⟩
def dkwX0_face_1 : List UInt8 := [182, 0, 124, 172]
abbrev dktX0_face_1 : List UInt8 := dkwX0_face_1 ++ []
def dkwX0_face_0 : List UInt8 := [27, 3, 16, 100, 184, 0, 9, 153, 0, 13, 42, 4, 7, 27, 182, 1, 27, 167, 0, 8, 42, 3]
abbrev dktX0_face_0 : List UInt8 := dkwX0_face_0 ++ dktX0_face_1
theorem dksX0_face_0 : cX0_face.data.toList.drop 0 = dktX0_face_0 := by decide +kernel
theorem dksX0_face_1 : cX0_face.data.toList.drop 22 = dktX0_face_1 := dk_seg dksX0_face_0 22 rfl rfl
theorem dX0_face_0 : decode cX0_face 0 = .ok (.iload_n 1, 1) := dk_27 (dk_at dksX0_face_0 0 rfl rfl)
theorem dX0_face_1 : decode cX0_face 1 = .ok (.iconst 0, 1) := dk_3 (dk_at dksX0_face_0 1 rfl rfl)
theorem dX0_face_2 : decode cX0_face 2 = .ok (.bipush 100, 2) := dk_16 100 (dk_at dksX0_face_0 2 rfl rfl)
theorem dX0_face_4 : decode cX0_face 4 = .ok (.invokestatic 9, 3) := dk_184 0 9 (dk_at dksX0_face_0 4 rfl rfl)
theorem dX0_face_7 : decode cX0_face 7 = .ok (.ifCond .eq 13, 3) := dk_153 0 13 (dk_at dksX0_face_0 7 rfl rfl)
theorem dX0_face_10 : decode cX0_face 10 = .ok (.aload_n 0, 1) := dk_42 (dk_at dksX0_face_0 10 rfl rfl)
theorem dX0_face_11 : decode cX0_face 11 = .ok (.iconst 1, 1) := dk_4 (dk_at dksX0_face_0 11 rfl rfl)
theorem dX0_face_12 : decode cX0_face 12 = .ok (.iconst 4, 1) := dk_7 (dk_at dksX0_face_0 12 rfl rfl)
theorem dX0_face_13 : decode cX0_face 13 = .ok (.iload_n 1, 1) := dk_27 (dk_at dksX0_face_0 13 rfl rfl)
theorem dX0_face_14 : decode cX0_face 14 = .ok (.invokevirtual 283, 3) := dk_182 1 27 (dk_at dksX0_face_0 14 rfl rfl)
theorem dX0_face_17 : decode cX0_face 17 = .ok (.goto 8, 3) := dk_167 0 8 (dk_at dksX0_face_0 17 rfl rfl)
theorem dX0_face_20 : decode cX0_face 20 = .ok (.aload_n 0, 1) := dk_42 (dk_at dksX0_face_0 20 rfl rfl)
theorem dX0_face_21 : decode cX0_face 21 = .ok (.iconst 0, 1) := dk_3 (dk_at dksX0_face_0 21 rfl rfl)
theorem dX0_face_22 : decode cX0_face 22 = .ok (.invokevirtual 124, 3) := dk_182 0 124 (dk_at dksX0_face_1 0 rfl rfl)
theorem dX0_face_25 : decode cX0_face 25 = .ok (.ireturn, 1) := dk_172 (dk_at dksX0_face_1 3 rfl rfl)
abbrev cX0_rhythm : ByteArray := prog_1_method_68_code
def yX0_rhythm : MethodName := ⟨RX0, "rhythm", "(II)I"⟩
def dkwX0_rhythm_0 : List UInt8 := [42, 27, 28, 182, 1, 40, 153, 0, 12, 42, 27, 28, 182, 1, 43, 167, 0, 8, 42, 3, 182, 0, 124, 172]
abbrev dktX0_rhythm_0 : List UInt8 := dkwX0_rhythm_0 ++ []
theorem dksX0_rhythm_0 : cX0_rhythm.data.toList.drop 0 = dktX0_rhythm_0 := by decide +kernel
theorem dX0_rhythm_0 : decode cX0_rhythm 0 = .ok (.aload_n 0, 1) := dk_42 (dk_at dksX0_rhythm_0 0 rfl rfl)
theorem dX0_rhythm_1 : decode cX0_rhythm 1 = .ok (.iload_n 1, 1) := dk_27 (dk_at dksX0_rhythm_0 1 rfl rfl)
theorem dX0_rhythm_2 : decode cX0_rhythm 2 = .ok (.iload_n 2, 1) := dk_28 (dk_at dksX0_rhythm_0 2 rfl rfl)
theorem dX0_rhythm_3 : decode cX0_rhythm 3 = .ok (.invokevirtual 296, 3) := dk_182 1 40 (dk_at dksX0_rhythm_0 3 rfl rfl)
theorem dX0_rhythm_6 : decode cX0_rhythm 6 = .ok (.ifCond .eq 12, 3) := dk_153 0 12 (dk_at dksX0_rhythm_0 6 rfl rfl)
theorem dX0_rhythm_9 : decode cX0_rhythm 9 = .ok (.aload_n 0, 1) := dk_42 (dk_at dksX0_rhythm_0 9 rfl rfl)
theorem dX0_rhythm_10 : decode cX0_rhythm 10 = .ok (.iload_n 1, 1) := dk_27 (dk_at dksX0_rhythm_0 10 rfl rfl)
theorem dX0_rhythm_11 : decode cX0_rhythm 11 = .ok (.iload_n 2, 1) := dk_28 (dk_at dksX0_rhythm_0 11 rfl rfl)
theorem dX0_rhythm_12 : decode cX0_rhythm 12 = .ok (.invokevirtual 299, 3) := dk_182 1 43 (dk_at dksX0_rhythm_0 12 rfl rfl)
theorem dX0_rhythm_15 : decode cX0_rhythm 15 = .ok (.goto 8, 3) := dk_167 0 8 (dk_at dksX0_rhythm_0 15 rfl rfl)
theorem dX0_rhythm_18 : decode cX0_rhythm 18 = .ok (.aload_n 0, 1) := dk_42 (dk_at dksX0_rhythm_0 18 rfl rfl)
theorem dX0_rhythm_19 : decode cX0_rhythm 19 = .ok (.iconst 0, 1) := dk_3 (dk_at dksX0_rhythm_0 19 rfl rfl)
theorem dX0_rhythm_20 : decode cX0_rhythm 20 = .ok (.invokevirtual 124, 3) := dk_182 0 124 (dk_at dksX0_rhythm_0 20 rfl rfl)
theorem dX0_rhythm_23 : decode cX0_rhythm 23 = .ok (.ireturn, 1) := dk_172 (dk_at dksX0_rhythm_0 23 rfl rfl)
abbrev cX0_areTicks : ByteArray := prog_1_method_67_code
def yX0_areTicks : MethodName := ⟨RX0, "areTicks", "(II)Z"⟩
def dkwX0_areTicks_1 : List UInt8 := [172]
abbrev dktX0_areTicks_1 : List UInt8 := dkwX0_areTicks_1 ++ []
def dkwX0_areTicks_0 : List UInt8 := [27, 4, 16, 60, 184, 0, 9, 153, 0, 16, 28, 3, 27, 184, 0, 9, 153, 0, 7, 4, 167, 0, 4, 3]
abbrev dktX0_areTicks_0 : List UInt8 := dkwX0_areTicks_0 ++ dktX0_areTicks_1
theorem dksX0_areTicks_0 : cX0_areTicks.data.toList.drop 0 = dktX0_areTicks_0 := by decide +kernel
theorem dksX0_areTicks_1 : cX0_areTicks.data.toList.drop 24 = dktX0_areTicks_1 := dk_seg dksX0_areTicks_0 24 rfl rfl
theorem dX0_areTicks_0 : decode cX0_areTicks 0 = .ok (.iload_n 1, 1) := dk_27 (dk_at dksX0_areTicks_0 0 rfl rfl)
theorem dX0_areTicks_1 : decode cX0_areTicks 1 = .ok (.iconst 1, 1) := dk_4 (dk_at dksX0_areTicks_0 1 rfl rfl)
theorem dX0_areTicks_2 : decode cX0_areTicks 2 = .ok (.bipush 60, 2) := dk_16 60 (dk_at dksX0_areTicks_0 2 rfl rfl)
theorem dX0_areTicks_4 : decode cX0_areTicks 4 = .ok (.invokestatic 9, 3) := dk_184 0 9 (dk_at dksX0_areTicks_0 4 rfl rfl)
theorem dX0_areTicks_7 : decode cX0_areTicks 7 = .ok (.ifCond .eq 16, 3) := dk_153 0 16 (dk_at dksX0_areTicks_0 7 rfl rfl)
theorem dX0_areTicks_10 : decode cX0_areTicks 10 = .ok (.iload_n 2, 1) := dk_28 (dk_at dksX0_areTicks_0 10 rfl rfl)
theorem dX0_areTicks_11 : decode cX0_areTicks 11 = .ok (.iconst 0, 1) := dk_3 (dk_at dksX0_areTicks_0 11 rfl rfl)
theorem dX0_areTicks_12 : decode cX0_areTicks 12 = .ok (.iload_n 1, 1) := dk_27 (dk_at dksX0_areTicks_0 12 rfl rfl)
theorem dX0_areTicks_13 : decode cX0_areTicks 13 = .ok (.invokestatic 9, 3) := dk_184 0 9 (dk_at dksX0_areTicks_0 13 rfl rfl)
theorem dX0_areTicks_16 : decode cX0_areTicks 16 = .ok (.ifCond .eq 7, 3) := dk_153 0 7 (dk_at dksX0_areTicks_0 16 rfl rfl)
theorem dX0_areTicks_19 : decode cX0_areTicks 19 = .ok (.iconst 1, 1) := dk_4 (dk_at dksX0_areTicks_0 19 rfl rfl)
theorem dX0_areTicks_20 : decode cX0_areTicks 20 = .ok (.goto 4, 3) := dk_167 0 4 (dk_at dksX0_areTicks_0 20 rfl rfl)
theorem dX0_areTicks_23 : decode cX0_areTicks 23 = .ok (.iconst 0, 1) := dk_3 (dk_at dksX0_areTicks_0 23 rfl rfl)
theorem dX0_areTicks_24 : decode cX0_areTicks 24 = .ok (.ireturn, 1) := dk_172 (dk_at dksX0_areTicks_1 0 rfl rfl)
abbrev cX0_quietest : ByteArray := prog_1_method_66_code
def yX0_quietest : MethodName := ⟨RX0, "quietest", "(II)I"⟩
def dkwX0_quietest_3 : List UInt8 := [167, 0, 7, 42, 180, 1, 37, 181, 1, 37, 132, 4, 1, 167, 255, 179, 29, 172]
abbrev dktX0_quietest_3 : List UInt8 := dkwX0_quietest_3 ++ []
def dkwX0_quietest_2 : List UInt8 := [3, 54, 6, 21, 6, 153, 0, 8, 21, 4, 167, 0, 4, 29, 62, 42, 21, 6, 153, 0, 8, 21, 5]
abbrev dktX0_quietest_2 : List UInt8 := dkwX0_quietest_2 ++ dktX0_quietest_3
def dkwX0_quietest_1 : List UInt8 := [21, 5, 2, 159, 0, 21, 29, 2, 159, 0, 12, 21, 5, 42, 180, 1, 37, 162, 0, 7, 4, 167, 0, 4]
abbrev dktX0_quietest_1 : List UInt8 := dkwX0_quietest_1 ++ dktX0_quietest_2
def dkwX0_quietest_0 : List UInt8 := [2, 62, 16, 10, 54, 4, 21, 4, 16, 100, 162, 0, 76, 42, 21, 4, 27, 28, 182, 1, 34, 54, 5]
abbrev dktX0_quietest_0 : List UInt8 := dkwX0_quietest_0 ++ dktX0_quietest_1
theorem dksX0_quietest_0 : cX0_quietest.data.toList.drop 0 = dktX0_quietest_0 := by decide +kernel
theorem dksX0_quietest_1 : cX0_quietest.data.toList.drop 23 = dktX0_quietest_1 := dk_seg dksX0_quietest_0 23 rfl rfl
theorem dksX0_quietest_2 : cX0_quietest.data.toList.drop 47 = dktX0_quietest_2 := dk_seg dksX0_quietest_1 24 rfl rfl
theorem dksX0_quietest_3 : cX0_quietest.data.toList.drop 70 = dktX0_quietest_3 := dk_seg dksX0_quietest_2 23 rfl rfl
theorem dX0_quietest_0 : decode cX0_quietest 0 = .ok (.iconst (-1), 1) := dk_2 (dk_at dksX0_quietest_0 0 rfl rfl)
theorem dX0_quietest_1 : decode cX0_quietest 1 = .ok (.istore_n 3, 1) := dk_62 (dk_at dksX0_quietest_0 1 rfl rfl)
theorem dX0_quietest_2 : decode cX0_quietest 2 = .ok (.bipush 10, 2) := dk_16 10 (dk_at dksX0_quietest_0 2 rfl rfl)
theorem dX0_quietest_4 : decode cX0_quietest 4 = .ok (.istore 4, 2) := dk_54 4 (dk_at dksX0_quietest_0 4 rfl rfl)
theorem dX0_quietest_6 : decode cX0_quietest 6 = .ok (.iload 4, 2) := dk_21 4 (dk_at dksX0_quietest_0 6 rfl rfl)
theorem dX0_quietest_8 : decode cX0_quietest 8 = .ok (.bipush 100, 2) := dk_16 100 (dk_at dksX0_quietest_0 8 rfl rfl)
theorem dX0_quietest_10 : decode cX0_quietest 10 = .ok (.if_icmp .ge 76, 3) := dk_162 0 76 (dk_at dksX0_quietest_0 10 rfl rfl)
theorem dX0_quietest_13 : decode cX0_quietest 13 = .ok (.aload_n 0, 1) := dk_42 (dk_at dksX0_quietest_0 13 rfl rfl)
theorem dX0_quietest_14 : decode cX0_quietest 14 = .ok (.iload 4, 2) := dk_21 4 (dk_at dksX0_quietest_0 14 rfl rfl)
theorem dX0_quietest_16 : decode cX0_quietest 16 = .ok (.iload_n 1, 1) := dk_27 (dk_at dksX0_quietest_0 16 rfl rfl)
theorem dX0_quietest_17 : decode cX0_quietest 17 = .ok (.iload_n 2, 1) := dk_28 (dk_at dksX0_quietest_0 17 rfl rfl)
theorem dX0_quietest_18 : decode cX0_quietest 18 = .ok (.invokevirtual 290, 3) := dk_182 1 34 (dk_at dksX0_quietest_0 18 rfl rfl)
theorem dX0_quietest_21 : decode cX0_quietest 21 = .ok (.istore 5, 2) := dk_54 5 (dk_at dksX0_quietest_0 21 rfl rfl)
theorem dX0_quietest_23 : decode cX0_quietest 23 = .ok (.iload 5, 2) := dk_21 5 (dk_at dksX0_quietest_1 0 rfl rfl)
theorem dX0_quietest_25 : decode cX0_quietest 25 = .ok (.iconst (-1), 1) := dk_2 (dk_at dksX0_quietest_1 2 rfl rfl)
theorem dX0_quietest_26 : decode cX0_quietest 26 = .ok (.if_icmp .eq 21, 3) := dk_159 0 21 (dk_at dksX0_quietest_1 3 rfl rfl)
theorem dX0_quietest_29 : decode cX0_quietest 29 = .ok (.iload_n 3, 1) := dk_29 (dk_at dksX0_quietest_1 6 rfl rfl)
theorem dX0_quietest_30 : decode cX0_quietest 30 = .ok (.iconst (-1), 1) := dk_2 (dk_at dksX0_quietest_1 7 rfl rfl)
theorem dX0_quietest_31 : decode cX0_quietest 31 = .ok (.if_icmp .eq 12, 3) := dk_159 0 12 (dk_at dksX0_quietest_1 8 rfl rfl)
theorem dX0_quietest_34 : decode cX0_quietest 34 = .ok (.iload 5, 2) := dk_21 5 (dk_at dksX0_quietest_1 11 rfl rfl)
theorem dX0_quietest_36 : decode cX0_quietest 36 = .ok (.aload_n 0, 1) := dk_42 (dk_at dksX0_quietest_1 13 rfl rfl)
theorem dX0_quietest_37 : decode cX0_quietest 37 = .ok (.getfield 293, 3) := dk_180 1 37 (dk_at dksX0_quietest_1 14 rfl rfl)
theorem dX0_quietest_40 : decode cX0_quietest 40 = .ok (.if_icmp .ge 7, 3) := dk_162 0 7 (dk_at dksX0_quietest_1 17 rfl rfl)
theorem dX0_quietest_43 : decode cX0_quietest 43 = .ok (.iconst 1, 1) := dk_4 (dk_at dksX0_quietest_1 20 rfl rfl)
theorem dX0_quietest_44 : decode cX0_quietest 44 = .ok (.goto 4, 3) := dk_167 0 4 (dk_at dksX0_quietest_1 21 rfl rfl)
theorem dX0_quietest_47 : decode cX0_quietest 47 = .ok (.iconst 0, 1) := dk_3 (dk_at dksX0_quietest_2 0 rfl rfl)
theorem dX0_quietest_48 : decode cX0_quietest 48 = .ok (.istore 6, 2) := dk_54 6 (dk_at dksX0_quietest_2 1 rfl rfl)
theorem dX0_quietest_50 : decode cX0_quietest 50 = .ok (.iload 6, 2) := dk_21 6 (dk_at dksX0_quietest_2 3 rfl rfl)
theorem dX0_quietest_52 : decode cX0_quietest 52 = .ok (.ifCond .eq 8, 3) := dk_153 0 8 (dk_at dksX0_quietest_2 5 rfl rfl)
theorem dX0_quietest_55 : decode cX0_quietest 55 = .ok (.iload 4, 2) := dk_21 4 (dk_at dksX0_quietest_2 8 rfl rfl)
theorem dX0_quietest_57 : decode cX0_quietest 57 = .ok (.goto 4, 3) := dk_167 0 4 (dk_at dksX0_quietest_2 10 rfl rfl)
theorem dX0_quietest_60 : decode cX0_quietest 60 = .ok (.iload_n 3, 1) := dk_29 (dk_at dksX0_quietest_2 13 rfl rfl)
theorem dX0_quietest_61 : decode cX0_quietest 61 = .ok (.istore_n 3, 1) := dk_62 (dk_at dksX0_quietest_2 14 rfl rfl)
theorem dX0_quietest_62 : decode cX0_quietest 62 = .ok (.aload_n 0, 1) := dk_42 (dk_at dksX0_quietest_2 15 rfl rfl)
theorem dX0_quietest_63 : decode cX0_quietest 63 = .ok (.iload 6, 2) := dk_21 6 (dk_at dksX0_quietest_2 16 rfl rfl)
theorem dX0_quietest_65 : decode cX0_quietest 65 = .ok (.ifCond .eq 8, 3) := dk_153 0 8 (dk_at dksX0_quietest_2 18 rfl rfl)
theorem dX0_quietest_68 : decode cX0_quietest 68 = .ok (.iload 5, 2) := dk_21 5 (dk_at dksX0_quietest_2 21 rfl rfl)
theorem dX0_quietest_70 : decode cX0_quietest 70 = .ok (.goto 7, 3) := dk_167 0 7 (dk_at dksX0_quietest_3 0 rfl rfl)
theorem dX0_quietest_73 : decode cX0_quietest 73 = .ok (.aload_n 0, 1) := dk_42 (dk_at dksX0_quietest_3 3 rfl rfl)
theorem dX0_quietest_74 : decode cX0_quietest 74 = .ok (.getfield 293, 3) := dk_180 1 37 (dk_at dksX0_quietest_3 4 rfl rfl)
theorem dX0_quietest_77 : decode cX0_quietest 77 = .ok (.putfield 293, 3) := dk_181 1 37 (dk_at dksX0_quietest_3 7 rfl rfl)
theorem dX0_quietest_80 : decode cX0_quietest 80 = .ok (.iinc 4 1, 3) := dk_132 4 1 (dk_at dksX0_quietest_3 10 rfl rfl)
theorem dX0_quietest_83 : decode cX0_quietest 83 = .ok (.goto (-77), 3) := dk_167 255 179 (dk_at dksX0_quietest_3 13 rfl rfl)
theorem dX0_quietest_86 : decode cX0_quietest 86 = .ok (.iload_n 3, 1) := dk_29 (dk_at dksX0_quietest_3 16 rfl rfl)
theorem dX0_quietest_87 : decode cX0_quietest 87 = .ok (.ireturn, 1) := dk_172 (dk_at dksX0_quietest_3 17 rfl rfl)
abbrev cX0_heardBy : ByteArray := prog_1_method_65_code
def yX0_heardBy : MethodName := ⟨RX0, "heardBy", "(III)I"⟩
def dkwX0_heardBy_4 : List UInt8 := [191]
abbrev dktX0_heardBy_4 : List UInt8 := dkwX0_heardBy_4 ++ []
def dkwX0_heardBy_3 : List UInt8 := [180, 0, 81, 182, 0, 155, 21, 4, 172, 58, 5, 42, 180, 0, 71, 42, 180, 0, 81, 182, 0, 155, 25, 5]
abbrev dktX0_heardBy_3 : List UInt8 := dkwX0_heardBy_3 ++ dktX0_heardBy_4
def dkwX0_heardBy_2 : List UInt8 := [28, 182, 1, 31, 29, 162, 0, 7, 2, 167, 0, 8, 42, 28, 182, 0, 245, 54, 4, 42, 180, 0, 71, 42]
abbrev dktX0_heardBy_2 : List UInt8 := dkwX0_heardBy_2 ++ dktX0_heardBy_3
def dkwX0_heardBy_1 : List UInt8 := [42, 180, 0, 71, 180, 0, 133, 6, 27, 16, 10, 112, 79, 42, 180, 0, 71, 180, 0, 133, 7, 3, 79, 42]
abbrev dktX0_heardBy_1 : List UInt8 := dkwX0_heardBy_1 ++ dktX0_heardBy_2
def dkwX0_heardBy_0 : List UInt8 := [42, 180, 0, 81, 42, 180, 0, 71, 182, 0, 155, 42, 180, 0, 71, 180, 0, 133, 5, 27, 16, 10, 108, 79]
abbrev dktX0_heardBy_0 : List UInt8 := dkwX0_heardBy_0 ++ dktX0_heardBy_1
theorem dksX0_heardBy_0 : cX0_heardBy.data.toList.drop 0 = dktX0_heardBy_0 := by decide +kernel
theorem dksX0_heardBy_1 : cX0_heardBy.data.toList.drop 24 = dktX0_heardBy_1 := dk_seg dksX0_heardBy_0 24 rfl rfl
theorem dksX0_heardBy_2 : cX0_heardBy.data.toList.drop 48 = dktX0_heardBy_2 := dk_seg dksX0_heardBy_1 24 rfl rfl
theorem dksX0_heardBy_3 : cX0_heardBy.data.toList.drop 72 = dktX0_heardBy_3 := dk_seg dksX0_heardBy_2 24 rfl rfl
theorem dksX0_heardBy_4 : cX0_heardBy.data.toList.drop 96 = dktX0_heardBy_4 := dk_seg dksX0_heardBy_3 24 rfl rfl
theorem dX0_heardBy_0 : decode cX0_heardBy 0 = .ok (.aload_n 0, 1) := dk_42 (dk_at dksX0_heardBy_0 0 rfl rfl)
theorem dX0_heardBy_1 : decode cX0_heardBy 1 = .ok (.getfield 81, 3) := dk_180 0 81 (dk_at dksX0_heardBy_0 1 rfl rfl)
theorem dX0_heardBy_4 : decode cX0_heardBy 4 = .ok (.aload_n 0, 1) := dk_42 (dk_at dksX0_heardBy_0 4 rfl rfl)
theorem dX0_heardBy_5 : decode cX0_heardBy 5 = .ok (.getfield 71, 3) := dk_180 0 71 (dk_at dksX0_heardBy_0 5 rfl rfl)
theorem dX0_heardBy_8 : decode cX0_heardBy 8 = .ok (.invokevirtual 155, 3) := dk_182 0 155 (dk_at dksX0_heardBy_0 8 rfl rfl)
theorem dX0_heardBy_11 : decode cX0_heardBy 11 = .ok (.aload_n 0, 1) := dk_42 (dk_at dksX0_heardBy_0 11 rfl rfl)
theorem dX0_heardBy_12 : decode cX0_heardBy 12 = .ok (.getfield 71, 3) := dk_180 0 71 (dk_at dksX0_heardBy_0 12 rfl rfl)
theorem dX0_heardBy_15 : decode cX0_heardBy 15 = .ok (.getfield 133, 3) := dk_180 0 133 (dk_at dksX0_heardBy_0 15 rfl rfl)
theorem dX0_heardBy_18 : decode cX0_heardBy 18 = .ok (.iconst 2, 1) := dk_5 (dk_at dksX0_heardBy_0 18 rfl rfl)
theorem dX0_heardBy_19 : decode cX0_heardBy 19 = .ok (.iload_n 1, 1) := dk_27 (dk_at dksX0_heardBy_0 19 rfl rfl)
theorem dX0_heardBy_20 : decode cX0_heardBy 20 = .ok (.bipush 10, 2) := dk_16 10 (dk_at dksX0_heardBy_0 20 rfl rfl)
theorem dX0_heardBy_22 : decode cX0_heardBy 22 = .ok (.idiv, 1) := dk_108 (dk_at dksX0_heardBy_0 22 rfl rfl)
theorem dX0_heardBy_23 : decode cX0_heardBy 23 = .ok (.iastore, 1) := dk_79 (dk_at dksX0_heardBy_0 23 rfl rfl)
theorem dX0_heardBy_24 : decode cX0_heardBy 24 = .ok (.aload_n 0, 1) := dk_42 (dk_at dksX0_heardBy_1 0 rfl rfl)
theorem dX0_heardBy_25 : decode cX0_heardBy 25 = .ok (.getfield 71, 3) := dk_180 0 71 (dk_at dksX0_heardBy_1 1 rfl rfl)
theorem dX0_heardBy_28 : decode cX0_heardBy 28 = .ok (.getfield 133, 3) := dk_180 0 133 (dk_at dksX0_heardBy_1 4 rfl rfl)
theorem dX0_heardBy_31 : decode cX0_heardBy 31 = .ok (.iconst 3, 1) := dk_6 (dk_at dksX0_heardBy_1 7 rfl rfl)
theorem dX0_heardBy_32 : decode cX0_heardBy 32 = .ok (.iload_n 1, 1) := dk_27 (dk_at dksX0_heardBy_1 8 rfl rfl)
theorem dX0_heardBy_33 : decode cX0_heardBy 33 = .ok (.bipush 10, 2) := dk_16 10 (dk_at dksX0_heardBy_1 9 rfl rfl)
theorem dX0_heardBy_35 : decode cX0_heardBy 35 = .ok (.irem, 1) := dk_112 (dk_at dksX0_heardBy_1 11 rfl rfl)
theorem dX0_heardBy_36 : decode cX0_heardBy 36 = .ok (.iastore, 1) := dk_79 (dk_at dksX0_heardBy_1 12 rfl rfl)
theorem dX0_heardBy_37 : decode cX0_heardBy 37 = .ok (.aload_n 0, 1) := dk_42 (dk_at dksX0_heardBy_1 13 rfl rfl)
theorem dX0_heardBy_38 : decode cX0_heardBy 38 = .ok (.getfield 71, 3) := dk_180 0 71 (dk_at dksX0_heardBy_1 14 rfl rfl)
theorem dX0_heardBy_41 : decode cX0_heardBy 41 = .ok (.getfield 133, 3) := dk_180 0 133 (dk_at dksX0_heardBy_1 17 rfl rfl)
theorem dX0_heardBy_44 : decode cX0_heardBy 44 = .ok (.iconst 4, 1) := dk_7 (dk_at dksX0_heardBy_1 20 rfl rfl)
theorem dX0_heardBy_45 : decode cX0_heardBy 45 = .ok (.iconst 0, 1) := dk_3 (dk_at dksX0_heardBy_1 21 rfl rfl)
theorem dX0_heardBy_46 : decode cX0_heardBy 46 = .ok (.iastore, 1) := dk_79 (dk_at dksX0_heardBy_1 22 rfl rfl)
theorem dX0_heardBy_47 : decode cX0_heardBy 47 = .ok (.aload_n 0, 1) := dk_42 (dk_at dksX0_heardBy_1 23 rfl rfl)
theorem dX0_heardBy_48 : decode cX0_heardBy 48 = .ok (.iload_n 2, 1) := dk_28 (dk_at dksX0_heardBy_2 0 rfl rfl)
theorem dX0_heardBy_49 : decode cX0_heardBy 49 = .ok (.invokevirtual 287, 3) := dk_182 1 31 (dk_at dksX0_heardBy_2 1 rfl rfl)
theorem dX0_heardBy_52 : decode cX0_heardBy 52 = .ok (.iload_n 3, 1) := dk_29 (dk_at dksX0_heardBy_2 4 rfl rfl)
theorem dX0_heardBy_53 : decode cX0_heardBy 53 = .ok (.if_icmp .ge 7, 3) := dk_162 0 7 (dk_at dksX0_heardBy_2 5 rfl rfl)
theorem dX0_heardBy_56 : decode cX0_heardBy 56 = .ok (.iconst (-1), 1) := dk_2 (dk_at dksX0_heardBy_2 8 rfl rfl)
theorem dX0_heardBy_57 : decode cX0_heardBy 57 = .ok (.goto 8, 3) := dk_167 0 8 (dk_at dksX0_heardBy_2 9 rfl rfl)
theorem dX0_heardBy_60 : decode cX0_heardBy 60 = .ok (.aload_n 0, 1) := dk_42 (dk_at dksX0_heardBy_2 12 rfl rfl)
theorem dX0_heardBy_61 : decode cX0_heardBy 61 = .ok (.iload_n 2, 1) := dk_28 (dk_at dksX0_heardBy_2 13 rfl rfl)
theorem dX0_heardBy_62 : decode cX0_heardBy 62 = .ok (.invokevirtual 245, 3) := dk_182 0 245 (dk_at dksX0_heardBy_2 14 rfl rfl)
theorem dX0_heardBy_65 : decode cX0_heardBy 65 = .ok (.istore 4, 2) := dk_54 4 (dk_at dksX0_heardBy_2 17 rfl rfl)
theorem dX0_heardBy_67 : decode cX0_heardBy 67 = .ok (.aload_n 0, 1) := dk_42 (dk_at dksX0_heardBy_2 19 rfl rfl)
theorem dX0_heardBy_68 : decode cX0_heardBy 68 = .ok (.getfield 71, 3) := dk_180 0 71 (dk_at dksX0_heardBy_2 20 rfl rfl)
theorem dX0_heardBy_71 : decode cX0_heardBy 71 = .ok (.aload_n 0, 1) := dk_42 (dk_at dksX0_heardBy_2 23 rfl rfl)
theorem dX0_heardBy_72 : decode cX0_heardBy 72 = .ok (.getfield 81, 3) := dk_180 0 81 (dk_at dksX0_heardBy_3 0 rfl rfl)
theorem dX0_heardBy_75 : decode cX0_heardBy 75 = .ok (.invokevirtual 155, 3) := dk_182 0 155 (dk_at dksX0_heardBy_3 3 rfl rfl)
theorem dX0_heardBy_78 : decode cX0_heardBy 78 = .ok (.iload 4, 2) := dk_21 4 (dk_at dksX0_heardBy_3 6 rfl rfl)
theorem dX0_heardBy_80 : decode cX0_heardBy 80 = .ok (.ireturn, 1) := dk_172 (dk_at dksX0_heardBy_3 8 rfl rfl)
theorem dX0_heardBy_81 : decode cX0_heardBy 81 = .ok (.astore 5, 2) := dk_58 5 (dk_at dksX0_heardBy_3 9 rfl rfl)
theorem dX0_heardBy_83 : decode cX0_heardBy 83 = .ok (.aload_n 0, 1) := dk_42 (dk_at dksX0_heardBy_3 11 rfl rfl)
theorem dX0_heardBy_84 : decode cX0_heardBy 84 = .ok (.getfield 71, 3) := dk_180 0 71 (dk_at dksX0_heardBy_3 12 rfl rfl)
theorem dX0_heardBy_87 : decode cX0_heardBy 87 = .ok (.aload_n 0, 1) := dk_42 (dk_at dksX0_heardBy_3 15 rfl rfl)
theorem dX0_heardBy_88 : decode cX0_heardBy 88 = .ok (.getfield 81, 3) := dk_180 0 81 (dk_at dksX0_heardBy_3 16 rfl rfl)
theorem dX0_heardBy_91 : decode cX0_heardBy 91 = .ok (.invokevirtual 155, 3) := dk_182 0 155 (dk_at dksX0_heardBy_3 19 rfl rfl)
theorem dX0_heardBy_94 : decode cX0_heardBy 94 = .ok (.aload 5, 2) := dk_25 5 (dk_at dksX0_heardBy_3 22 rfl rfl)
theorem dX0_heardBy_96 : decode cX0_heardBy 96 = .ok (.athrow, 1) := dk_191 (dk_at dksX0_heardBy_4 0 rfl rfl)
abbrev cX0_runsIn : ByteArray := prog_1_method_64_code
def yX0_runsIn : MethodName := ⟨RX0, "runsIn", "(I)I"⟩
def dkwX0_runsIn_2 : List UInt8 := [96, 61, 132, 3, 1, 167, 255, 207, 28, 172]
abbrev dktX0_runsIn_2 : List UInt8 := dkwX0_runsIn_2 ++ []
def dkwX0_runsIn_1 : List UInt8 := [180, 0, 133, 6, 46, 96, 112, 42, 180, 0, 71, 180, 0, 133, 5, 46, 162, 0, 7, 4, 167, 0, 4, 3]
abbrev dktX0_runsIn_1 : List UInt8 := dkwX0_runsIn_1 ++ dktX0_runsIn_2
def dkwX0_runsIn_0 : List UInt8 := [3, 61, 3, 62, 29, 27, 162, 0, 50, 28, 29, 42, 180, 0, 71, 180, 0, 133, 5, 46, 42, 180, 0, 71]
abbrev dktX0_runsIn_0 : List UInt8 := dkwX0_runsIn_0 ++ dktX0_runsIn_1
theorem dksX0_runsIn_0 : cX0_runsIn.data.toList.drop 0 = dktX0_runsIn_0 := by decide +kernel
theorem dksX0_runsIn_1 : cX0_runsIn.data.toList.drop 24 = dktX0_runsIn_1 := dk_seg dksX0_runsIn_0 24 rfl rfl
theorem dksX0_runsIn_2 : cX0_runsIn.data.toList.drop 48 = dktX0_runsIn_2 := dk_seg dksX0_runsIn_1 24 rfl rfl
theorem dX0_runsIn_0 : decode cX0_runsIn 0 = .ok (.iconst 0, 1) := dk_3 (dk_at dksX0_runsIn_0 0 rfl rfl)
theorem dX0_runsIn_1 : decode cX0_runsIn 1 = .ok (.istore_n 2, 1) := dk_61 (dk_at dksX0_runsIn_0 1 rfl rfl)
theorem dX0_runsIn_2 : decode cX0_runsIn 2 = .ok (.iconst 0, 1) := dk_3 (dk_at dksX0_runsIn_0 2 rfl rfl)
theorem dX0_runsIn_3 : decode cX0_runsIn 3 = .ok (.istore_n 3, 1) := dk_62 (dk_at dksX0_runsIn_0 3 rfl rfl)
theorem dX0_runsIn_4 : decode cX0_runsIn 4 = .ok (.iload_n 3, 1) := dk_29 (dk_at dksX0_runsIn_0 4 rfl rfl)
theorem dX0_runsIn_5 : decode cX0_runsIn 5 = .ok (.iload_n 1, 1) := dk_27 (dk_at dksX0_runsIn_0 5 rfl rfl)
theorem dX0_runsIn_6 : decode cX0_runsIn 6 = .ok (.if_icmp .ge 50, 3) := dk_162 0 50 (dk_at dksX0_runsIn_0 6 rfl rfl)
theorem dX0_runsIn_9 : decode cX0_runsIn 9 = .ok (.iload_n 2, 1) := dk_28 (dk_at dksX0_runsIn_0 9 rfl rfl)
theorem dX0_runsIn_10 : decode cX0_runsIn 10 = .ok (.iload_n 3, 1) := dk_29 (dk_at dksX0_runsIn_0 10 rfl rfl)
theorem dX0_runsIn_11 : decode cX0_runsIn 11 = .ok (.aload_n 0, 1) := dk_42 (dk_at dksX0_runsIn_0 11 rfl rfl)
theorem dX0_runsIn_12 : decode cX0_runsIn 12 = .ok (.getfield 71, 3) := dk_180 0 71 (dk_at dksX0_runsIn_0 12 rfl rfl)
theorem dX0_runsIn_15 : decode cX0_runsIn 15 = .ok (.getfield 133, 3) := dk_180 0 133 (dk_at dksX0_runsIn_0 15 rfl rfl)
theorem dX0_runsIn_18 : decode cX0_runsIn 18 = .ok (.iconst 2, 1) := dk_5 (dk_at dksX0_runsIn_0 18 rfl rfl)
theorem dX0_runsIn_19 : decode cX0_runsIn 19 = .ok (.iaload, 1) := dk_46 (dk_at dksX0_runsIn_0 19 rfl rfl)
theorem dX0_runsIn_20 : decode cX0_runsIn 20 = .ok (.aload_n 0, 1) := dk_42 (dk_at dksX0_runsIn_0 20 rfl rfl)
theorem dX0_runsIn_21 : decode cX0_runsIn 21 = .ok (.getfield 71, 3) := dk_180 0 71 (dk_at dksX0_runsIn_0 21 rfl rfl)
theorem dX0_runsIn_24 : decode cX0_runsIn 24 = .ok (.getfield 133, 3) := dk_180 0 133 (dk_at dksX0_runsIn_1 0 rfl rfl)
theorem dX0_runsIn_27 : decode cX0_runsIn 27 = .ok (.iconst 3, 1) := dk_6 (dk_at dksX0_runsIn_1 3 rfl rfl)
theorem dX0_runsIn_28 : decode cX0_runsIn 28 = .ok (.iaload, 1) := dk_46 (dk_at dksX0_runsIn_1 4 rfl rfl)
theorem dX0_runsIn_29 : decode cX0_runsIn 29 = .ok (.iadd, 1) := dk_96 (dk_at dksX0_runsIn_1 5 rfl rfl)
theorem dX0_runsIn_30 : decode cX0_runsIn 30 = .ok (.irem, 1) := dk_112 (dk_at dksX0_runsIn_1 6 rfl rfl)
theorem dX0_runsIn_31 : decode cX0_runsIn 31 = .ok (.aload_n 0, 1) := dk_42 (dk_at dksX0_runsIn_1 7 rfl rfl)
theorem dX0_runsIn_32 : decode cX0_runsIn 32 = .ok (.getfield 71, 3) := dk_180 0 71 (dk_at dksX0_runsIn_1 8 rfl rfl)
theorem dX0_runsIn_35 : decode cX0_runsIn 35 = .ok (.getfield 133, 3) := dk_180 0 133 (dk_at dksX0_runsIn_1 11 rfl rfl)
theorem dX0_runsIn_38 : decode cX0_runsIn 38 = .ok (.iconst 2, 1) := dk_5 (dk_at dksX0_runsIn_1 14 rfl rfl)
theorem dX0_runsIn_39 : decode cX0_runsIn 39 = .ok (.iaload, 1) := dk_46 (dk_at dksX0_runsIn_1 15 rfl rfl)
theorem dX0_runsIn_40 : decode cX0_runsIn 40 = .ok (.if_icmp .ge 7, 3) := dk_162 0 7 (dk_at dksX0_runsIn_1 16 rfl rfl)
theorem dX0_runsIn_43 : decode cX0_runsIn 43 = .ok (.iconst 1, 1) := dk_4 (dk_at dksX0_runsIn_1 19 rfl rfl)
theorem dX0_runsIn_44 : decode cX0_runsIn 44 = .ok (.goto 4, 3) := dk_167 0 4 (dk_at dksX0_runsIn_1 20 rfl rfl)
theorem dX0_runsIn_47 : decode cX0_runsIn 47 = .ok (.iconst 0, 1) := dk_3 (dk_at dksX0_runsIn_1 23 rfl rfl)
theorem dX0_runsIn_48 : decode cX0_runsIn 48 = .ok (.iadd, 1) := dk_96 (dk_at dksX0_runsIn_2 0 rfl rfl)
theorem dX0_runsIn_49 : decode cX0_runsIn 49 = .ok (.istore_n 2, 1) := dk_61 (dk_at dksX0_runsIn_2 1 rfl rfl)
theorem dX0_runsIn_50 : decode cX0_runsIn 50 = .ok (.iinc 3 1, 3) := dk_132 3 1 (dk_at dksX0_runsIn_2 2 rfl rfl)
theorem dX0_runsIn_53 : decode cX0_runsIn 53 = .ok (.goto (-49), 3) := dk_167 255 207 (dk_at dksX0_runsIn_2 5 rfl rfl)
theorem dX0_runsIn_56 : decode cX0_runsIn 56 = .ok (.iload_n 2, 1) := dk_28 (dk_at dksX0_runsIn_2 8 rfl rfl)
theorem dX0_runsIn_57 : decode cX0_runsIn 57 = .ok (.ireturn, 1) := dk_172 (dk_at dksX0_runsIn_2 9 rfl rfl)
abbrev cX0_least : ByteArray := prog_1_method_69_code
def yX0_least : MethodName := ⟨RX0, "least", "(II)I"⟩
def dkwX0_least_1 : List UInt8 := [180, 1, 37, 172]
abbrev dktX0_least_1 : List UInt8 := dkwX0_least_1 ++ []
def dkwX0_least_0 : List UInt8 := [42, 27, 28, 182, 1, 40, 154, 0, 9, 42, 3, 182, 0, 124, 172, 42, 27, 28, 182, 1, 43, 62, 42]
abbrev dktX0_least_0 : List UInt8 := dkwX0_least_0 ++ dktX0_least_1
theorem dksX0_least_0 : cX0_least.data.toList.drop 0 = dktX0_least_0 := by decide +kernel
theorem dksX0_least_1 : cX0_least.data.toList.drop 23 = dktX0_least_1 := dk_seg dksX0_least_0 23 rfl rfl
theorem dX0_least_0 : decode cX0_least 0 = .ok (.aload_n 0, 1) := dk_42 (dk_at dksX0_least_0 0 rfl rfl)
theorem dX0_least_1 : decode cX0_least 1 = .ok (.iload_n 1, 1) := dk_27 (dk_at dksX0_least_0 1 rfl rfl)
theorem dX0_least_2 : decode cX0_least 2 = .ok (.iload_n 2, 1) := dk_28 (dk_at dksX0_least_0 2 rfl rfl)
theorem dX0_least_3 : decode cX0_least 3 = .ok (.invokevirtual 296, 3) := dk_182 1 40 (dk_at dksX0_least_0 3 rfl rfl)
theorem dX0_least_6 : decode cX0_least 6 = .ok (.ifCond .ne 9, 3) := dk_154 0 9 (dk_at dksX0_least_0 6 rfl rfl)
theorem dX0_least_9 : decode cX0_least 9 = .ok (.aload_n 0, 1) := dk_42 (dk_at dksX0_least_0 9 rfl rfl)
theorem dX0_least_10 : decode cX0_least 10 = .ok (.iconst 0, 1) := dk_3 (dk_at dksX0_least_0 10 rfl rfl)
theorem dX0_least_11 : decode cX0_least 11 = .ok (.invokevirtual 124, 3) := dk_182 0 124 (dk_at dksX0_least_0 11 rfl rfl)
theorem dX0_least_14 : decode cX0_least 14 = .ok (.ireturn, 1) := dk_172 (dk_at dksX0_least_0 14 rfl rfl)
theorem dX0_least_15 : decode cX0_least 15 = .ok (.aload_n 0, 1) := dk_42 (dk_at dksX0_least_0 15 rfl rfl)
theorem dX0_least_16 : decode cX0_least 16 = .ok (.iload_n 1, 1) := dk_27 (dk_at dksX0_least_0 16 rfl rfl)
theorem dX0_least_17 : decode cX0_least 17 = .ok (.iload_n 2, 1) := dk_28 (dk_at dksX0_least_0 17 rfl rfl)
theorem dX0_least_18 : decode cX0_least 18 = .ok (.invokevirtual 299, 3) := dk_182 1 43 (dk_at dksX0_least_0 18 rfl rfl)
theorem dX0_least_21 : decode cX0_least 21 = .ok (.istore_n 3, 1) := dk_62 (dk_at dksX0_least_0 21 rfl rfl)
theorem dX0_least_22 : decode cX0_least 22 = .ok (.aload_n 0, 1) := dk_42 (dk_at dksX0_least_0 22 rfl rfl)
theorem dX0_least_23 : decode cX0_least 23 = .ok (.getfield 293, 3) := dk_180 1 37 (dk_at dksX0_least_1 0 rfl rfl)
theorem dX0_least_26 : decode cX0_least 26 = .ok (.ireturn, 1) := dk_172 (dk_at dksX0_least_1 3 rfl rfl)
abbrev cX0_fits : ByteArray := prog_1_method_73_code
def yX0_fits : MethodName := ⟨RX0, "fits", "(II)J"⟩
def dkwX0_fits_0 : List UInt8 := [42, 27, 28, 3, 16, 36, 182, 1, 69, 173, 78, 42, 45, 180, 0, 114, 182, 0, 124, 133, 173]
abbrev dktX0_fits_0 : List UInt8 := dkwX0_fits_0 ++ []
theorem dksX0_fits_0 : cX0_fits.data.toList.drop 0 = dktX0_fits_0 := by decide +kernel
theorem dX0_fits_0 : decode cX0_fits 0 = .ok (.aload_n 0, 1) := dk_42 (dk_at dksX0_fits_0 0 rfl rfl)
theorem dX0_fits_1 : decode cX0_fits 1 = .ok (.iload_n 1, 1) := dk_27 (dk_at dksX0_fits_0 1 rfl rfl)
theorem dX0_fits_2 : decode cX0_fits 2 = .ok (.iload_n 2, 1) := dk_28 (dk_at dksX0_fits_0 2 rfl rfl)
theorem dX0_fits_3 : decode cX0_fits 3 = .ok (.iconst 0, 1) := dk_3 (dk_at dksX0_fits_0 3 rfl rfl)
theorem dX0_fits_4 : decode cX0_fits 4 = .ok (.bipush 36, 2) := dk_16 36 (dk_at dksX0_fits_0 4 rfl rfl)
theorem dX0_fits_6 : decode cX0_fits 6 = .ok (.invokevirtual 325, 3) := dk_182 1 69 (dk_at dksX0_fits_0 6 rfl rfl)
theorem dX0_fits_9 : decode cX0_fits 9 = .ok (.lreturn, 1) := dk_173 (dk_at dksX0_fits_0 9 rfl rfl)
theorem dX0_fits_10 : decode cX0_fits 10 = .ok (.astore_n 3, 1) := dk_78 (dk_at dksX0_fits_0 10 rfl rfl)
theorem dX0_fits_11 : decode cX0_fits 11 = .ok (.aload_n 0, 1) := dk_42 (dk_at dksX0_fits_0 11 rfl rfl)
theorem dX0_fits_12 : decode cX0_fits 12 = .ok (.aload_n 3, 1) := dk_45 (dk_at dksX0_fits_0 12 rfl rfl)
theorem dX0_fits_13 : decode cX0_fits 13 = .ok (.getfield 114, 3) := dk_180 0 114 (dk_at dksX0_fits_0 13 rfl rfl)
theorem dX0_fits_16 : decode cX0_fits 16 = .ok (.invokevirtual 124, 3) := dk_182 0 124 (dk_at dksX0_fits_0 16 rfl rfl)
theorem dX0_fits_19 : decode cX0_fits 19 = .ok (.i2l, 1) := dk_133 (dk_at dksX0_fits_0 19 rfl rfl)
theorem dX0_fits_20 : decode cX0_fits 20 = .ok (.lreturn, 1) := dk_173 (dk_at dksX0_fits_0 20 rfl rfl)
abbrev cX0_allThatFit : ByteArray := prog_1_method_72_code
def yX0_allThatFit : MethodName := ⟨RX0, "allThatFit", "(IIII)J"⟩
def dkwX0_allThatFit_4 : List UInt8 := [167, 255, 212, 42, 180, 0, 71, 180, 0, 133, 29, 21, 6, 79, 22, 7, 173]
abbrev dktX0_allThatFit_4 : List UInt8 := dkwX0_allThatFit_4 ++ []
def dkwX0_allThatFit_3 : List UInt8 := [25, 5, 28, 182, 1, 65, 153, 0, 10, 10, 21, 9, 121, 167, 0, 4, 9, 129, 55, 7, 132, 9, 1]
abbrev dktX0_allThatFit_3 : List UInt8 := dkwX0_allThatFit_3 ++ dktX0_allThatFit_4
def dkwX0_allThatFit_2 : List UInt8 := [54, 9, 21, 9, 21, 4, 162, 0, 43, 42, 180, 0, 71, 180, 0, 133, 29, 21, 9, 79, 22, 7, 42]
abbrev dktX0_allThatFit_2 : List UInt8 := dkwX0_allThatFit_2 ++ dktX0_allThatFit_3
def dkwX0_allThatFit_1 : List UInt8 := [3, 5, 184, 0, 9, 3, 182, 1, 61, 42, 180, 0, 71, 180, 0, 133, 29, 46, 54, 6, 9, 55, 7, 3]
abbrev dktX0_allThatFit_1 : List UInt8 := dkwX0_allThatFit_1 ++ dktX0_allThatFit_2
def dkwX0_allThatFit_0 : List UInt8 := [42, 27, 182, 1, 57, 58, 5, 42, 25, 5, 198, 0, 7, 4, 167, 0, 4, 3, 8, 182, 1, 61, 42, 28]
abbrev dktX0_allThatFit_0 : List UInt8 := dkwX0_allThatFit_0 ++ dktX0_allThatFit_1
theorem dksX0_allThatFit_0 : cX0_allThatFit.data.toList.drop 0 = dktX0_allThatFit_0 := by decide +kernel
theorem dksX0_allThatFit_1 : cX0_allThatFit.data.toList.drop 24 = dktX0_allThatFit_1 := dk_seg dksX0_allThatFit_0 24 rfl rfl
theorem dksX0_allThatFit_2 : cX0_allThatFit.data.toList.drop 48 = dktX0_allThatFit_2 := dk_seg dksX0_allThatFit_1 24 rfl rfl
theorem dksX0_allThatFit_3 : cX0_allThatFit.data.toList.drop 71 = dktX0_allThatFit_3 := dk_seg dksX0_allThatFit_2 23 rfl rfl
theorem dksX0_allThatFit_4 : cX0_allThatFit.data.toList.drop 94 = dktX0_allThatFit_4 := dk_seg dksX0_allThatFit_3 23 rfl rfl
theorem dX0_allThatFit_0 : decode cX0_allThatFit 0 = .ok (.aload_n 0, 1) := dk_42 (dk_at dksX0_allThatFit_0 0 rfl rfl)
theorem dX0_allThatFit_1 : decode cX0_allThatFit 1 = .ok (.iload_n 1, 1) := dk_27 (dk_at dksX0_allThatFit_0 1 rfl rfl)
theorem dX0_allThatFit_2 : decode cX0_allThatFit 2 = .ok (.invokevirtual 313, 3) := dk_182 1 57 (dk_at dksX0_allThatFit_0 2 rfl rfl)
theorem dX0_allThatFit_5 : decode cX0_allThatFit 5 = .ok (.astore 5, 2) := dk_58 5 (dk_at dksX0_allThatFit_0 5 rfl rfl)
theorem dX0_allThatFit_7 : decode cX0_allThatFit 7 = .ok (.aload_n 0, 1) := dk_42 (dk_at dksX0_allThatFit_0 7 rfl rfl)
theorem dX0_allThatFit_8 : decode cX0_allThatFit 8 = .ok (.aload 5, 2) := dk_25 5 (dk_at dksX0_allThatFit_0 8 rfl rfl)
theorem dX0_allThatFit_10 : decode cX0_allThatFit 10 = .ok (.ifnull 7, 3) := dk_198 0 7 (dk_at dksX0_allThatFit_0 10 rfl rfl)
theorem dX0_allThatFit_13 : decode cX0_allThatFit 13 = .ok (.iconst 1, 1) := dk_4 (dk_at dksX0_allThatFit_0 13 rfl rfl)
theorem dX0_allThatFit_14 : decode cX0_allThatFit 14 = .ok (.goto 4, 3) := dk_167 0 4 (dk_at dksX0_allThatFit_0 14 rfl rfl)
theorem dX0_allThatFit_17 : decode cX0_allThatFit 17 = .ok (.iconst 0, 1) := dk_3 (dk_at dksX0_allThatFit_0 17 rfl rfl)
theorem dX0_allThatFit_18 : decode cX0_allThatFit 18 = .ok (.iconst 5, 1) := dk_8 (dk_at dksX0_allThatFit_0 18 rfl rfl)
theorem dX0_allThatFit_19 : decode cX0_allThatFit 19 = .ok (.invokevirtual 317, 3) := dk_182 1 61 (dk_at dksX0_allThatFit_0 19 rfl rfl)
theorem dX0_allThatFit_22 : decode cX0_allThatFit 22 = .ok (.aload_n 0, 1) := dk_42 (dk_at dksX0_allThatFit_0 22 rfl rfl)
theorem dX0_allThatFit_23 : decode cX0_allThatFit 23 = .ok (.iload_n 2, 1) := dk_28 (dk_at dksX0_allThatFit_0 23 rfl rfl)
theorem dX0_allThatFit_24 : decode cX0_allThatFit 24 = .ok (.iconst 0, 1) := dk_3 (dk_at dksX0_allThatFit_1 0 rfl rfl)
theorem dX0_allThatFit_25 : decode cX0_allThatFit 25 = .ok (.iconst 2, 1) := dk_5 (dk_at dksX0_allThatFit_1 1 rfl rfl)
theorem dX0_allThatFit_26 : decode cX0_allThatFit 26 = .ok (.invokestatic 9, 3) := dk_184 0 9 (dk_at dksX0_allThatFit_1 2 rfl rfl)
theorem dX0_allThatFit_29 : decode cX0_allThatFit 29 = .ok (.iconst 0, 1) := dk_3 (dk_at dksX0_allThatFit_1 5 rfl rfl)
theorem dX0_allThatFit_30 : decode cX0_allThatFit 30 = .ok (.invokevirtual 317, 3) := dk_182 1 61 (dk_at dksX0_allThatFit_1 6 rfl rfl)
theorem dX0_allThatFit_33 : decode cX0_allThatFit 33 = .ok (.aload_n 0, 1) := dk_42 (dk_at dksX0_allThatFit_1 9 rfl rfl)
theorem dX0_allThatFit_34 : decode cX0_allThatFit 34 = .ok (.getfield 71, 3) := dk_180 0 71 (dk_at dksX0_allThatFit_1 10 rfl rfl)
theorem dX0_allThatFit_37 : decode cX0_allThatFit 37 = .ok (.getfield 133, 3) := dk_180 0 133 (dk_at dksX0_allThatFit_1 13 rfl rfl)
theorem dX0_allThatFit_40 : decode cX0_allThatFit 40 = .ok (.iload_n 3, 1) := dk_29 (dk_at dksX0_allThatFit_1 16 rfl rfl)
theorem dX0_allThatFit_41 : decode cX0_allThatFit 41 = .ok (.iaload, 1) := dk_46 (dk_at dksX0_allThatFit_1 17 rfl rfl)
theorem dX0_allThatFit_42 : decode cX0_allThatFit 42 = .ok (.istore 6, 2) := dk_54 6 (dk_at dksX0_allThatFit_1 18 rfl rfl)
theorem dX0_allThatFit_44 : decode cX0_allThatFit 44 = .ok (.lconst 0, 1) := dk_9 (dk_at dksX0_allThatFit_1 20 rfl rfl)
theorem dX0_allThatFit_45 : decode cX0_allThatFit 45 = .ok (.lstore 7, 2) := dk_55 7 (dk_at dksX0_allThatFit_1 21 rfl rfl)
theorem dX0_allThatFit_47 : decode cX0_allThatFit 47 = .ok (.iconst 0, 1) := dk_3 (dk_at dksX0_allThatFit_1 23 rfl rfl)
theorem dX0_allThatFit_48 : decode cX0_allThatFit 48 = .ok (.istore 9, 2) := dk_54 9 (dk_at dksX0_allThatFit_2 0 rfl rfl)
theorem dX0_allThatFit_50 : decode cX0_allThatFit 50 = .ok (.iload 9, 2) := dk_21 9 (dk_at dksX0_allThatFit_2 2 rfl rfl)
theorem dX0_allThatFit_52 : decode cX0_allThatFit 52 = .ok (.iload 4, 2) := dk_21 4 (dk_at dksX0_allThatFit_2 4 rfl rfl)
theorem dX0_allThatFit_54 : decode cX0_allThatFit 54 = .ok (.if_icmp .ge 43, 3) := dk_162 0 43 (dk_at dksX0_allThatFit_2 6 rfl rfl)
theorem dX0_allThatFit_57 : decode cX0_allThatFit 57 = .ok (.aload_n 0, 1) := dk_42 (dk_at dksX0_allThatFit_2 9 rfl rfl)
theorem dX0_allThatFit_58 : decode cX0_allThatFit 58 = .ok (.getfield 71, 3) := dk_180 0 71 (dk_at dksX0_allThatFit_2 10 rfl rfl)
theorem dX0_allThatFit_61 : decode cX0_allThatFit 61 = .ok (.getfield 133, 3) := dk_180 0 133 (dk_at dksX0_allThatFit_2 13 rfl rfl)
theorem dX0_allThatFit_64 : decode cX0_allThatFit 64 = .ok (.iload_n 3, 1) := dk_29 (dk_at dksX0_allThatFit_2 16 rfl rfl)
theorem dX0_allThatFit_65 : decode cX0_allThatFit 65 = .ok (.iload 9, 2) := dk_21 9 (dk_at dksX0_allThatFit_2 17 rfl rfl)
theorem dX0_allThatFit_67 : decode cX0_allThatFit 67 = .ok (.iastore, 1) := dk_79 (dk_at dksX0_allThatFit_2 19 rfl rfl)
theorem dX0_allThatFit_68 : decode cX0_allThatFit 68 = .ok (.lload 7, 2) := dk_22 7 (dk_at dksX0_allThatFit_2 20 rfl rfl)
theorem dX0_allThatFit_70 : decode cX0_allThatFit 70 = .ok (.aload_n 0, 1) := dk_42 (dk_at dksX0_allThatFit_2 22 rfl rfl)
theorem dX0_allThatFit_71 : decode cX0_allThatFit 71 = .ok (.aload 5, 2) := dk_25 5 (dk_at dksX0_allThatFit_3 0 rfl rfl)
theorem dX0_allThatFit_73 : decode cX0_allThatFit 73 = .ok (.iload_n 2, 1) := dk_28 (dk_at dksX0_allThatFit_3 2 rfl rfl)
theorem dX0_allThatFit_74 : decode cX0_allThatFit 74 = .ok (.invokevirtual 321, 3) := dk_182 1 65 (dk_at dksX0_allThatFit_3 3 rfl rfl)
theorem dX0_allThatFit_77 : decode cX0_allThatFit 77 = .ok (.ifCond .eq 10, 3) := dk_153 0 10 (dk_at dksX0_allThatFit_3 6 rfl rfl)
theorem dX0_allThatFit_80 : decode cX0_allThatFit 80 = .ok (.lconst 1, 1) := dk_10 (dk_at dksX0_allThatFit_3 9 rfl rfl)
theorem dX0_allThatFit_81 : decode cX0_allThatFit 81 = .ok (.iload 9, 2) := dk_21 9 (dk_at dksX0_allThatFit_3 10 rfl rfl)
theorem dX0_allThatFit_83 : decode cX0_allThatFit 83 = .ok (.lshl, 1) := dk_121 (dk_at dksX0_allThatFit_3 12 rfl rfl)
theorem dX0_allThatFit_84 : decode cX0_allThatFit 84 = .ok (.goto 4, 3) := dk_167 0 4 (dk_at dksX0_allThatFit_3 13 rfl rfl)
theorem dX0_allThatFit_87 : decode cX0_allThatFit 87 = .ok (.lconst 0, 1) := dk_9 (dk_at dksX0_allThatFit_3 16 rfl rfl)
theorem dX0_allThatFit_88 : decode cX0_allThatFit 88 = .ok (.lor, 1) := dk_129 (dk_at dksX0_allThatFit_3 17 rfl rfl)
theorem dX0_allThatFit_89 : decode cX0_allThatFit 89 = .ok (.lstore 7, 2) := dk_55 7 (dk_at dksX0_allThatFit_3 18 rfl rfl)
theorem dX0_allThatFit_91 : decode cX0_allThatFit 91 = .ok (.iinc 9 1, 3) := dk_132 9 1 (dk_at dksX0_allThatFit_3 20 rfl rfl)
theorem dX0_allThatFit_94 : decode cX0_allThatFit 94 = .ok (.goto (-44), 3) := dk_167 255 212 (dk_at dksX0_allThatFit_4 0 rfl rfl)
theorem dX0_allThatFit_97 : decode cX0_allThatFit 97 = .ok (.aload_n 0, 1) := dk_42 (dk_at dksX0_allThatFit_4 3 rfl rfl)
theorem dX0_allThatFit_98 : decode cX0_allThatFit 98 = .ok (.getfield 71, 3) := dk_180 0 71 (dk_at dksX0_allThatFit_4 4 rfl rfl)
theorem dX0_allThatFit_101 : decode cX0_allThatFit 101 = .ok (.getfield 133, 3) := dk_180 0 133 (dk_at dksX0_allThatFit_4 7 rfl rfl)
theorem dX0_allThatFit_104 : decode cX0_allThatFit 104 = .ok (.iload_n 3, 1) := dk_29 (dk_at dksX0_allThatFit_4 10 rfl rfl)
theorem dX0_allThatFit_105 : decode cX0_allThatFit 105 = .ok (.iload 6, 2) := dk_21 6 (dk_at dksX0_allThatFit_4 11 rfl rfl)
theorem dX0_allThatFit_107 : decode cX0_allThatFit 107 = .ok (.iastore, 1) := dk_79 (dk_at dksX0_allThatFit_4 13 rfl rfl)
theorem dX0_allThatFit_108 : decode cX0_allThatFit 108 = .ok (.lload 7, 2) := dk_22 7 (dk_at dksX0_allThatFit_4 14 rfl rfl)
theorem dX0_allThatFit_110 : decode cX0_allThatFit 110 = .ok (.lreturn, 1) := dk_173 (dk_at dksX0_allThatFit_4 16 rfl rfl)
abbrev cX0_rowAt : ByteArray := prog_1_method_89_code
def yX0_rowAt : MethodName := ⟨RX0, "rowAt", "(I)Ljava/lang/Object;"⟩
def dkwX0_rowAt_0 : List UInt8 := [42, 27, 184, 1, 128, 3, 182, 1, 61, 42, 180, 0, 93, 27, 50, 180, 0, 105, 176]
abbrev dktX0_rowAt_0 : List UInt8 := dkwX0_rowAt_0 ++ []
theorem dksX0_rowAt_0 : cX0_rowAt.data.toList.drop 0 = dktX0_rowAt_0 := by decide +kernel
theorem dX0_rowAt_0 : decode cX0_rowAt 0 = .ok (.aload_n 0, 1) := dk_42 (dk_at dksX0_rowAt_0 0 rfl rfl)
theorem dX0_rowAt_1 : decode cX0_rowAt 1 = .ok (.iload_n 1, 1) := dk_27 (dk_at dksX0_rowAt_0 1 rfl rfl)
theorem dX0_rowAt_2 : decode cX0_rowAt 2 = .ok (.invokestatic 384, 3) := dk_184 1 128 (dk_at dksX0_rowAt_0 2 rfl rfl)
theorem dX0_rowAt_5 : decode cX0_rowAt 5 = .ok (.iconst 0, 1) := dk_3 (dk_at dksX0_rowAt_0 5 rfl rfl)
theorem dX0_rowAt_6 : decode cX0_rowAt 6 = .ok (.invokevirtual 317, 3) := dk_182 1 61 (dk_at dksX0_rowAt_0 6 rfl rfl)
theorem dX0_rowAt_9 : decode cX0_rowAt 9 = .ok (.aload_n 0, 1) := dk_42 (dk_at dksX0_rowAt_0 9 rfl rfl)
theorem dX0_rowAt_10 : decode cX0_rowAt 10 = .ok (.getfield 93, 3) := dk_180 0 93 (dk_at dksX0_rowAt_0 10 rfl rfl)
theorem dX0_rowAt_13 : decode cX0_rowAt 13 = .ok (.iload_n 1, 1) := dk_27 (dk_at dksX0_rowAt_0 13 rfl rfl)
theorem dX0_rowAt_14 : decode cX0_rowAt 14 = .ok (.aaload, 1) := dk_50 (dk_at dksX0_rowAt_0 14 rfl rfl)
theorem dX0_rowAt_15 : decode cX0_rowAt 15 = .ok (.getfield 105, 3) := dk_180 0 105 (dk_at dksX0_rowAt_0 15 rfl rfl)
theorem dX0_rowAt_18 : decode cX0_rowAt 18 = .ok (.areturn, 1) := dk_176 (dk_at dksX0_rowAt_0 18 rfl rfl)
abbrev cX0_isSheet : ByteArray := prog_1_method_4_code
def yX0_isSheet : MethodName := ⟨RX0, "isSheet", "(I)Z"⟩
def dkwX0_isSheet_0 : List UInt8 := [26, 3, 6, 184, 0, 9, 172]
abbrev dktX0_isSheet_0 : List UInt8 := dkwX0_isSheet_0 ++ []
theorem dksX0_isSheet_0 : cX0_isSheet.data.toList.drop 0 = dktX0_isSheet_0 := by decide +kernel
theorem dX0_isSheet_0 : decode cX0_isSheet 0 = .ok (.iload_n 0, 1) := dk_26 (dk_at dksX0_isSheet_0 0 rfl rfl)
theorem dX0_isSheet_1 : decode cX0_isSheet 1 = .ok (.iconst 0, 1) := dk_3 (dk_at dksX0_isSheet_0 1 rfl rfl)
theorem dX0_isSheet_2 : decode cX0_isSheet 2 = .ok (.iconst 3, 1) := dk_6 (dk_at dksX0_isSheet_0 2 rfl rfl)
theorem dX0_isSheet_3 : decode cX0_isSheet 3 = .ok (.invokestatic 9, 3) := dk_184 0 9 (dk_at dksX0_isSheet_0 3 rfl rfl)
theorem dX0_isSheet_6 : decode cX0_isSheet 6 = .ok (.ireturn, 1) := dk_172 (dk_at dksX0_isSheet_0 6 rfl rfl)
abbrev cX0_need : ByteArray := prog_1_method_17_code
def yX0_need : MethodName := ⟨RX0, "need", "(ZI)V"⟩
def dkwX0_need_0 : List UInt8 := [27, 154, 0, 9, 42, 28, 182, 0, 118, 191, 177]
abbrev dktX0_need_0 : List UInt8 := dkwX0_need_0 ++ []
theorem dksX0_need_0 : cX0_need.data.toList.drop 0 = dktX0_need_0 := by decide +kernel
theorem dX0_need_0 : decode cX0_need 0 = .ok (.iload_n 1, 1) := dk_27 (dk_at dksX0_need_0 0 rfl rfl)
theorem dX0_need_1 : decode cX0_need 1 = .ok (.ifCond .ne 9, 3) := dk_154 0 9 (dk_at dksX0_need_0 1 rfl rfl)
theorem dX0_need_4 : decode cX0_need 4 = .ok (.aload_n 0, 1) := dk_42 (dk_at dksX0_need_0 4 rfl rfl)
theorem dX0_need_5 : decode cX0_need 5 = .ok (.iload_n 2, 1) := dk_28 (dk_at dksX0_need_0 5 rfl rfl)
theorem dX0_need_6 : decode cX0_need 6 = .ok (.invokevirtual 118, 3) := dk_182 0 118 (dk_at dksX0_need_0 6 rfl rfl)
theorem dX0_need_9 : decode cX0_need 9 = .ok (.athrow, 1) := dk_191 (dk_at dksX0_need_0 9 rfl rfl)
theorem dX0_need_10 : decode cX0_need 10 = .ok (.return_, 1) := dk_177 (dk_at dksX0_need_0 10 rfl rfl)
abbrev cX0_refused : ByteArray := prog_1_method_16_code
def yX0_refused : MethodName := ⟨RX0, "refused", "(I)LOwlEars$Refusal;"⟩
def dkwX0_refused_0 : List UInt8 := [42, 180, 0, 57, 27, 181, 0, 114, 42, 180, 0, 57, 176]
abbrev dktX0_refused_0 : List UInt8 := dkwX0_refused_0 ++ []
theorem dksX0_refused_0 : cX0_refused.data.toList.drop 0 = dktX0_refused_0 := by decide +kernel
theorem dX0_refused_0 : decode cX0_refused 0 = .ok (.aload_n 0, 1) := dk_42 (dk_at dksX0_refused_0 0 rfl rfl)
theorem dX0_refused_1 : decode cX0_refused 1 = .ok (.getfield 57, 3) := dk_180 0 57 (dk_at dksX0_refused_0 1 rfl rfl)
theorem dX0_refused_4 : decode cX0_refused 4 = .ok (.iload_n 1, 1) := dk_27 (dk_at dksX0_refused_0 4 rfl rfl)
theorem dX0_refused_5 : decode cX0_refused 5 = .ok (.putfield 114, 3) := dk_181 0 114 (dk_at dksX0_refused_0 5 rfl rfl)
theorem dX0_refused_8 : decode cX0_refused 8 = .ok (.aload_n 0, 1) := dk_42 (dk_at dksX0_refused_0 8 rfl rfl)
theorem dX0_refused_9 : decode cX0_refused 9 = .ok (.getfield 57, 3) := dk_180 0 57 (dk_at dksX0_refused_0 9 rfl rfl)
theorem dX0_refused_12 : decode cX0_refused 12 = .ok (.areturn, 1) := dk_176 (dk_at dksX0_refused_0 12 rfl rfl)
abbrev cX0_areHeardSo : ByteArray := prog_1_method_71_code
def yX0_areHeardSo : MethodName := ⟨RX0, "areHeardSo", "(Ljava/lang/Object;I)Z"⟩
def dkwX0_areHeardSo_3 : List UInt8 := [21, 4, 172, 58, 5, 42, 180, 0, 71, 42, 180, 0, 78, 182, 0, 155, 25, 5, 191]
abbrev dktX0_areHeardSo_3 : List UInt8 := dkwX0_areHeardSo_3 ++ []
def dkwX0_areHeardSo_2 : List UInt8 := [182, 0, 126, 132, 4, 1, 167, 255, 221, 29, 54, 4, 42, 180, 0, 71, 42, 180, 0, 78, 182, 0, 155]
abbrev dktX0_areHeardSo_2 : List UInt8 := dkwX0_areHeardSo_2 ++ dktX0_areHeardSo_3
def dkwX0_areHeardSo_1 : List UInt8 := [184, 1, 46, 162, 0, 28, 42, 43, 21, 4, 184, 1, 50, 28, 182, 1, 54, 62, 42, 180, 0, 71]
abbrev dktX0_areHeardSo_1 : List UInt8 := dkwX0_areHeardSo_1 ++ dktX0_areHeardSo_2
def dkwX0_areHeardSo_0 : List UInt8 := [42, 180, 0, 78, 42, 180, 0, 71, 182, 0, 155, 4, 62, 3, 54, 4, 29, 153, 0, 37, 21, 4, 43]
abbrev dktX0_areHeardSo_0 : List UInt8 := dkwX0_areHeardSo_0 ++ dktX0_areHeardSo_1
theorem dksX0_areHeardSo_0 : cX0_areHeardSo.data.toList.drop 0 = dktX0_areHeardSo_0 := by decide +kernel
theorem dksX0_areHeardSo_1 : cX0_areHeardSo.data.toList.drop 23 = dktX0_areHeardSo_1 := dk_seg dksX0_areHeardSo_0 23 rfl rfl
theorem dksX0_areHeardSo_2 : cX0_areHeardSo.data.toList.drop 45 = dktX0_areHeardSo_2 := dk_seg dksX0_areHeardSo_1 22 rfl rfl
theorem dksX0_areHeardSo_3 : cX0_areHeardSo.data.toList.drop 68 = dktX0_areHeardSo_3 := dk_seg dksX0_areHeardSo_2 23 rfl rfl
theorem dX0_areHeardSo_0 : decode cX0_areHeardSo 0 = .ok (.aload_n 0, 1) := dk_42 (dk_at dksX0_areHeardSo_0 0 rfl rfl)
theorem dX0_areHeardSo_1 : decode cX0_areHeardSo 1 = .ok (.getfield 78, 3) := dk_180 0 78 (dk_at dksX0_areHeardSo_0 1 rfl rfl)
theorem dX0_areHeardSo_4 : decode cX0_areHeardSo 4 = .ok (.aload_n 0, 1) := dk_42 (dk_at dksX0_areHeardSo_0 4 rfl rfl)
theorem dX0_areHeardSo_5 : decode cX0_areHeardSo 5 = .ok (.getfield 71, 3) := dk_180 0 71 (dk_at dksX0_areHeardSo_0 5 rfl rfl)
theorem dX0_areHeardSo_8 : decode cX0_areHeardSo 8 = .ok (.invokevirtual 155, 3) := dk_182 0 155 (dk_at dksX0_areHeardSo_0 8 rfl rfl)
theorem dX0_areHeardSo_11 : decode cX0_areHeardSo 11 = .ok (.iconst 1, 1) := dk_4 (dk_at dksX0_areHeardSo_0 11 rfl rfl)
theorem dX0_areHeardSo_12 : decode cX0_areHeardSo 12 = .ok (.istore_n 3, 1) := dk_62 (dk_at dksX0_areHeardSo_0 12 rfl rfl)
theorem dX0_areHeardSo_13 : decode cX0_areHeardSo 13 = .ok (.iconst 0, 1) := dk_3 (dk_at dksX0_areHeardSo_0 13 rfl rfl)
theorem dX0_areHeardSo_14 : decode cX0_areHeardSo 14 = .ok (.istore 4, 2) := dk_54 4 (dk_at dksX0_areHeardSo_0 14 rfl rfl)
theorem dX0_areHeardSo_16 : decode cX0_areHeardSo 16 = .ok (.iload_n 3, 1) := dk_29 (dk_at dksX0_areHeardSo_0 16 rfl rfl)
theorem dX0_areHeardSo_17 : decode cX0_areHeardSo 17 = .ok (.ifCond .eq 37, 3) := dk_153 0 37 (dk_at dksX0_areHeardSo_0 17 rfl rfl)
theorem dX0_areHeardSo_20 : decode cX0_areHeardSo 20 = .ok (.iload 4, 2) := dk_21 4 (dk_at dksX0_areHeardSo_0 20 rfl rfl)
theorem dX0_areHeardSo_22 : decode cX0_areHeardSo 22 = .ok (.aload_n 1, 1) := dk_43 (dk_at dksX0_areHeardSo_0 22 rfl rfl)
theorem dX0_areHeardSo_23 : decode cX0_areHeardSo 23 = .ok (.invokestatic 302, 3) := dk_184 1 46 (dk_at dksX0_areHeardSo_1 0 rfl rfl)
theorem dX0_areHeardSo_26 : decode cX0_areHeardSo 26 = .ok (.if_icmp .ge 28, 3) := dk_162 0 28 (dk_at dksX0_areHeardSo_1 3 rfl rfl)
theorem dX0_areHeardSo_29 : decode cX0_areHeardSo 29 = .ok (.aload_n 0, 1) := dk_42 (dk_at dksX0_areHeardSo_1 6 rfl rfl)
theorem dX0_areHeardSo_30 : decode cX0_areHeardSo 30 = .ok (.aload_n 1, 1) := dk_43 (dk_at dksX0_areHeardSo_1 7 rfl rfl)
theorem dX0_areHeardSo_31 : decode cX0_areHeardSo 31 = .ok (.iload 4, 2) := dk_21 4 (dk_at dksX0_areHeardSo_1 8 rfl rfl)
theorem dX0_areHeardSo_33 : decode cX0_areHeardSo 33 = .ok (.invokestatic 306, 3) := dk_184 1 50 (dk_at dksX0_areHeardSo_1 10 rfl rfl)
theorem dX0_areHeardSo_36 : decode cX0_areHeardSo 36 = .ok (.iload_n 2, 1) := dk_28 (dk_at dksX0_areHeardSo_1 13 rfl rfl)
theorem dX0_areHeardSo_37 : decode cX0_areHeardSo 37 = .ok (.invokevirtual 310, 3) := dk_182 1 54 (dk_at dksX0_areHeardSo_1 14 rfl rfl)
theorem dX0_areHeardSo_40 : decode cX0_areHeardSo 40 = .ok (.istore_n 3, 1) := dk_62 (dk_at dksX0_areHeardSo_1 17 rfl rfl)
theorem dX0_areHeardSo_41 : decode cX0_areHeardSo 41 = .ok (.aload_n 0, 1) := dk_42 (dk_at dksX0_areHeardSo_1 18 rfl rfl)
theorem dX0_areHeardSo_42 : decode cX0_areHeardSo 42 = .ok (.getfield 71, 3) := dk_180 0 71 (dk_at dksX0_areHeardSo_1 19 rfl rfl)
theorem dX0_areHeardSo_45 : decode cX0_areHeardSo 45 = .ok (.invokevirtual 126, 3) := dk_182 0 126 (dk_at dksX0_areHeardSo_2 0 rfl rfl)
theorem dX0_areHeardSo_48 : decode cX0_areHeardSo 48 = .ok (.iinc 4 1, 3) := dk_132 4 1 (dk_at dksX0_areHeardSo_2 3 rfl rfl)
theorem dX0_areHeardSo_51 : decode cX0_areHeardSo 51 = .ok (.goto (-35), 3) := dk_167 255 221 (dk_at dksX0_areHeardSo_2 6 rfl rfl)
theorem dX0_areHeardSo_54 : decode cX0_areHeardSo 54 = .ok (.iload_n 3, 1) := dk_29 (dk_at dksX0_areHeardSo_2 9 rfl rfl)
theorem dX0_areHeardSo_55 : decode cX0_areHeardSo 55 = .ok (.istore 4, 2) := dk_54 4 (dk_at dksX0_areHeardSo_2 10 rfl rfl)
theorem dX0_areHeardSo_57 : decode cX0_areHeardSo 57 = .ok (.aload_n 0, 1) := dk_42 (dk_at dksX0_areHeardSo_2 12 rfl rfl)
theorem dX0_areHeardSo_58 : decode cX0_areHeardSo 58 = .ok (.getfield 71, 3) := dk_180 0 71 (dk_at dksX0_areHeardSo_2 13 rfl rfl)
theorem dX0_areHeardSo_61 : decode cX0_areHeardSo 61 = .ok (.aload_n 0, 1) := dk_42 (dk_at dksX0_areHeardSo_2 16 rfl rfl)
theorem dX0_areHeardSo_62 : decode cX0_areHeardSo 62 = .ok (.getfield 78, 3) := dk_180 0 78 (dk_at dksX0_areHeardSo_2 17 rfl rfl)
theorem dX0_areHeardSo_65 : decode cX0_areHeardSo 65 = .ok (.invokevirtual 155, 3) := dk_182 0 155 (dk_at dksX0_areHeardSo_2 20 rfl rfl)
theorem dX0_areHeardSo_68 : decode cX0_areHeardSo 68 = .ok (.iload 4, 2) := dk_21 4 (dk_at dksX0_areHeardSo_3 0 rfl rfl)
theorem dX0_areHeardSo_70 : decode cX0_areHeardSo 70 = .ok (.ireturn, 1) := dk_172 (dk_at dksX0_areHeardSo_3 2 rfl rfl)
theorem dX0_areHeardSo_71 : decode cX0_areHeardSo 71 = .ok (.astore 5, 2) := dk_58 5 (dk_at dksX0_areHeardSo_3 3 rfl rfl)
theorem dX0_areHeardSo_73 : decode cX0_areHeardSo 73 = .ok (.aload_n 0, 1) := dk_42 (dk_at dksX0_areHeardSo_3 5 rfl rfl)
theorem dX0_areHeardSo_74 : decode cX0_areHeardSo 74 = .ok (.getfield 71, 3) := dk_180 0 71 (dk_at dksX0_areHeardSo_3 6 rfl rfl)
theorem dX0_areHeardSo_77 : decode cX0_areHeardSo 77 = .ok (.aload_n 0, 1) := dk_42 (dk_at dksX0_areHeardSo_3 9 rfl rfl)
theorem dX0_areHeardSo_78 : decode cX0_areHeardSo 78 = .ok (.getfield 78, 3) := dk_180 0 78 (dk_at dksX0_areHeardSo_3 10 rfl rfl)
theorem dX0_areHeardSo_81 : decode cX0_areHeardSo 81 = .ok (.invokevirtual 155, 3) := dk_182 0 155 (dk_at dksX0_areHeardSo_3 13 rfl rfl)
theorem dX0_areHeardSo_84 : decode cX0_areHeardSo 84 = .ok (.aload 5, 2) := dk_25 5 (dk_at dksX0_areHeardSo_3 16 rfl rfl)
theorem dX0_areHeardSo_86 : decode cX0_areHeardSo 86 = .ok (.athrow, 1) := dk_191 (dk_at dksX0_areHeardSo_3 18 rfl rfl)
abbrev cX0_length : ByteArray := prog_1_method_90_code
def yX0_length : MethodName := ⟨RX0, "length", "(Ljava/lang/Object;)I"⟩
def dkwX0_length_1 : List UInt8 := [192, 1, 132, 190, 167, 0, 8, 42, 192, 1, 134, 190, 172]
abbrev dktX0_length_1 : List UInt8 := dkwX0_length_1 ++ []
def dkwX0_length_0 : List UInt8 := [42, 193, 1, 131, 153, 0, 11, 42, 192, 1, 131, 190, 167, 0, 23, 42, 193, 1, 132, 153, 0, 11, 42]
abbrev dktX0_length_0 : List UInt8 := dkwX0_length_0 ++ dktX0_length_1
theorem dksX0_length_0 : cX0_length.data.toList.drop 0 = dktX0_length_0 := by decide +kernel
theorem dksX0_length_1 : cX0_length.data.toList.drop 23 = dktX0_length_1 := dk_seg dksX0_length_0 23 rfl rfl
theorem dX0_length_0 : decode cX0_length 0 = .ok (.aload_n 0, 1) := dk_42 (dk_at dksX0_length_0 0 rfl rfl)
theorem dX0_length_1 : decode cX0_length 1 = .ok (.instanceof 387, 3) := dk_193 1 131 (dk_at dksX0_length_0 1 rfl rfl)
theorem dX0_length_4 : decode cX0_length 4 = .ok (.ifCond .eq 11, 3) := dk_153 0 11 (dk_at dksX0_length_0 4 rfl rfl)
theorem dX0_length_7 : decode cX0_length 7 = .ok (.aload_n 0, 1) := dk_42 (dk_at dksX0_length_0 7 rfl rfl)
theorem dX0_length_8 : decode cX0_length 8 = .ok (.checkcast 387, 3) := dk_192 1 131 (dk_at dksX0_length_0 8 rfl rfl)
theorem dX0_length_11 : decode cX0_length 11 = .ok (.arraylength, 1) := dk_190 (dk_at dksX0_length_0 11 rfl rfl)
theorem dX0_length_12 : decode cX0_length 12 = .ok (.goto 23, 3) := dk_167 0 23 (dk_at dksX0_length_0 12 rfl rfl)
theorem dX0_length_15 : decode cX0_length 15 = .ok (.aload_n 0, 1) := dk_42 (dk_at dksX0_length_0 15 rfl rfl)
theorem dX0_length_16 : decode cX0_length 16 = .ok (.instanceof 388, 3) := dk_193 1 132 (dk_at dksX0_length_0 16 rfl rfl)
theorem dX0_length_19 : decode cX0_length 19 = .ok (.ifCond .eq 11, 3) := dk_153 0 11 (dk_at dksX0_length_0 19 rfl rfl)
theorem dX0_length_22 : decode cX0_length 22 = .ok (.aload_n 0, 1) := dk_42 (dk_at dksX0_length_0 22 rfl rfl)
theorem dX0_length_23 : decode cX0_length 23 = .ok (.checkcast 388, 3) := dk_192 1 132 (dk_at dksX0_length_1 0 rfl rfl)
theorem dX0_length_26 : decode cX0_length 26 = .ok (.arraylength, 1) := dk_190 (dk_at dksX0_length_1 3 rfl rfl)
theorem dX0_length_27 : decode cX0_length 27 = .ok (.goto 8, 3) := dk_167 0 8 (dk_at dksX0_length_1 4 rfl rfl)
theorem dX0_length_30 : decode cX0_length 30 = .ok (.aload_n 0, 1) := dk_42 (dk_at dksX0_length_1 7 rfl rfl)
theorem dX0_length_31 : decode cX0_length 31 = .ok (.checkcast 390, 3) := dk_192 1 134 (dk_at dksX0_length_1 8 rfl rfl)
theorem dX0_length_34 : decode cX0_length 34 = .ok (.arraylength, 1) := dk_190 (dk_at dksX0_length_1 11 rfl rfl)
theorem dX0_length_35 : decode cX0_length 35 = .ok (.ireturn, 1) := dk_172 (dk_at dksX0_length_1 12 rfl rfl)
abbrev cX0_number : ByteArray := prog_1_method_91_code
def yX0_number : MethodName := ⟨RX0, "number", "(Ljava/lang/Object;I)I"⟩
def dkwX0_number_1 : List UInt8 := [192, 1, 132, 27, 53, 167, 0, 9, 42, 192, 1, 134, 27, 46, 172]
abbrev dktX0_number_1 : List UInt8 := dkwX0_number_1 ++ []
def dkwX0_number_0 : List UInt8 := [42, 193, 1, 131, 153, 0, 12, 42, 192, 1, 131, 27, 51, 167, 0, 25, 42, 193, 1, 132, 153, 0, 12, 42]
abbrev dktX0_number_0 : List UInt8 := dkwX0_number_0 ++ dktX0_number_1
theorem dksX0_number_0 : cX0_number.data.toList.drop 0 = dktX0_number_0 := by decide +kernel
theorem dksX0_number_1 : cX0_number.data.toList.drop 24 = dktX0_number_1 := dk_seg dksX0_number_0 24 rfl rfl
theorem dX0_number_0 : decode cX0_number 0 = .ok (.aload_n 0, 1) := dk_42 (dk_at dksX0_number_0 0 rfl rfl)
theorem dX0_number_1 : decode cX0_number 1 = .ok (.instanceof 387, 3) := dk_193 1 131 (dk_at dksX0_number_0 1 rfl rfl)
theorem dX0_number_4 : decode cX0_number 4 = .ok (.ifCond .eq 12, 3) := dk_153 0 12 (dk_at dksX0_number_0 4 rfl rfl)
theorem dX0_number_7 : decode cX0_number 7 = .ok (.aload_n 0, 1) := dk_42 (dk_at dksX0_number_0 7 rfl rfl)
theorem dX0_number_8 : decode cX0_number 8 = .ok (.checkcast 387, 3) := dk_192 1 131 (dk_at dksX0_number_0 8 rfl rfl)
theorem dX0_number_11 : decode cX0_number 11 = .ok (.iload_n 1, 1) := dk_27 (dk_at dksX0_number_0 11 rfl rfl)
theorem dX0_number_12 : decode cX0_number 12 = .ok (.baload, 1) := dk_51 (dk_at dksX0_number_0 12 rfl rfl)
theorem dX0_number_13 : decode cX0_number 13 = .ok (.goto 25, 3) := dk_167 0 25 (dk_at dksX0_number_0 13 rfl rfl)
theorem dX0_number_16 : decode cX0_number 16 = .ok (.aload_n 0, 1) := dk_42 (dk_at dksX0_number_0 16 rfl rfl)
theorem dX0_number_17 : decode cX0_number 17 = .ok (.instanceof 388, 3) := dk_193 1 132 (dk_at dksX0_number_0 17 rfl rfl)
theorem dX0_number_20 : decode cX0_number 20 = .ok (.ifCond .eq 12, 3) := dk_153 0 12 (dk_at dksX0_number_0 20 rfl rfl)
theorem dX0_number_23 : decode cX0_number 23 = .ok (.aload_n 0, 1) := dk_42 (dk_at dksX0_number_0 23 rfl rfl)
theorem dX0_number_24 : decode cX0_number 24 = .ok (.checkcast 388, 3) := dk_192 1 132 (dk_at dksX0_number_1 0 rfl rfl)
theorem dX0_number_27 : decode cX0_number 27 = .ok (.iload_n 1, 1) := dk_27 (dk_at dksX0_number_1 3 rfl rfl)
theorem dX0_number_28 : decode cX0_number 28 = .ok (.saload, 1) := dk_53 (dk_at dksX0_number_1 4 rfl rfl)
theorem dX0_number_29 : decode cX0_number 29 = .ok (.goto 9, 3) := dk_167 0 9 (dk_at dksX0_number_1 5 rfl rfl)
theorem dX0_number_32 : decode cX0_number 32 = .ok (.aload_n 0, 1) := dk_42 (dk_at dksX0_number_1 8 rfl rfl)
theorem dX0_number_33 : decode cX0_number 33 = .ok (.checkcast 390, 3) := dk_192 1 134 (dk_at dksX0_number_1 9 rfl rfl)
theorem dX0_number_36 : decode cX0_number 36 = .ok (.iload_n 1, 1) := dk_27 (dk_at dksX0_number_1 12 rfl rfl)
theorem dX0_number_37 : decode cX0_number 37 = .ok (.iaload, 1) := dk_46 (dk_at dksX0_number_1 13 rfl rfl)
theorem dX0_number_38 : decode cX0_number 38 = .ok (.ireturn, 1) := dk_172 (dk_at dksX0_number_1 14 rfl rfl)
abbrev cX0_isHeardSo : ByteArray := prog_1_method_70_code
def yX0_isHeardSo : MethodName := ⟨RX0, "isHeardSo", "(II)Z"⟩
def dkwX0_isHeardSo_4 : List UInt8 := [153, 0, 16, 29, 153, 0, 12, 21, 4, 153, 0, 7, 4, 167, 0, 4, 3, 172]
abbrev dktX0_isHeardSo_4 : List UInt8 := dkwX0_isHeardSo_4 ++ []
def dkwX0_isHeardSo_3 : List UInt8 := [180, 0, 71, 182, 0, 224, 154, 0, 7, 4, 167, 0, 31, 3, 167, 0, 27, 42, 180, 0, 71, 182, 0, 224]
abbrev dktX0_isHeardSo_3 : List UInt8 := dkwX0_isHeardSo_3 ++ dktX0_isHeardSo_4
def dkwX0_isHeardSo_2 : List UInt8 := [100, 42, 180, 0, 71, 182, 0, 239, 160, 0, 7, 4, 167, 0, 4, 3, 54, 4, 27, 2, 160, 0, 21, 42]
abbrev dktX0_isHeardSo_2 : List UInt8 := dkwX0_isHeardSo_2 ++ dktX0_isHeardSo_3
def dkwX0_isHeardSo_1 : List UInt8 := [180, 0, 71, 182, 0, 236, 160, 0, 7, 4, 167, 0, 4, 3, 62, 28, 4, 159, 0, 18, 27, 6, 112, 4]
abbrev dktX0_isHeardSo_1 : List UInt8 := dkwX0_isHeardSo_1 ++ dktX0_isHeardSo_2
def dkwX0_isHeardSo_0 : List UInt8 := [27, 2, 16, 8, 184, 0, 9, 154, 0, 5, 4, 172, 28, 5, 159, 0, 18, 27, 6, 108, 4, 100, 42]
abbrev dktX0_isHeardSo_0 : List UInt8 := dkwX0_isHeardSo_0 ++ dktX0_isHeardSo_1
theorem dksX0_isHeardSo_0 : cX0_isHeardSo.data.toList.drop 0 = dktX0_isHeardSo_0 := by decide +kernel
theorem dksX0_isHeardSo_1 : cX0_isHeardSo.data.toList.drop 23 = dktX0_isHeardSo_1 := dk_seg dksX0_isHeardSo_0 23 rfl rfl
theorem dksX0_isHeardSo_2 : cX0_isHeardSo.data.toList.drop 47 = dktX0_isHeardSo_2 := dk_seg dksX0_isHeardSo_1 24 rfl rfl
theorem dksX0_isHeardSo_3 : cX0_isHeardSo.data.toList.drop 71 = dktX0_isHeardSo_3 := dk_seg dksX0_isHeardSo_2 24 rfl rfl
theorem dksX0_isHeardSo_4 : cX0_isHeardSo.data.toList.drop 95 = dktX0_isHeardSo_4 := dk_seg dksX0_isHeardSo_3 24 rfl rfl
theorem dX0_isHeardSo_0 : decode cX0_isHeardSo 0 = .ok (.iload_n 1, 1) := dk_27 (dk_at dksX0_isHeardSo_0 0 rfl rfl)
theorem dX0_isHeardSo_1 : decode cX0_isHeardSo 1 = .ok (.iconst (-1), 1) := dk_2 (dk_at dksX0_isHeardSo_0 1 rfl rfl)
theorem dX0_isHeardSo_2 : decode cX0_isHeardSo 2 = .ok (.bipush 8, 2) := dk_16 8 (dk_at dksX0_isHeardSo_0 2 rfl rfl)
theorem dX0_isHeardSo_4 : decode cX0_isHeardSo 4 = .ok (.invokestatic 9, 3) := dk_184 0 9 (dk_at dksX0_isHeardSo_0 4 rfl rfl)
theorem dX0_isHeardSo_7 : decode cX0_isHeardSo 7 = .ok (.ifCond .ne 5, 3) := dk_154 0 5 (dk_at dksX0_isHeardSo_0 7 rfl rfl)
theorem dX0_isHeardSo_10 : decode cX0_isHeardSo 10 = .ok (.iconst 1, 1) := dk_4 (dk_at dksX0_isHeardSo_0 10 rfl rfl)
theorem dX0_isHeardSo_11 : decode cX0_isHeardSo 11 = .ok (.ireturn, 1) := dk_172 (dk_at dksX0_isHeardSo_0 11 rfl rfl)
theorem dX0_isHeardSo_12 : decode cX0_isHeardSo 12 = .ok (.iload_n 2, 1) := dk_28 (dk_at dksX0_isHeardSo_0 12 rfl rfl)
theorem dX0_isHeardSo_13 : decode cX0_isHeardSo 13 = .ok (.iconst 2, 1) := dk_5 (dk_at dksX0_isHeardSo_0 13 rfl rfl)
theorem dX0_isHeardSo_14 : decode cX0_isHeardSo 14 = .ok (.if_icmp .eq 18, 3) := dk_159 0 18 (dk_at dksX0_isHeardSo_0 14 rfl rfl)
theorem dX0_isHeardSo_17 : decode cX0_isHeardSo 17 = .ok (.iload_n 1, 1) := dk_27 (dk_at dksX0_isHeardSo_0 17 rfl rfl)
theorem dX0_isHeardSo_18 : decode cX0_isHeardSo 18 = .ok (.iconst 3, 1) := dk_6 (dk_at dksX0_isHeardSo_0 18 rfl rfl)
theorem dX0_isHeardSo_19 : decode cX0_isHeardSo 19 = .ok (.idiv, 1) := dk_108 (dk_at dksX0_isHeardSo_0 19 rfl rfl)
theorem dX0_isHeardSo_20 : decode cX0_isHeardSo 20 = .ok (.iconst 1, 1) := dk_4 (dk_at dksX0_isHeardSo_0 20 rfl rfl)
theorem dX0_isHeardSo_21 : decode cX0_isHeardSo 21 = .ok (.isub, 1) := dk_100 (dk_at dksX0_isHeardSo_0 21 rfl rfl)
theorem dX0_isHeardSo_22 : decode cX0_isHeardSo 22 = .ok (.aload_n 0, 1) := dk_42 (dk_at dksX0_isHeardSo_0 22 rfl rfl)
theorem dX0_isHeardSo_23 : decode cX0_isHeardSo 23 = .ok (.getfield 71, 3) := dk_180 0 71 (dk_at dksX0_isHeardSo_1 0 rfl rfl)
theorem dX0_isHeardSo_26 : decode cX0_isHeardSo 26 = .ok (.invokevirtual 236, 3) := dk_182 0 236 (dk_at dksX0_isHeardSo_1 3 rfl rfl)
theorem dX0_isHeardSo_29 : decode cX0_isHeardSo 29 = .ok (.if_icmp .ne 7, 3) := dk_160 0 7 (dk_at dksX0_isHeardSo_1 6 rfl rfl)
theorem dX0_isHeardSo_32 : decode cX0_isHeardSo 32 = .ok (.iconst 1, 1) := dk_4 (dk_at dksX0_isHeardSo_1 9 rfl rfl)
theorem dX0_isHeardSo_33 : decode cX0_isHeardSo 33 = .ok (.goto 4, 3) := dk_167 0 4 (dk_at dksX0_isHeardSo_1 10 rfl rfl)
theorem dX0_isHeardSo_36 : decode cX0_isHeardSo 36 = .ok (.iconst 0, 1) := dk_3 (dk_at dksX0_isHeardSo_1 13 rfl rfl)
theorem dX0_isHeardSo_37 : decode cX0_isHeardSo 37 = .ok (.istore_n 3, 1) := dk_62 (dk_at dksX0_isHeardSo_1 14 rfl rfl)
theorem dX0_isHeardSo_38 : decode cX0_isHeardSo 38 = .ok (.iload_n 2, 1) := dk_28 (dk_at dksX0_isHeardSo_1 15 rfl rfl)
theorem dX0_isHeardSo_39 : decode cX0_isHeardSo 39 = .ok (.iconst 1, 1) := dk_4 (dk_at dksX0_isHeardSo_1 16 rfl rfl)
theorem dX0_isHeardSo_40 : decode cX0_isHeardSo 40 = .ok (.if_icmp .eq 18, 3) := dk_159 0 18 (dk_at dksX0_isHeardSo_1 17 rfl rfl)
theorem dX0_isHeardSo_43 : decode cX0_isHeardSo 43 = .ok (.iload_n 1, 1) := dk_27 (dk_at dksX0_isHeardSo_1 20 rfl rfl)
theorem dX0_isHeardSo_44 : decode cX0_isHeardSo 44 = .ok (.iconst 3, 1) := dk_6 (dk_at dksX0_isHeardSo_1 21 rfl rfl)
theorem dX0_isHeardSo_45 : decode cX0_isHeardSo 45 = .ok (.irem, 1) := dk_112 (dk_at dksX0_isHeardSo_1 22 rfl rfl)
theorem dX0_isHeardSo_46 : decode cX0_isHeardSo 46 = .ok (.iconst 1, 1) := dk_4 (dk_at dksX0_isHeardSo_1 23 rfl rfl)
theorem dX0_isHeardSo_47 : decode cX0_isHeardSo 47 = .ok (.isub, 1) := dk_100 (dk_at dksX0_isHeardSo_2 0 rfl rfl)
theorem dX0_isHeardSo_48 : decode cX0_isHeardSo 48 = .ok (.aload_n 0, 1) := dk_42 (dk_at dksX0_isHeardSo_2 1 rfl rfl)
theorem dX0_isHeardSo_49 : decode cX0_isHeardSo 49 = .ok (.getfield 71, 3) := dk_180 0 71 (dk_at dksX0_isHeardSo_2 2 rfl rfl)
theorem dX0_isHeardSo_52 : decode cX0_isHeardSo 52 = .ok (.invokevirtual 239, 3) := dk_182 0 239 (dk_at dksX0_isHeardSo_2 5 rfl rfl)
theorem dX0_isHeardSo_55 : decode cX0_isHeardSo 55 = .ok (.if_icmp .ne 7, 3) := dk_160 0 7 (dk_at dksX0_isHeardSo_2 8 rfl rfl)
theorem dX0_isHeardSo_58 : decode cX0_isHeardSo 58 = .ok (.iconst 1, 1) := dk_4 (dk_at dksX0_isHeardSo_2 11 rfl rfl)
theorem dX0_isHeardSo_59 : decode cX0_isHeardSo 59 = .ok (.goto 4, 3) := dk_167 0 4 (dk_at dksX0_isHeardSo_2 12 rfl rfl)
theorem dX0_isHeardSo_62 : decode cX0_isHeardSo 62 = .ok (.iconst 0, 1) := dk_3 (dk_at dksX0_isHeardSo_2 15 rfl rfl)
theorem dX0_isHeardSo_63 : decode cX0_isHeardSo 63 = .ok (.istore 4, 2) := dk_54 4 (dk_at dksX0_isHeardSo_2 16 rfl rfl)
theorem dX0_isHeardSo_65 : decode cX0_isHeardSo 65 = .ok (.iload_n 1, 1) := dk_27 (dk_at dksX0_isHeardSo_2 18 rfl rfl)
theorem dX0_isHeardSo_66 : decode cX0_isHeardSo 66 = .ok (.iconst (-1), 1) := dk_2 (dk_at dksX0_isHeardSo_2 19 rfl rfl)
theorem dX0_isHeardSo_67 : decode cX0_isHeardSo 67 = .ok (.if_icmp .ne 21, 3) := dk_160 0 21 (dk_at dksX0_isHeardSo_2 20 rfl rfl)
theorem dX0_isHeardSo_70 : decode cX0_isHeardSo 70 = .ok (.aload_n 0, 1) := dk_42 (dk_at dksX0_isHeardSo_2 23 rfl rfl)
theorem dX0_isHeardSo_71 : decode cX0_isHeardSo 71 = .ok (.getfield 71, 3) := dk_180 0 71 (dk_at dksX0_isHeardSo_3 0 rfl rfl)
theorem dX0_isHeardSo_74 : decode cX0_isHeardSo 74 = .ok (.invokevirtual 224, 3) := dk_182 0 224 (dk_at dksX0_isHeardSo_3 3 rfl rfl)
theorem dX0_isHeardSo_77 : decode cX0_isHeardSo 77 = .ok (.ifCond .ne 7, 3) := dk_154 0 7 (dk_at dksX0_isHeardSo_3 6 rfl rfl)
theorem dX0_isHeardSo_80 : decode cX0_isHeardSo 80 = .ok (.iconst 1, 1) := dk_4 (dk_at dksX0_isHeardSo_3 9 rfl rfl)
theorem dX0_isHeardSo_81 : decode cX0_isHeardSo 81 = .ok (.goto 31, 3) := dk_167 0 31 (dk_at dksX0_isHeardSo_3 10 rfl rfl)
theorem dX0_isHeardSo_84 : decode cX0_isHeardSo 84 = .ok (.iconst 0, 1) := dk_3 (dk_at dksX0_isHeardSo_3 13 rfl rfl)
theorem dX0_isHeardSo_85 : decode cX0_isHeardSo 85 = .ok (.goto 27, 3) := dk_167 0 27 (dk_at dksX0_isHeardSo_3 14 rfl rfl)
theorem dX0_isHeardSo_88 : decode cX0_isHeardSo 88 = .ok (.aload_n 0, 1) := dk_42 (dk_at dksX0_isHeardSo_3 17 rfl rfl)
theorem dX0_isHeardSo_89 : decode cX0_isHeardSo 89 = .ok (.getfield 71, 3) := dk_180 0 71 (dk_at dksX0_isHeardSo_3 18 rfl rfl)
theorem dX0_isHeardSo_92 : decode cX0_isHeardSo 92 = .ok (.invokevirtual 224, 3) := dk_182 0 224 (dk_at dksX0_isHeardSo_3 21 rfl rfl)
theorem dX0_isHeardSo_95 : decode cX0_isHeardSo 95 = .ok (.ifCond .eq 16, 3) := dk_153 0 16 (dk_at dksX0_isHeardSo_4 0 rfl rfl)
theorem dX0_isHeardSo_98 : decode cX0_isHeardSo 98 = .ok (.iload_n 3, 1) := dk_29 (dk_at dksX0_isHeardSo_4 3 rfl rfl)
theorem dX0_isHeardSo_99 : decode cX0_isHeardSo 99 = .ok (.ifCond .eq 12, 3) := dk_153 0 12 (dk_at dksX0_isHeardSo_4 4 rfl rfl)
theorem dX0_isHeardSo_102 : decode cX0_isHeardSo 102 = .ok (.iload 4, 2) := dk_21 4 (dk_at dksX0_isHeardSo_4 7 rfl rfl)
theorem dX0_isHeardSo_104 : decode cX0_isHeardSo 104 = .ok (.ifCond .eq 7, 3) := dk_153 0 7 (dk_at dksX0_isHeardSo_4 9 rfl rfl)
theorem dX0_isHeardSo_107 : decode cX0_isHeardSo 107 = .ok (.iconst 1, 1) := dk_4 (dk_at dksX0_isHeardSo_4 12 rfl rfl)
theorem dX0_isHeardSo_108 : decode cX0_isHeardSo 108 = .ok (.goto 4, 3) := dk_167 0 4 (dk_at dksX0_isHeardSo_4 13 rfl rfl)
theorem dX0_isHeardSo_111 : decode cX0_isHeardSo 111 = .ok (.iconst 0, 1) := dk_3 (dk_at dksX0_isHeardSo_4 16 rfl rfl)
theorem dX0_isHeardSo_112 : decode cX0_isHeardSo 112 = .ok (.ireturn, 1) := dk_172 (dk_at dksX0_isHeardSo_4 17 rfl rfl)
abbrev cX0_headings : ByteArray := prog_1_method_74_code
def yX0_headings : MethodName := ⟨RX0, "headings", "(II)I"⟩
def dkwX0_headings_0 : List UInt8 := [42, 27, 28, 4, 7, 182, 1, 69, 184, 1, 73, 172, 78, 42, 45, 180, 0, 114, 182, 0, 124, 172]
abbrev dktX0_headings_0 : List UInt8 := dkwX0_headings_0 ++ []
theorem dksX0_headings_0 : cX0_headings.data.toList.drop 0 = dktX0_headings_0 := by decide +kernel
theorem dX0_headings_0 : decode cX0_headings 0 = .ok (.aload_n 0, 1) := dk_42 (dk_at dksX0_headings_0 0 rfl rfl)
theorem dX0_headings_1 : decode cX0_headings 1 = .ok (.iload_n 1, 1) := dk_27 (dk_at dksX0_headings_0 1 rfl rfl)
theorem dX0_headings_2 : decode cX0_headings 2 = .ok (.iload_n 2, 1) := dk_28 (dk_at dksX0_headings_0 2 rfl rfl)
theorem dX0_headings_3 : decode cX0_headings 3 = .ok (.iconst 1, 1) := dk_4 (dk_at dksX0_headings_0 3 rfl rfl)
theorem dX0_headings_4 : decode cX0_headings 4 = .ok (.iconst 4, 1) := dk_7 (dk_at dksX0_headings_0 4 rfl rfl)
theorem dX0_headings_5 : decode cX0_headings 5 = .ok (.invokevirtual 325, 3) := dk_182 1 69 (dk_at dksX0_headings_0 5 rfl rfl)
theorem dX0_headings_8 : decode cX0_headings 8 = .ok (.invokestatic 329, 3) := dk_184 1 73 (dk_at dksX0_headings_0 8 rfl rfl)
theorem dX0_headings_11 : decode cX0_headings 11 = .ok (.ireturn, 1) := dk_172 (dk_at dksX0_headings_0 11 rfl rfl)
theorem dX0_headings_12 : decode cX0_headings 12 = .ok (.astore_n 3, 1) := dk_78 (dk_at dksX0_headings_0 12 rfl rfl)
theorem dX0_headings_13 : decode cX0_headings 13 = .ok (.aload_n 0, 1) := dk_42 (dk_at dksX0_headings_0 13 rfl rfl)
theorem dX0_headings_14 : decode cX0_headings 14 = .ok (.aload_n 3, 1) := dk_45 (dk_at dksX0_headings_0 14 rfl rfl)
theorem dX0_headings_15 : decode cX0_headings 15 = .ok (.getfield 114, 3) := dk_180 0 114 (dk_at dksX0_headings_0 15 rfl rfl)
theorem dX0_headings_18 : decode cX0_headings 18 = .ok (.invokevirtual 124, 3) := dk_182 0 124 (dk_at dksX0_headings_0 18 rfl rfl)
theorem dX0_headings_21 : decode cX0_headings 21 = .ok (.ireturn, 1) := dk_172 (dk_at dksX0_headings_0 21 rfl rfl)
abbrev cX0_leaves : ByteArray := prog_1_method_76_code
def yX0_leaves : MethodName := ⟨RX0, "leaves", "(I)I"⟩
def dkwX0_leaves_1 : List UInt8 := [153, 0, 11, 42, 7, 182, 0, 124, 167, 0, 8, 42, 27, 182, 1, 78, 172]
abbrev dktX0_leaves_1 : List UInt8 := dkwX0_leaves_1 ++ []
def dkwX0_leaves_0 : List UInt8 := [27, 4, 16, 20, 184, 0, 9, 154, 0, 9, 42, 3, 182, 0, 124, 172, 42, 180, 0, 71, 27, 182, 0, 212]
abbrev dktX0_leaves_0 : List UInt8 := dkwX0_leaves_0 ++ dktX0_leaves_1
theorem dksX0_leaves_0 : cX0_leaves.data.toList.drop 0 = dktX0_leaves_0 := by decide +kernel
theorem dksX0_leaves_1 : cX0_leaves.data.toList.drop 24 = dktX0_leaves_1 := dk_seg dksX0_leaves_0 24 rfl rfl
theorem dX0_leaves_0 : decode cX0_leaves 0 = .ok (.iload_n 1, 1) := dk_27 (dk_at dksX0_leaves_0 0 rfl rfl)
theorem dX0_leaves_1 : decode cX0_leaves 1 = .ok (.iconst 1, 1) := dk_4 (dk_at dksX0_leaves_0 1 rfl rfl)
theorem dX0_leaves_2 : decode cX0_leaves 2 = .ok (.bipush 20, 2) := dk_16 20 (dk_at dksX0_leaves_0 2 rfl rfl)
theorem dX0_leaves_4 : decode cX0_leaves 4 = .ok (.invokestatic 9, 3) := dk_184 0 9 (dk_at dksX0_leaves_0 4 rfl rfl)
theorem dX0_leaves_7 : decode cX0_leaves 7 = .ok (.ifCond .ne 9, 3) := dk_154 0 9 (dk_at dksX0_leaves_0 7 rfl rfl)
theorem dX0_leaves_10 : decode cX0_leaves 10 = .ok (.aload_n 0, 1) := dk_42 (dk_at dksX0_leaves_0 10 rfl rfl)
theorem dX0_leaves_11 : decode cX0_leaves 11 = .ok (.iconst 0, 1) := dk_3 (dk_at dksX0_leaves_0 11 rfl rfl)
theorem dX0_leaves_12 : decode cX0_leaves 12 = .ok (.invokevirtual 124, 3) := dk_182 0 124 (dk_at dksX0_leaves_0 12 rfl rfl)
theorem dX0_leaves_15 : decode cX0_leaves 15 = .ok (.ireturn, 1) := dk_172 (dk_at dksX0_leaves_0 15 rfl rfl)
theorem dX0_leaves_16 : decode cX0_leaves 16 = .ok (.aload_n 0, 1) := dk_42 (dk_at dksX0_leaves_0 16 rfl rfl)
theorem dX0_leaves_17 : decode cX0_leaves 17 = .ok (.getfield 71, 3) := dk_180 0 71 (dk_at dksX0_leaves_0 17 rfl rfl)
theorem dX0_leaves_20 : decode cX0_leaves 20 = .ok (.iload_n 1, 1) := dk_27 (dk_at dksX0_leaves_0 20 rfl rfl)
theorem dX0_leaves_21 : decode cX0_leaves 21 = .ok (.invokevirtual 212, 3) := dk_182 0 212 (dk_at dksX0_leaves_0 21 rfl rfl)
theorem dX0_leaves_24 : decode cX0_leaves 24 = .ok (.ifCond .eq 11, 3) := dk_153 0 11 (dk_at dksX0_leaves_1 0 rfl rfl)
theorem dX0_leaves_27 : decode cX0_leaves 27 = .ok (.aload_n 0, 1) := dk_42 (dk_at dksX0_leaves_1 3 rfl rfl)
theorem dX0_leaves_28 : decode cX0_leaves 28 = .ok (.iconst 4, 1) := dk_7 (dk_at dksX0_leaves_1 4 rfl rfl)
theorem dX0_leaves_29 : decode cX0_leaves 29 = .ok (.invokevirtual 124, 3) := dk_182 0 124 (dk_at dksX0_leaves_1 5 rfl rfl)
theorem dX0_leaves_32 : decode cX0_leaves 32 = .ok (.goto 8, 3) := dk_167 0 8 (dk_at dksX0_leaves_1 8 rfl rfl)
theorem dX0_leaves_35 : decode cX0_leaves 35 = .ok (.aload_n 0, 1) := dk_42 (dk_at dksX0_leaves_1 11 rfl rfl)
theorem dX0_leaves_36 : decode cX0_leaves 36 = .ok (.iload_n 1, 1) := dk_27 (dk_at dksX0_leaves_1 12 rfl rfl)
theorem dX0_leaves_37 : decode cX0_leaves 37 = .ok (.invokevirtual 334, 3) := dk_182 1 78 (dk_at dksX0_leaves_1 13 rfl rfl)
theorem dX0_leaves_40 : decode cX0_leaves 40 = .ok (.ireturn, 1) := dk_172 (dk_at dksX0_leaves_1 16 rfl rfl)
abbrev cX0_rustles : ByteArray := prog_1_method_75_code
def yX0_rustles : MethodName := ⟨RX0, "rustles", "(I)I"⟩
def dkwX0_rustles_3 : List UInt8 := [167, 255, 191, 28, 172]
abbrev dktX0_rustles_3 : List UInt8 := dkwX0_rustles_3 ++ []
def dkwX0_rustles_2 : List UInt8 := [182, 0, 224, 153, 0, 7, 4, 167, 0, 4, 3, 96, 61, 42, 180, 0, 71, 182, 0, 126, 132, 3, 1]
abbrev dktX0_rustles_2 : List UInt8 := dkwX0_rustles_2 ++ dktX0_rustles_3
def dkwX0_rustles_1 : List UInt8 := [180, 0, 71, 180, 0, 171, 21, 4, 42, 180, 0, 71, 182, 1, 75, 16, 50, 112, 79, 28, 42, 180, 0, 71]
abbrev dktX0_rustles_1 : List UInt8 := dkwX0_rustles_1 ++ dktX0_rustles_2
def dkwX0_rustles_0 : List UInt8 := [3, 61, 3, 62, 29, 27, 162, 0, 66, 42, 180, 0, 71, 182, 1, 75, 16, 36, 112, 54, 4, 42]
abbrev dktX0_rustles_0 : List UInt8 := dkwX0_rustles_0 ++ dktX0_rustles_1
theorem dksX0_rustles_0 : cX0_rustles.data.toList.drop 0 = dktX0_rustles_0 := by decide +kernel
theorem dksX0_rustles_1 : cX0_rustles.data.toList.drop 22 = dktX0_rustles_1 := dk_seg dksX0_rustles_0 22 rfl rfl
theorem dksX0_rustles_2 : cX0_rustles.data.toList.drop 46 = dktX0_rustles_2 := dk_seg dksX0_rustles_1 24 rfl rfl
theorem dksX0_rustles_3 : cX0_rustles.data.toList.drop 69 = dktX0_rustles_3 := dk_seg dksX0_rustles_2 23 rfl rfl
theorem dX0_rustles_0 : decode cX0_rustles 0 = .ok (.iconst 0, 1) := dk_3 (dk_at dksX0_rustles_0 0 rfl rfl)
theorem dX0_rustles_1 : decode cX0_rustles 1 = .ok (.istore_n 2, 1) := dk_61 (dk_at dksX0_rustles_0 1 rfl rfl)
theorem dX0_rustles_2 : decode cX0_rustles 2 = .ok (.iconst 0, 1) := dk_3 (dk_at dksX0_rustles_0 2 rfl rfl)
theorem dX0_rustles_3 : decode cX0_rustles 3 = .ok (.istore_n 3, 1) := dk_62 (dk_at dksX0_rustles_0 3 rfl rfl)
theorem dX0_rustles_4 : decode cX0_rustles 4 = .ok (.iload_n 3, 1) := dk_29 (dk_at dksX0_rustles_0 4 rfl rfl)
theorem dX0_rustles_5 : decode cX0_rustles 5 = .ok (.iload_n 1, 1) := dk_27 (dk_at dksX0_rustles_0 5 rfl rfl)
theorem dX0_rustles_6 : decode cX0_rustles 6 = .ok (.if_icmp .ge 66, 3) := dk_162 0 66 (dk_at dksX0_rustles_0 6 rfl rfl)
theorem dX0_rustles_9 : decode cX0_rustles 9 = .ok (.aload_n 0, 1) := dk_42 (dk_at dksX0_rustles_0 9 rfl rfl)
theorem dX0_rustles_10 : decode cX0_rustles 10 = .ok (.getfield 71, 3) := dk_180 0 71 (dk_at dksX0_rustles_0 10 rfl rfl)
theorem dX0_rustles_13 : decode cX0_rustles 13 = .ok (.invokevirtual 331, 3) := dk_182 1 75 (dk_at dksX0_rustles_0 13 rfl rfl)
theorem dX0_rustles_16 : decode cX0_rustles 16 = .ok (.bipush 36, 2) := dk_16 36 (dk_at dksX0_rustles_0 16 rfl rfl)
theorem dX0_rustles_18 : decode cX0_rustles 18 = .ok (.irem, 1) := dk_112 (dk_at dksX0_rustles_0 18 rfl rfl)
theorem dX0_rustles_19 : decode cX0_rustles 19 = .ok (.istore 4, 2) := dk_54 4 (dk_at dksX0_rustles_0 19 rfl rfl)
theorem dX0_rustles_21 : decode cX0_rustles 21 = .ok (.aload_n 0, 1) := dk_42 (dk_at dksX0_rustles_0 21 rfl rfl)
theorem dX0_rustles_22 : decode cX0_rustles 22 = .ok (.getfield 71, 3) := dk_180 0 71 (dk_at dksX0_rustles_1 0 rfl rfl)
theorem dX0_rustles_25 : decode cX0_rustles 25 = .ok (.getfield 171, 3) := dk_180 0 171 (dk_at dksX0_rustles_1 3 rfl rfl)
theorem dX0_rustles_28 : decode cX0_rustles 28 = .ok (.iload 4, 2) := dk_21 4 (dk_at dksX0_rustles_1 6 rfl rfl)
theorem dX0_rustles_30 : decode cX0_rustles 30 = .ok (.aload_n 0, 1) := dk_42 (dk_at dksX0_rustles_1 8 rfl rfl)
theorem dX0_rustles_31 : decode cX0_rustles 31 = .ok (.getfield 71, 3) := dk_180 0 71 (dk_at dksX0_rustles_1 9 rfl rfl)
theorem dX0_rustles_34 : decode cX0_rustles 34 = .ok (.invokevirtual 331, 3) := dk_182 1 75 (dk_at dksX0_rustles_1 12 rfl rfl)
theorem dX0_rustles_37 : decode cX0_rustles 37 = .ok (.bipush 50, 2) := dk_16 50 (dk_at dksX0_rustles_1 15 rfl rfl)
theorem dX0_rustles_39 : decode cX0_rustles 39 = .ok (.irem, 1) := dk_112 (dk_at dksX0_rustles_1 17 rfl rfl)
theorem dX0_rustles_40 : decode cX0_rustles 40 = .ok (.iastore, 1) := dk_79 (dk_at dksX0_rustles_1 18 rfl rfl)
theorem dX0_rustles_41 : decode cX0_rustles 41 = .ok (.iload_n 2, 1) := dk_28 (dk_at dksX0_rustles_1 19 rfl rfl)
theorem dX0_rustles_42 : decode cX0_rustles 42 = .ok (.aload_n 0, 1) := dk_42 (dk_at dksX0_rustles_1 20 rfl rfl)
theorem dX0_rustles_43 : decode cX0_rustles 43 = .ok (.getfield 71, 3) := dk_180 0 71 (dk_at dksX0_rustles_1 21 rfl rfl)
theorem dX0_rustles_46 : decode cX0_rustles 46 = .ok (.invokevirtual 224, 3) := dk_182 0 224 (dk_at dksX0_rustles_2 0 rfl rfl)
theorem dX0_rustles_49 : decode cX0_rustles 49 = .ok (.ifCond .eq 7, 3) := dk_153 0 7 (dk_at dksX0_rustles_2 3 rfl rfl)
theorem dX0_rustles_52 : decode cX0_rustles 52 = .ok (.iconst 1, 1) := dk_4 (dk_at dksX0_rustles_2 6 rfl rfl)
theorem dX0_rustles_53 : decode cX0_rustles 53 = .ok (.goto 4, 3) := dk_167 0 4 (dk_at dksX0_rustles_2 7 rfl rfl)
theorem dX0_rustles_56 : decode cX0_rustles 56 = .ok (.iconst 0, 1) := dk_3 (dk_at dksX0_rustles_2 10 rfl rfl)
theorem dX0_rustles_57 : decode cX0_rustles 57 = .ok (.iadd, 1) := dk_96 (dk_at dksX0_rustles_2 11 rfl rfl)
theorem dX0_rustles_58 : decode cX0_rustles 58 = .ok (.istore_n 2, 1) := dk_61 (dk_at dksX0_rustles_2 12 rfl rfl)
theorem dX0_rustles_59 : decode cX0_rustles 59 = .ok (.aload_n 0, 1) := dk_42 (dk_at dksX0_rustles_2 13 rfl rfl)
theorem dX0_rustles_60 : decode cX0_rustles 60 = .ok (.getfield 71, 3) := dk_180 0 71 (dk_at dksX0_rustles_2 14 rfl rfl)
theorem dX0_rustles_63 : decode cX0_rustles 63 = .ok (.invokevirtual 126, 3) := dk_182 0 126 (dk_at dksX0_rustles_2 17 rfl rfl)
theorem dX0_rustles_66 : decode cX0_rustles 66 = .ok (.iinc 3 1, 3) := dk_132 3 1 (dk_at dksX0_rustles_2 20 rfl rfl)
theorem dX0_rustles_69 : decode cX0_rustles 69 = .ok (.goto (-65), 3) := dk_167 255 191 (dk_at dksX0_rustles_3 0 rfl rfl)
theorem dX0_rustles_72 : decode cX0_rustles 72 = .ok (.iload_n 2, 1) := dk_28 (dk_at dksX0_rustles_3 3 rfl rfl)
theorem dX0_rustles_73 : decode cX0_rustles 73 = .ok (.ireturn, 1) := dk_172 (dk_at dksX0_rustles_3 4 rfl rfl)
abbrev cX0_odds : ByteArray := prog_1_method_78_code
def yX0_odds : MethodName := ⟨RX0, "odds", "(II)J"⟩
def dkwX0_odds_3 : List UInt8 := [162, 0, 17, 22, 6, 21, 5, 133, 105, 55, 6, 132, 8, 1, 167, 255, 239, 22, 6, 173]
abbrev dktX0_odds_3 : List UInt8 := dkwX0_odds_3 ++ []
def dkwX0_odds_2 : List UInt8 := [154, 0, 7, 29, 167, 0, 5, 16, 36, 21, 4, 108, 54, 5, 10, 55, 6, 3, 54, 8, 21, 8, 27]
abbrev dktX0_odds_2 : List UInt8 := dkwX0_odds_2 ++ dktX0_odds_3
def dkwX0_odds_1 : List UInt8 := [133, 173, 16, 36, 42, 180, 0, 71, 182, 1, 81, 100, 62, 29, 16, 36, 184, 1, 84, 54, 4, 28]
abbrev dktX0_odds_1 : List UInt8 := dkwX0_odds_1 ++ dktX0_odds_2
def dkwX0_odds_0 : List UInt8 := [27, 3, 16, 11, 184, 0, 9, 153, 0, 12, 28, 3, 4, 184, 0, 9, 154, 0, 10, 42, 3, 182, 0, 124]
abbrev dktX0_odds_0 : List UInt8 := dkwX0_odds_0 ++ dktX0_odds_1
theorem dksX0_odds_0 : cX0_odds.data.toList.drop 0 = dktX0_odds_0 := by decide +kernel
theorem dksX0_odds_1 : cX0_odds.data.toList.drop 24 = dktX0_odds_1 := dk_seg dksX0_odds_0 24 rfl rfl
theorem dksX0_odds_2 : cX0_odds.data.toList.drop 46 = dktX0_odds_2 := dk_seg dksX0_odds_1 22 rfl rfl
theorem dksX0_odds_3 : cX0_odds.data.toList.drop 69 = dktX0_odds_3 := dk_seg dksX0_odds_2 23 rfl rfl
theorem dX0_odds_0 : decode cX0_odds 0 = .ok (.iload_n 1, 1) := dk_27 (dk_at dksX0_odds_0 0 rfl rfl)
theorem dX0_odds_1 : decode cX0_odds 1 = .ok (.iconst 0, 1) := dk_3 (dk_at dksX0_odds_0 1 rfl rfl)
theorem dX0_odds_2 : decode cX0_odds 2 = .ok (.bipush 11, 2) := dk_16 11 (dk_at dksX0_odds_0 2 rfl rfl)
theorem dX0_odds_4 : decode cX0_odds 4 = .ok (.invokestatic 9, 3) := dk_184 0 9 (dk_at dksX0_odds_0 4 rfl rfl)
theorem dX0_odds_7 : decode cX0_odds 7 = .ok (.ifCond .eq 12, 3) := dk_153 0 12 (dk_at dksX0_odds_0 7 rfl rfl)
theorem dX0_odds_10 : decode cX0_odds 10 = .ok (.iload_n 2, 1) := dk_28 (dk_at dksX0_odds_0 10 rfl rfl)
theorem dX0_odds_11 : decode cX0_odds 11 = .ok (.iconst 0, 1) := dk_3 (dk_at dksX0_odds_0 11 rfl rfl)
theorem dX0_odds_12 : decode cX0_odds 12 = .ok (.iconst 1, 1) := dk_4 (dk_at dksX0_odds_0 12 rfl rfl)
theorem dX0_odds_13 : decode cX0_odds 13 = .ok (.invokestatic 9, 3) := dk_184 0 9 (dk_at dksX0_odds_0 13 rfl rfl)
theorem dX0_odds_16 : decode cX0_odds 16 = .ok (.ifCond .ne 10, 3) := dk_154 0 10 (dk_at dksX0_odds_0 16 rfl rfl)
theorem dX0_odds_19 : decode cX0_odds 19 = .ok (.aload_n 0, 1) := dk_42 (dk_at dksX0_odds_0 19 rfl rfl)
theorem dX0_odds_20 : decode cX0_odds 20 = .ok (.iconst 0, 1) := dk_3 (dk_at dksX0_odds_0 20 rfl rfl)
theorem dX0_odds_21 : decode cX0_odds 21 = .ok (.invokevirtual 124, 3) := dk_182 0 124 (dk_at dksX0_odds_0 21 rfl rfl)
theorem dX0_odds_24 : decode cX0_odds 24 = .ok (.i2l, 1) := dk_133 (dk_at dksX0_odds_1 0 rfl rfl)
theorem dX0_odds_25 : decode cX0_odds 25 = .ok (.lreturn, 1) := dk_173 (dk_at dksX0_odds_1 1 rfl rfl)
theorem dX0_odds_26 : decode cX0_odds 26 = .ok (.bipush 36, 2) := dk_16 36 (dk_at dksX0_odds_1 2 rfl rfl)
theorem dX0_odds_28 : decode cX0_odds 28 = .ok (.aload_n 0, 1) := dk_42 (dk_at dksX0_odds_1 4 rfl rfl)
theorem dX0_odds_29 : decode cX0_odds 29 = .ok (.getfield 71, 3) := dk_180 0 71 (dk_at dksX0_odds_1 5 rfl rfl)
theorem dX0_odds_32 : decode cX0_odds 32 = .ok (.invokevirtual 337, 3) := dk_182 1 81 (dk_at dksX0_odds_1 8 rfl rfl)
theorem dX0_odds_35 : decode cX0_odds 35 = .ok (.isub, 1) := dk_100 (dk_at dksX0_odds_1 11 rfl rfl)
theorem dX0_odds_36 : decode cX0_odds 36 = .ok (.istore_n 3, 1) := dk_62 (dk_at dksX0_odds_1 12 rfl rfl)
theorem dX0_odds_37 : decode cX0_odds 37 = .ok (.iload_n 3, 1) := dk_29 (dk_at dksX0_odds_1 13 rfl rfl)
theorem dX0_odds_38 : decode cX0_odds 38 = .ok (.bipush 36, 2) := dk_16 36 (dk_at dksX0_odds_1 14 rfl rfl)
theorem dX0_odds_40 : decode cX0_odds 40 = .ok (.invokestatic 340, 3) := dk_184 1 84 (dk_at dksX0_odds_1 16 rfl rfl)
theorem dX0_odds_43 : decode cX0_odds 43 = .ok (.istore 4, 2) := dk_54 4 (dk_at dksX0_odds_1 19 rfl rfl)
theorem dX0_odds_45 : decode cX0_odds 45 = .ok (.iload_n 2, 1) := dk_28 (dk_at dksX0_odds_1 21 rfl rfl)
theorem dX0_odds_46 : decode cX0_odds 46 = .ok (.ifCond .ne 7, 3) := dk_154 0 7 (dk_at dksX0_odds_2 0 rfl rfl)
theorem dX0_odds_49 : decode cX0_odds 49 = .ok (.iload_n 3, 1) := dk_29 (dk_at dksX0_odds_2 3 rfl rfl)
theorem dX0_odds_50 : decode cX0_odds 50 = .ok (.goto 5, 3) := dk_167 0 5 (dk_at dksX0_odds_2 4 rfl rfl)
theorem dX0_odds_53 : decode cX0_odds 53 = .ok (.bipush 36, 2) := dk_16 36 (dk_at dksX0_odds_2 7 rfl rfl)
theorem dX0_odds_55 : decode cX0_odds 55 = .ok (.iload 4, 2) := dk_21 4 (dk_at dksX0_odds_2 9 rfl rfl)
theorem dX0_odds_57 : decode cX0_odds 57 = .ok (.idiv, 1) := dk_108 (dk_at dksX0_odds_2 11 rfl rfl)
theorem dX0_odds_58 : decode cX0_odds 58 = .ok (.istore 5, 2) := dk_54 5 (dk_at dksX0_odds_2 12 rfl rfl)
theorem dX0_odds_60 : decode cX0_odds 60 = .ok (.lconst 1, 1) := dk_10 (dk_at dksX0_odds_2 14 rfl rfl)
theorem dX0_odds_61 : decode cX0_odds 61 = .ok (.lstore 6, 2) := dk_55 6 (dk_at dksX0_odds_2 15 rfl rfl)
theorem dX0_odds_63 : decode cX0_odds 63 = .ok (.iconst 0, 1) := dk_3 (dk_at dksX0_odds_2 17 rfl rfl)
theorem dX0_odds_64 : decode cX0_odds 64 = .ok (.istore 8, 2) := dk_54 8 (dk_at dksX0_odds_2 18 rfl rfl)
theorem dX0_odds_66 : decode cX0_odds 66 = .ok (.iload 8, 2) := dk_21 8 (dk_at dksX0_odds_2 20 rfl rfl)
theorem dX0_odds_68 : decode cX0_odds 68 = .ok (.iload_n 1, 1) := dk_27 (dk_at dksX0_odds_2 22 rfl rfl)
theorem dX0_odds_69 : decode cX0_odds 69 = .ok (.if_icmp .ge 17, 3) := dk_162 0 17 (dk_at dksX0_odds_3 0 rfl rfl)
theorem dX0_odds_72 : decode cX0_odds 72 = .ok (.lload 6, 2) := dk_22 6 (dk_at dksX0_odds_3 3 rfl rfl)
theorem dX0_odds_74 : decode cX0_odds 74 = .ok (.iload 5, 2) := dk_21 5 (dk_at dksX0_odds_3 5 rfl rfl)
theorem dX0_odds_76 : decode cX0_odds 76 = .ok (.i2l, 1) := dk_133 (dk_at dksX0_odds_3 7 rfl rfl)
theorem dX0_odds_77 : decode cX0_odds 77 = .ok (.lmul, 1) := dk_105 (dk_at dksX0_odds_3 8 rfl rfl)
theorem dX0_odds_78 : decode cX0_odds 78 = .ok (.lstore 6, 2) := dk_55 6 (dk_at dksX0_odds_3 9 rfl rfl)
theorem dX0_odds_80 : decode cX0_odds 80 = .ok (.iinc 8 1, 3) := dk_132 8 1 (dk_at dksX0_odds_3 11 rfl rfl)
theorem dX0_odds_83 : decode cX0_odds 83 = .ok (.goto (-17), 3) := dk_167 255 239 (dk_at dksX0_odds_3 14 rfl rfl)
theorem dX0_odds_86 : decode cX0_odds 86 = .ok (.lload 6, 2) := dk_22 6 (dk_at dksX0_odds_3 17 rfl rfl)
theorem dX0_odds_88 : decode cX0_odds 88 = .ok (.lreturn, 1) := dk_173 (dk_at dksX0_odds_3 19 rfl rfl)
abbrev cX0_divisor : ByteArray := prog_1_method_77_code
def yX0_divisor : MethodName := ⟨RX0, "divisor", "(II)I"⟩
def dkwX0_divisor_0 : List UInt8 := [26, 61, 27, 62, 29, 153, 0, 16, 28, 29, 112, 54, 4, 29, 61, 21, 4, 62, 167, 255, 242, 28, 172]
abbrev dktX0_divisor_0 : List UInt8 := dkwX0_divisor_0 ++ []
theorem dksX0_divisor_0 : cX0_divisor.data.toList.drop 0 = dktX0_divisor_0 := by decide +kernel
theorem dX0_divisor_0 : decode cX0_divisor 0 = .ok (.iload_n 0, 1) := dk_26 (dk_at dksX0_divisor_0 0 rfl rfl)
theorem dX0_divisor_1 : decode cX0_divisor 1 = .ok (.istore_n 2, 1) := dk_61 (dk_at dksX0_divisor_0 1 rfl rfl)
theorem dX0_divisor_2 : decode cX0_divisor 2 = .ok (.iload_n 1, 1) := dk_27 (dk_at dksX0_divisor_0 2 rfl rfl)
theorem dX0_divisor_3 : decode cX0_divisor 3 = .ok (.istore_n 3, 1) := dk_62 (dk_at dksX0_divisor_0 3 rfl rfl)
theorem dX0_divisor_4 : decode cX0_divisor 4 = .ok (.iload_n 3, 1) := dk_29 (dk_at dksX0_divisor_0 4 rfl rfl)
theorem dX0_divisor_5 : decode cX0_divisor 5 = .ok (.ifCond .eq 16, 3) := dk_153 0 16 (dk_at dksX0_divisor_0 5 rfl rfl)
theorem dX0_divisor_8 : decode cX0_divisor 8 = .ok (.iload_n 2, 1) := dk_28 (dk_at dksX0_divisor_0 8 rfl rfl)
theorem dX0_divisor_9 : decode cX0_divisor 9 = .ok (.iload_n 3, 1) := dk_29 (dk_at dksX0_divisor_0 9 rfl rfl)
theorem dX0_divisor_10 : decode cX0_divisor 10 = .ok (.irem, 1) := dk_112 (dk_at dksX0_divisor_0 10 rfl rfl)
theorem dX0_divisor_11 : decode cX0_divisor 11 = .ok (.istore 4, 2) := dk_54 4 (dk_at dksX0_divisor_0 11 rfl rfl)
theorem dX0_divisor_13 : decode cX0_divisor 13 = .ok (.iload_n 3, 1) := dk_29 (dk_at dksX0_divisor_0 13 rfl rfl)
theorem dX0_divisor_14 : decode cX0_divisor 14 = .ok (.istore_n 2, 1) := dk_61 (dk_at dksX0_divisor_0 14 rfl rfl)
theorem dX0_divisor_15 : decode cX0_divisor 15 = .ok (.iload 4, 2) := dk_21 4 (dk_at dksX0_divisor_0 15 rfl rfl)
theorem dX0_divisor_17 : decode cX0_divisor 17 = .ok (.istore_n 3, 1) := dk_62 (dk_at dksX0_divisor_0 17 rfl rfl)
theorem dX0_divisor_18 : decode cX0_divisor 18 = .ok (.goto (-14), 3) := dk_167 255 242 (dk_at dksX0_divisor_0 18 rfl rfl)
theorem dX0_divisor_21 : decode cX0_divisor 21 = .ok (.iload_n 2, 1) := dk_28 (dk_at dksX0_divisor_0 21 rfl rfl)
theorem dX0_divisor_22 : decode cX0_divisor 22 = .ok (.ireturn, 1) := dk_172 (dk_at dksX0_divisor_0 22 rfl rfl)
abbrev cX0_seed : ByteArray := prog_1_method_79_code
def yX0_seed : MethodName := ⟨RX0, "seed", "(I)I"⟩
def dkwX0_seed_0 : List UInt8 := [42, 180, 0, 71, 180, 1, 87, 61, 42, 180, 0, 71, 27, 181, 1, 87, 28, 172]
abbrev dktX0_seed_0 : List UInt8 := dkwX0_seed_0 ++ []
theorem dksX0_seed_0 : cX0_seed.data.toList.drop 0 = dktX0_seed_0 := by decide +kernel
theorem dX0_seed_0 : decode cX0_seed 0 = .ok (.aload_n 0, 1) := dk_42 (dk_at dksX0_seed_0 0 rfl rfl)
theorem dX0_seed_1 : decode cX0_seed 1 = .ok (.getfield 71, 3) := dk_180 0 71 (dk_at dksX0_seed_0 1 rfl rfl)
theorem dX0_seed_4 : decode cX0_seed 4 = .ok (.getfield 343, 3) := dk_180 1 87 (dk_at dksX0_seed_0 4 rfl rfl)
theorem dX0_seed_7 : decode cX0_seed 7 = .ok (.istore_n 2, 1) := dk_61 (dk_at dksX0_seed_0 7 rfl rfl)
theorem dX0_seed_8 : decode cX0_seed 8 = .ok (.aload_n 0, 1) := dk_42 (dk_at dksX0_seed_0 8 rfl rfl)
theorem dX0_seed_9 : decode cX0_seed 9 = .ok (.getfield 71, 3) := dk_180 0 71 (dk_at dksX0_seed_0 9 rfl rfl)
theorem dX0_seed_12 : decode cX0_seed 12 = .ok (.iload_n 1, 1) := dk_27 (dk_at dksX0_seed_0 12 rfl rfl)
theorem dX0_seed_13 : decode cX0_seed 13 = .ok (.putfield 343, 3) := dk_181 1 87 (dk_at dksX0_seed_0 13 rfl rfl)
theorem dX0_seed_16 : decode cX0_seed 16 = .ok (.iload_n 2, 1) := dk_28 (dk_at dksX0_seed_0 16 rfl rfl)
theorem dX0_seed_17 : decode cX0_seed 17 = .ok (.ireturn, 1) := dk_172 (dk_at dksX0_seed_0 17 rfl rfl)
abbrev cX0_feed : ByteArray := prog_1_method_80_code
def yX0_feed : MethodName := ⟨RX0, "feed", "(II)I"⟩
def dkwX0_feed_3 : List UInt8 := [132, 3, 255, 167, 255, 220, 42, 180, 1, 90, 172]
abbrev dktX0_feed_3 : List UInt8 := dkwX0_feed_3 ++ []
def dkwX0_feed_2 : List UInt8 := [42, 180, 1, 90, 27, 16, 8, 29, 104, 122, 145, 84, 42, 89, 180, 1, 90, 4, 96, 181, 1, 90]
abbrev dktX0_feed_2 : List UInt8 := dkwX0_feed_2 ++ dktX0_feed_3
def dkwX0_feed_1 : List UInt8 := [164, 0, 9, 42, 4, 182, 0, 124, 172, 28, 4, 100, 62, 29, 155, 0, 38, 42, 180, 0, 64, 180, 1, 93]
abbrev dktX0_feed_1 : List UInt8 := dkwX0_feed_1 ++ dktX0_feed_2
def dkwX0_feed_0 : List UInt8 := [28, 4, 7, 184, 0, 9, 154, 0, 9, 42, 3, 182, 0, 124, 172, 42, 180, 1, 90, 28, 96, 16, 120]
abbrev dktX0_feed_0 : List UInt8 := dkwX0_feed_0 ++ dktX0_feed_1
theorem dksX0_feed_0 : cX0_feed.data.toList.drop 0 = dktX0_feed_0 := by decide +kernel
theorem dksX0_feed_1 : cX0_feed.data.toList.drop 23 = dktX0_feed_1 := dk_seg dksX0_feed_0 23 rfl rfl
theorem dksX0_feed_2 : cX0_feed.data.toList.drop 47 = dktX0_feed_2 := dk_seg dksX0_feed_1 24 rfl rfl
theorem dksX0_feed_3 : cX0_feed.data.toList.drop 69 = dktX0_feed_3 := dk_seg dksX0_feed_2 22 rfl rfl
theorem dX0_feed_0 : decode cX0_feed 0 = .ok (.iload_n 2, 1) := dk_28 (dk_at dksX0_feed_0 0 rfl rfl)
theorem dX0_feed_1 : decode cX0_feed 1 = .ok (.iconst 1, 1) := dk_4 (dk_at dksX0_feed_0 1 rfl rfl)
theorem dX0_feed_2 : decode cX0_feed 2 = .ok (.iconst 4, 1) := dk_7 (dk_at dksX0_feed_0 2 rfl rfl)
theorem dX0_feed_3 : decode cX0_feed 3 = .ok (.invokestatic 9, 3) := dk_184 0 9 (dk_at dksX0_feed_0 3 rfl rfl)
theorem dX0_feed_6 : decode cX0_feed 6 = .ok (.ifCond .ne 9, 3) := dk_154 0 9 (dk_at dksX0_feed_0 6 rfl rfl)
theorem dX0_feed_9 : decode cX0_feed 9 = .ok (.aload_n 0, 1) := dk_42 (dk_at dksX0_feed_0 9 rfl rfl)
theorem dX0_feed_10 : decode cX0_feed 10 = .ok (.iconst 0, 1) := dk_3 (dk_at dksX0_feed_0 10 rfl rfl)
theorem dX0_feed_11 : decode cX0_feed 11 = .ok (.invokevirtual 124, 3) := dk_182 0 124 (dk_at dksX0_feed_0 11 rfl rfl)
theorem dX0_feed_14 : decode cX0_feed 14 = .ok (.ireturn, 1) := dk_172 (dk_at dksX0_feed_0 14 rfl rfl)
theorem dX0_feed_15 : decode cX0_feed 15 = .ok (.aload_n 0, 1) := dk_42 (dk_at dksX0_feed_0 15 rfl rfl)
theorem dX0_feed_16 : decode cX0_feed 16 = .ok (.getfield 346, 3) := dk_180 1 90 (dk_at dksX0_feed_0 16 rfl rfl)
theorem dX0_feed_19 : decode cX0_feed 19 = .ok (.iload_n 2, 1) := dk_28 (dk_at dksX0_feed_0 19 rfl rfl)
theorem dX0_feed_20 : decode cX0_feed 20 = .ok (.iadd, 1) := dk_96 (dk_at dksX0_feed_0 20 rfl rfl)
theorem dX0_feed_21 : decode cX0_feed 21 = .ok (.bipush 120, 2) := dk_16 120 (dk_at dksX0_feed_0 21 rfl rfl)
theorem dX0_feed_23 : decode cX0_feed 23 = .ok (.if_icmp .le 9, 3) := dk_164 0 9 (dk_at dksX0_feed_1 0 rfl rfl)
theorem dX0_feed_26 : decode cX0_feed 26 = .ok (.aload_n 0, 1) := dk_42 (dk_at dksX0_feed_1 3 rfl rfl)
theorem dX0_feed_27 : decode cX0_feed 27 = .ok (.iconst 1, 1) := dk_4 (dk_at dksX0_feed_1 4 rfl rfl)
theorem dX0_feed_28 : decode cX0_feed 28 = .ok (.invokevirtual 124, 3) := dk_182 0 124 (dk_at dksX0_feed_1 5 rfl rfl)
theorem dX0_feed_31 : decode cX0_feed 31 = .ok (.ireturn, 1) := dk_172 (dk_at dksX0_feed_1 8 rfl rfl)
theorem dX0_feed_32 : decode cX0_feed 32 = .ok (.iload_n 2, 1) := dk_28 (dk_at dksX0_feed_1 9 rfl rfl)
theorem dX0_feed_33 : decode cX0_feed 33 = .ok (.iconst 1, 1) := dk_4 (dk_at dksX0_feed_1 10 rfl rfl)
theorem dX0_feed_34 : decode cX0_feed 34 = .ok (.isub, 1) := dk_100 (dk_at dksX0_feed_1 11 rfl rfl)
theorem dX0_feed_35 : decode cX0_feed 35 = .ok (.istore_n 3, 1) := dk_62 (dk_at dksX0_feed_1 12 rfl rfl)
theorem dX0_feed_36 : decode cX0_feed 36 = .ok (.iload_n 3, 1) := dk_29 (dk_at dksX0_feed_1 13 rfl rfl)
theorem dX0_feed_37 : decode cX0_feed 37 = .ok (.ifCond .lt 38, 3) := dk_155 0 38 (dk_at dksX0_feed_1 14 rfl rfl)
theorem dX0_feed_40 : decode cX0_feed 40 = .ok (.aload_n 0, 1) := dk_42 (dk_at dksX0_feed_1 17 rfl rfl)
theorem dX0_feed_41 : decode cX0_feed 41 = .ok (.getfield 64, 3) := dk_180 0 64 (dk_at dksX0_feed_1 18 rfl rfl)
theorem dX0_feed_44 : decode cX0_feed 44 = .ok (.getfield 349, 3) := dk_180 1 93 (dk_at dksX0_feed_1 21 rfl rfl)
theorem dX0_feed_47 : decode cX0_feed 47 = .ok (.aload_n 0, 1) := dk_42 (dk_at dksX0_feed_2 0 rfl rfl)
theorem dX0_feed_48 : decode cX0_feed 48 = .ok (.getfield 346, 3) := dk_180 1 90 (dk_at dksX0_feed_2 1 rfl rfl)
theorem dX0_feed_51 : decode cX0_feed 51 = .ok (.iload_n 1, 1) := dk_27 (dk_at dksX0_feed_2 4 rfl rfl)
theorem dX0_feed_52 : decode cX0_feed 52 = .ok (.bipush 8, 2) := dk_16 8 (dk_at dksX0_feed_2 5 rfl rfl)
theorem dX0_feed_54 : decode cX0_feed 54 = .ok (.iload_n 3, 1) := dk_29 (dk_at dksX0_feed_2 7 rfl rfl)
theorem dX0_feed_55 : decode cX0_feed 55 = .ok (.imul, 1) := dk_104 (dk_at dksX0_feed_2 8 rfl rfl)
theorem dX0_feed_56 : decode cX0_feed 56 = .ok (.ishr, 1) := dk_122 (dk_at dksX0_feed_2 9 rfl rfl)
theorem dX0_feed_57 : decode cX0_feed 57 = .ok (.i2b, 1) := dk_145 (dk_at dksX0_feed_2 10 rfl rfl)
theorem dX0_feed_58 : decode cX0_feed 58 = .ok (.bastore, 1) := dk_84 (dk_at dksX0_feed_2 11 rfl rfl)
theorem dX0_feed_59 : decode cX0_feed 59 = .ok (.aload_n 0, 1) := dk_42 (dk_at dksX0_feed_2 12 rfl rfl)
theorem dX0_feed_60 : decode cX0_feed 60 = .ok (.dup, 1) := dk_89 (dk_at dksX0_feed_2 13 rfl rfl)
theorem dX0_feed_61 : decode cX0_feed 61 = .ok (.getfield 346, 3) := dk_180 1 90 (dk_at dksX0_feed_2 14 rfl rfl)
theorem dX0_feed_64 : decode cX0_feed 64 = .ok (.iconst 1, 1) := dk_4 (dk_at dksX0_feed_2 17 rfl rfl)
theorem dX0_feed_65 : decode cX0_feed 65 = .ok (.iadd, 1) := dk_96 (dk_at dksX0_feed_2 18 rfl rfl)
theorem dX0_feed_66 : decode cX0_feed 66 = .ok (.putfield 346, 3) := dk_181 1 90 (dk_at dksX0_feed_2 19 rfl rfl)
theorem dX0_feed_69 : decode cX0_feed 69 = .ok (.iinc 3 (-1), 3) := dk_132 3 255 (dk_at dksX0_feed_3 0 rfl rfl)
theorem dX0_feed_72 : decode cX0_feed 72 = .ok (.goto (-36), 3) := dk_167 255 220 (dk_at dksX0_feed_3 3 rfl rfl)
theorem dX0_feed_75 : decode cX0_feed 75 = .ok (.aload_n 0, 1) := dk_42 (dk_at dksX0_feed_3 6 rfl rfl)
theorem dX0_feed_76 : decode cX0_feed 76 = .ok (.getfield 346, 3) := dk_180 1 90 (dk_at dksX0_feed_3 7 rfl rfl)
theorem dX0_feed_79 : decode cX0_feed 79 = .ok (.ireturn, 1) := dk_172 (dk_at dksX0_feed_3 10 rfl rfl)
abbrev cX0_wipe : ByteArray := prog_1_method_81_code
def yX0_wipe : MethodName := ⟨RX0, "wipe", "()I"⟩
def dkwX0_wipe_0 : List UInt8 := [42, 180, 1, 90, 60, 42, 3, 181, 1, 90, 27, 172]
abbrev dktX0_wipe_0 : List UInt8 := dkwX0_wipe_0 ++ []
theorem dksX0_wipe_0 : cX0_wipe.data.toList.drop 0 = dktX0_wipe_0 := by decide +kernel
theorem dX0_wipe_0 : decode cX0_wipe 0 = .ok (.aload_n 0, 1) := dk_42 (dk_at dksX0_wipe_0 0 rfl rfl)
theorem dX0_wipe_1 : decode cX0_wipe 1 = .ok (.getfield 346, 3) := dk_180 1 90 (dk_at dksX0_wipe_0 1 rfl rfl)
theorem dX0_wipe_4 : decode cX0_wipe 4 = .ok (.istore_n 1, 1) := dk_60 (dk_at dksX0_wipe_0 4 rfl rfl)
theorem dX0_wipe_5 : decode cX0_wipe 5 = .ok (.aload_n 0, 1) := dk_42 (dk_at dksX0_wipe_0 5 rfl rfl)
theorem dX0_wipe_6 : decode cX0_wipe 6 = .ok (.iconst 0, 1) := dk_3 (dk_at dksX0_wipe_0 6 rfl rfl)
theorem dX0_wipe_7 : decode cX0_wipe 7 = .ok (.putfield 346, 3) := dk_181 1 90 (dk_at dksX0_wipe_0 7 rfl rfl)
theorem dX0_wipe_10 : decode cX0_wipe 10 = .ok (.iload_n 1, 1) := dk_27 (dk_at dksX0_wipe_0 10 rfl rfl)
theorem dX0_wipe_11 : decode cX0_wipe 11 = .ok (.ireturn, 1) := dk_172 (dk_at dksX0_wipe_0 11 rfl rfl)
abbrev cX0_text : ByteArray := prog_1_method_82_code
def yX0_text : MethodName := ⟨RX0, "text", "()I"⟩
def dkwX0_text_2 : List UInt8 := [180, 1, 99, 182, 0, 155, 27, 172, 76, 2, 42, 180, 0, 64, 180, 1, 107, 100, 172]
abbrev dktX0_text_2 : List UInt8 := dkwX0_text_2 ++ []
def dkwX0_text_1 : List UInt8 := [180, 0, 71, 182, 0, 155, 42, 180, 0, 64, 182, 1, 102, 60, 42, 180, 0, 71, 42, 180, 0, 64]
abbrev dktX0_text_1 : List UInt8 := dkwX0_text_1 ++ dktX0_text_2
def dkwX0_text_0 : List UInt8 := [42, 180, 0, 64, 42, 180, 1, 90, 181, 1, 97, 42, 3, 181, 1, 90, 42, 180, 0, 64, 180, 1, 99, 42]
abbrev dktX0_text_0 : List UInt8 := dkwX0_text_0 ++ dktX0_text_1
theorem dksX0_text_0 : cX0_text.data.toList.drop 0 = dktX0_text_0 := by decide +kernel
theorem dksX0_text_1 : cX0_text.data.toList.drop 24 = dktX0_text_1 := dk_seg dksX0_text_0 24 rfl rfl
theorem dksX0_text_2 : cX0_text.data.toList.drop 46 = dktX0_text_2 := dk_seg dksX0_text_1 22 rfl rfl
theorem dX0_text_0 : decode cX0_text 0 = .ok (.aload_n 0, 1) := dk_42 (dk_at dksX0_text_0 0 rfl rfl)
theorem dX0_text_1 : decode cX0_text 1 = .ok (.getfield 64, 3) := dk_180 0 64 (dk_at dksX0_text_0 1 rfl rfl)
theorem dX0_text_4 : decode cX0_text 4 = .ok (.aload_n 0, 1) := dk_42 (dk_at dksX0_text_0 4 rfl rfl)
theorem dX0_text_5 : decode cX0_text 5 = .ok (.getfield 346, 3) := dk_180 1 90 (dk_at dksX0_text_0 5 rfl rfl)
theorem dX0_text_8 : decode cX0_text 8 = .ok (.putfield 353, 3) := dk_181 1 97 (dk_at dksX0_text_0 8 rfl rfl)
theorem dX0_text_11 : decode cX0_text 11 = .ok (.aload_n 0, 1) := dk_42 (dk_at dksX0_text_0 11 rfl rfl)
theorem dX0_text_12 : decode cX0_text 12 = .ok (.iconst 0, 1) := dk_3 (dk_at dksX0_text_0 12 rfl rfl)
theorem dX0_text_13 : decode cX0_text 13 = .ok (.putfield 346, 3) := dk_181 1 90 (dk_at dksX0_text_0 13 rfl rfl)
theorem dX0_text_16 : decode cX0_text 16 = .ok (.aload_n 0, 1) := dk_42 (dk_at dksX0_text_0 16 rfl rfl)
theorem dX0_text_17 : decode cX0_text 17 = .ok (.getfield 64, 3) := dk_180 0 64 (dk_at dksX0_text_0 17 rfl rfl)
theorem dX0_text_20 : decode cX0_text 20 = .ok (.getfield 355, 3) := dk_180 1 99 (dk_at dksX0_text_0 20 rfl rfl)
theorem dX0_text_23 : decode cX0_text 23 = .ok (.aload_n 0, 1) := dk_42 (dk_at dksX0_text_0 23 rfl rfl)
theorem dX0_text_24 : decode cX0_text 24 = .ok (.getfield 71, 3) := dk_180 0 71 (dk_at dksX0_text_1 0 rfl rfl)
theorem dX0_text_27 : decode cX0_text 27 = .ok (.invokevirtual 155, 3) := dk_182 0 155 (dk_at dksX0_text_1 3 rfl rfl)
theorem dX0_text_30 : decode cX0_text 30 = .ok (.aload_n 0, 1) := dk_42 (dk_at dksX0_text_1 6 rfl rfl)
theorem dX0_text_31 : decode cX0_text 31 = .ok (.getfield 64, 3) := dk_180 0 64 (dk_at dksX0_text_1 7 rfl rfl)
theorem dX0_text_34 : decode cX0_text 34 = .ok (.invokevirtual 358, 3) := dk_182 1 102 (dk_at dksX0_text_1 10 rfl rfl)
theorem dX0_text_37 : decode cX0_text 37 = .ok (.istore_n 1, 1) := dk_60 (dk_at dksX0_text_1 13 rfl rfl)
theorem dX0_text_38 : decode cX0_text 38 = .ok (.aload_n 0, 1) := dk_42 (dk_at dksX0_text_1 14 rfl rfl)
theorem dX0_text_39 : decode cX0_text 39 = .ok (.getfield 71, 3) := dk_180 0 71 (dk_at dksX0_text_1 15 rfl rfl)
theorem dX0_text_42 : decode cX0_text 42 = .ok (.aload_n 0, 1) := dk_42 (dk_at dksX0_text_1 18 rfl rfl)
theorem dX0_text_43 : decode cX0_text 43 = .ok (.getfield 64, 3) := dk_180 0 64 (dk_at dksX0_text_1 19 rfl rfl)
theorem dX0_text_46 : decode cX0_text 46 = .ok (.getfield 355, 3) := dk_180 1 99 (dk_at dksX0_text_2 0 rfl rfl)
theorem dX0_text_49 : decode cX0_text 49 = .ok (.invokevirtual 155, 3) := dk_182 0 155 (dk_at dksX0_text_2 3 rfl rfl)
theorem dX0_text_52 : decode cX0_text 52 = .ok (.iload_n 1, 1) := dk_27 (dk_at dksX0_text_2 6 rfl rfl)
theorem dX0_text_53 : decode cX0_text 53 = .ok (.ireturn, 1) := dk_172 (dk_at dksX0_text_2 7 rfl rfl)
theorem dX0_text_54 : decode cX0_text 54 = .ok (.astore_n 1, 1) := dk_76 (dk_at dksX0_text_2 8 rfl rfl)
theorem dX0_text_55 : decode cX0_text 55 = .ok (.iconst (-1), 1) := dk_2 (dk_at dksX0_text_2 9 rfl rfl)
theorem dX0_text_56 : decode cX0_text 56 = .ok (.aload_n 0, 1) := dk_42 (dk_at dksX0_text_2 10 rfl rfl)
theorem dX0_text_57 : decode cX0_text 57 = .ok (.getfield 64, 3) := dk_180 0 64 (dk_at dksX0_text_2 11 rfl rfl)
theorem dX0_text_60 : decode cX0_text 60 = .ok (.getfield 363, 3) := dk_180 1 107 (dk_at dksX0_text_2 14 rfl rfl)
theorem dX0_text_63 : decode cX0_text 63 = .ok (.isub, 1) := dk_100 (dk_at dksX0_text_2 17 rfl rfl)
theorem dX0_text_64 : decode cX0_text 64 = .ok (.ireturn, 1) := dk_172 (dk_at dksX0_text_2 18 rfl rfl)
abbrev cX0_hold : ByteArray := prog_1_method_85_code
def yX0_hold : MethodName := ⟨RX0, "hold", "(II)I"⟩
def dkwX0_hold_1 : List UInt8 := [182, 0, 124, 172, 42, 180, 0, 71, 180, 1, 110, 27, 28, 79, 4, 172]
abbrev dktX0_hold_1 : List UInt8 := dkwX0_hold_1 ++ []
def dkwX0_hold_0 : List UInt8 := [27, 184, 1, 113, 153, 0, 16, 28, 2, 159, 0, 17, 42, 28, 182, 0, 198, 154, 0, 9, 42, 3]
abbrev dktX0_hold_0 : List UInt8 := dkwX0_hold_0 ++ dktX0_hold_1
theorem dksX0_hold_0 : cX0_hold.data.toList.drop 0 = dktX0_hold_0 := by decide +kernel
theorem dksX0_hold_1 : cX0_hold.data.toList.drop 22 = dktX0_hold_1 := dk_seg dksX0_hold_0 22 rfl rfl
theorem dX0_hold_0 : decode cX0_hold 0 = .ok (.iload_n 1, 1) := dk_27 (dk_at dksX0_hold_0 0 rfl rfl)
theorem dX0_hold_1 : decode cX0_hold 1 = .ok (.invokestatic 369, 3) := dk_184 1 113 (dk_at dksX0_hold_0 1 rfl rfl)
theorem dX0_hold_4 : decode cX0_hold 4 = .ok (.ifCond .eq 16, 3) := dk_153 0 16 (dk_at dksX0_hold_0 4 rfl rfl)
theorem dX0_hold_7 : decode cX0_hold 7 = .ok (.iload_n 2, 1) := dk_28 (dk_at dksX0_hold_0 7 rfl rfl)
theorem dX0_hold_8 : decode cX0_hold 8 = .ok (.iconst (-1), 1) := dk_2 (dk_at dksX0_hold_0 8 rfl rfl)
theorem dX0_hold_9 : decode cX0_hold 9 = .ok (.if_icmp .eq 17, 3) := dk_159 0 17 (dk_at dksX0_hold_0 9 rfl rfl)
theorem dX0_hold_12 : decode cX0_hold 12 = .ok (.aload_n 0, 1) := dk_42 (dk_at dksX0_hold_0 12 rfl rfl)
theorem dX0_hold_13 : decode cX0_hold 13 = .ok (.iload_n 2, 1) := dk_28 (dk_at dksX0_hold_0 13 rfl rfl)
theorem dX0_hold_14 : decode cX0_hold 14 = .ok (.invokevirtual 198, 3) := dk_182 0 198 (dk_at dksX0_hold_0 14 rfl rfl)
theorem dX0_hold_17 : decode cX0_hold 17 = .ok (.ifCond .ne 9, 3) := dk_154 0 9 (dk_at dksX0_hold_0 17 rfl rfl)
theorem dX0_hold_20 : decode cX0_hold 20 = .ok (.aload_n 0, 1) := dk_42 (dk_at dksX0_hold_0 20 rfl rfl)
theorem dX0_hold_21 : decode cX0_hold 21 = .ok (.iconst 0, 1) := dk_3 (dk_at dksX0_hold_0 21 rfl rfl)
theorem dX0_hold_22 : decode cX0_hold 22 = .ok (.invokevirtual 124, 3) := dk_182 0 124 (dk_at dksX0_hold_1 0 rfl rfl)
theorem dX0_hold_25 : decode cX0_hold 25 = .ok (.ireturn, 1) := dk_172 (dk_at dksX0_hold_1 3 rfl rfl)
theorem dX0_hold_26 : decode cX0_hold 26 = .ok (.aload_n 0, 1) := dk_42 (dk_at dksX0_hold_1 4 rfl rfl)
theorem dX0_hold_27 : decode cX0_hold 27 = .ok (.getfield 71, 3) := dk_180 0 71 (dk_at dksX0_hold_1 5 rfl rfl)
theorem dX0_hold_30 : decode cX0_hold 30 = .ok (.getfield 366, 3) := dk_180 1 110 (dk_at dksX0_hold_1 8 rfl rfl)
theorem dX0_hold_33 : decode cX0_hold 33 = .ok (.iload_n 1, 1) := dk_27 (dk_at dksX0_hold_1 11 rfl rfl)
theorem dX0_hold_34 : decode cX0_hold 34 = .ok (.iload_n 2, 1) := dk_28 (dk_at dksX0_hold_1 12 rfl rfl)
theorem dX0_hold_35 : decode cX0_hold 35 = .ok (.iastore, 1) := dk_79 (dk_at dksX0_hold_1 13 rfl rfl)
theorem dX0_hold_36 : decode cX0_hold 36 = .ok (.iconst 1, 1) := dk_4 (dk_at dksX0_hold_1 14 rfl rfl)
theorem dX0_hold_37 : decode cX0_hold 37 = .ok (.ireturn, 1) := dk_172 (dk_at dksX0_hold_1 15 rfl rfl)
abbrev cX0_isSpot : ByteArray := prog_1_method_5_code
def yX0_isSpot : MethodName := ⟨RX0, "isSpot", "(I)Z"⟩
def dkwX0_isSpot_0 : List UInt8 := [26, 3, 16, 9, 184, 0, 9, 172]
abbrev dktX0_isSpot_0 : List UInt8 := dkwX0_isSpot_0 ++ []
theorem dksX0_isSpot_0 : cX0_isSpot.data.toList.drop 0 = dktX0_isSpot_0 := by decide +kernel
theorem dX0_isSpot_0 : decode cX0_isSpot 0 = .ok (.iload_n 0, 1) := dk_26 (dk_at dksX0_isSpot_0 0 rfl rfl)
theorem dX0_isSpot_1 : decode cX0_isSpot 1 = .ok (.iconst 0, 1) := dk_3 (dk_at dksX0_isSpot_0 1 rfl rfl)
theorem dX0_isSpot_2 : decode cX0_isSpot 2 = .ok (.bipush 9, 2) := dk_16 9 (dk_at dksX0_isSpot_0 2 rfl rfl)
theorem dX0_isSpot_4 : decode cX0_isSpot 4 = .ok (.invokestatic 9, 3) := dk_184 0 9 (dk_at dksX0_isSpot_0 4 rfl rfl)
theorem dX0_isSpot_7 : decode cX0_isSpot 7 = .ok (.ireturn, 1) := dk_172 (dk_at dksX0_isSpot_0 7 rfl rfl)
abbrev cX0_as : ByteArray := prog_1_method_87_code
def yX0_as : MethodName := ⟨RX0, "as", "(II)I"⟩
def dkwX0_as_3 : List UInt8 := [184, 1, 122, 180, 1, 126, 167, 0, 8, 42, 5, 182, 0, 124, 172]
abbrev dktX0_as_3 : List UInt8 := dkwX0_as_3 ++ []
def dkwX0_as_2 : List UInt8 := [192, 0, 46, 28, 182, 1, 119, 153, 0, 7, 4, 167, 0, 4, 3, 54, 4, 21, 4, 153, 0, 14, 45, 28]
abbrev dktX0_as_2 : List UInt8 := dkwX0_as_2 ++ dktX0_as_3
def dkwX0_as_1 : List UInt8 := [182, 1, 116, 78, 45, 199, 0, 9, 42, 8, 182, 0, 124, 172, 45, 193, 0, 46, 153, 0, 18, 45]
abbrev dktX0_as_1 : List UInt8 := dkwX0_as_1 ++ dktX0_as_2
def dkwX0_as_0 : List UInt8 := [27, 184, 1, 113, 153, 0, 10, 28, 184, 0, 13, 154, 0, 9, 42, 3, 182, 0, 124, 172, 42, 27]
abbrev dktX0_as_0 : List UInt8 := dkwX0_as_0 ++ dktX0_as_1
theorem dksX0_as_0 : cX0_as.data.toList.drop 0 = dktX0_as_0 := by decide +kernel
theorem dksX0_as_1 : cX0_as.data.toList.drop 22 = dktX0_as_1 := dk_seg dksX0_as_0 22 rfl rfl
theorem dksX0_as_2 : cX0_as.data.toList.drop 44 = dktX0_as_2 := dk_seg dksX0_as_1 22 rfl rfl
theorem dksX0_as_3 : cX0_as.data.toList.drop 68 = dktX0_as_3 := dk_seg dksX0_as_2 24 rfl rfl
theorem dX0_as_0 : decode cX0_as 0 = .ok (.iload_n 1, 1) := dk_27 (dk_at dksX0_as_0 0 rfl rfl)
theorem dX0_as_1 : decode cX0_as 1 = .ok (.invokestatic 369, 3) := dk_184 1 113 (dk_at dksX0_as_0 1 rfl rfl)
theorem dX0_as_4 : decode cX0_as 4 = .ok (.ifCond .eq 10, 3) := dk_153 0 10 (dk_at dksX0_as_0 4 rfl rfl)
theorem dX0_as_7 : decode cX0_as 7 = .ok (.iload_n 2, 1) := dk_28 (dk_at dksX0_as_0 7 rfl rfl)
theorem dX0_as_8 : decode cX0_as 8 = .ok (.invokestatic 13, 3) := dk_184 0 13 (dk_at dksX0_as_0 8 rfl rfl)
theorem dX0_as_11 : decode cX0_as 11 = .ok (.ifCond .ne 9, 3) := dk_154 0 9 (dk_at dksX0_as_0 11 rfl rfl)
theorem dX0_as_14 : decode cX0_as 14 = .ok (.aload_n 0, 1) := dk_42 (dk_at dksX0_as_0 14 rfl rfl)
theorem dX0_as_15 : decode cX0_as 15 = .ok (.iconst 0, 1) := dk_3 (dk_at dksX0_as_0 15 rfl rfl)
theorem dX0_as_16 : decode cX0_as 16 = .ok (.invokevirtual 124, 3) := dk_182 0 124 (dk_at dksX0_as_0 16 rfl rfl)
theorem dX0_as_19 : decode cX0_as 19 = .ok (.ireturn, 1) := dk_172 (dk_at dksX0_as_0 19 rfl rfl)
theorem dX0_as_20 : decode cX0_as 20 = .ok (.aload_n 0, 1) := dk_42 (dk_at dksX0_as_0 20 rfl rfl)
theorem dX0_as_21 : decode cX0_as 21 = .ok (.iload_n 1, 1) := dk_27 (dk_at dksX0_as_0 21 rfl rfl)
theorem dX0_as_22 : decode cX0_as 22 = .ok (.invokevirtual 372, 3) := dk_182 1 116 (dk_at dksX0_as_1 0 rfl rfl)
theorem dX0_as_25 : decode cX0_as 25 = .ok (.astore_n 3, 1) := dk_78 (dk_at dksX0_as_1 3 rfl rfl)
theorem dX0_as_26 : decode cX0_as 26 = .ok (.aload_n 3, 1) := dk_45 (dk_at dksX0_as_1 4 rfl rfl)
theorem dX0_as_27 : decode cX0_as 27 = .ok (.ifnonnull 9, 3) := dk_199 0 9 (dk_at dksX0_as_1 5 rfl rfl)
theorem dX0_as_30 : decode cX0_as 30 = .ok (.aload_n 0, 1) := dk_42 (dk_at dksX0_as_1 8 rfl rfl)
theorem dX0_as_31 : decode cX0_as 31 = .ok (.iconst 5, 1) := dk_8 (dk_at dksX0_as_1 9 rfl rfl)
theorem dX0_as_32 : decode cX0_as 32 = .ok (.invokevirtual 124, 3) := dk_182 0 124 (dk_at dksX0_as_1 10 rfl rfl)
theorem dX0_as_35 : decode cX0_as 35 = .ok (.ireturn, 1) := dk_172 (dk_at dksX0_as_1 13 rfl rfl)
theorem dX0_as_36 : decode cX0_as 36 = .ok (.aload_n 3, 1) := dk_45 (dk_at dksX0_as_1 14 rfl rfl)
theorem dX0_as_37 : decode cX0_as 37 = .ok (.instanceof 46, 3) := dk_193 0 46 (dk_at dksX0_as_1 15 rfl rfl)
theorem dX0_as_40 : decode cX0_as 40 = .ok (.ifCond .eq 18, 3) := dk_153 0 18 (dk_at dksX0_as_1 18 rfl rfl)
theorem dX0_as_43 : decode cX0_as 43 = .ok (.aload_n 3, 1) := dk_45 (dk_at dksX0_as_1 21 rfl rfl)
theorem dX0_as_44 : decode cX0_as 44 = .ok (.checkcast 46, 3) := dk_192 0 46 (dk_at dksX0_as_2 0 rfl rfl)
theorem dX0_as_47 : decode cX0_as 47 = .ok (.iload_n 2, 1) := dk_28 (dk_at dksX0_as_2 3 rfl rfl)
theorem dX0_as_48 : decode cX0_as 48 = .ok (.invokevirtual 375, 3) := dk_182 1 119 (dk_at dksX0_as_2 4 rfl rfl)
theorem dX0_as_51 : decode cX0_as 51 = .ok (.ifCond .eq 7, 3) := dk_153 0 7 (dk_at dksX0_as_2 7 rfl rfl)
theorem dX0_as_54 : decode cX0_as 54 = .ok (.iconst 1, 1) := dk_4 (dk_at dksX0_as_2 10 rfl rfl)
theorem dX0_as_55 : decode cX0_as 55 = .ok (.goto 4, 3) := dk_167 0 4 (dk_at dksX0_as_2 11 rfl rfl)
theorem dX0_as_58 : decode cX0_as 58 = .ok (.iconst 0, 1) := dk_3 (dk_at dksX0_as_2 14 rfl rfl)
theorem dX0_as_59 : decode cX0_as 59 = .ok (.istore 4, 2) := dk_54 4 (dk_at dksX0_as_2 15 rfl rfl)
theorem dX0_as_61 : decode cX0_as 61 = .ok (.iload 4, 2) := dk_21 4 (dk_at dksX0_as_2 17 rfl rfl)
theorem dX0_as_63 : decode cX0_as 63 = .ok (.ifCond .eq 14, 3) := dk_153 0 14 (dk_at dksX0_as_2 19 rfl rfl)
theorem dX0_as_66 : decode cX0_as 66 = .ok (.aload_n 3, 1) := dk_45 (dk_at dksX0_as_2 22 rfl rfl)
theorem dX0_as_67 : decode cX0_as 67 = .ok (.iload_n 2, 1) := dk_28 (dk_at dksX0_as_2 23 rfl rfl)
theorem dX0_as_68 : decode cX0_as 68 = .ok (.invokestatic 378, 3) := dk_184 1 122 (dk_at dksX0_as_3 0 rfl rfl)
theorem dX0_as_71 : decode cX0_as 71 = .ok (.getfield 382, 3) := dk_180 1 126 (dk_at dksX0_as_3 3 rfl rfl)
theorem dX0_as_74 : decode cX0_as 74 = .ok (.goto 8, 3) := dk_167 0 8 (dk_at dksX0_as_3 6 rfl rfl)
theorem dX0_as_77 : decode cX0_as 77 = .ok (.aload_n 0, 1) := dk_42 (dk_at dksX0_as_3 9 rfl rfl)
theorem dX0_as_78 : decode cX0_as 78 = .ok (.iconst 2, 1) := dk_5 (dk_at dksX0_as_3 10 rfl rfl)
theorem dX0_as_79 : decode cX0_as 79 = .ok (.invokevirtual 124, 3) := dk_182 0 124 (dk_at dksX0_as_3 11 rfl rfl)
theorem dX0_as_82 : decode cX0_as 82 = .ok (.ireturn, 1) := dk_172 (dk_at dksX0_as_3 14 rfl rfl)
abbrev cX0_thingAt : ByteArray := prog_1_method_83_code
def yX0_thingAt : MethodName := ⟨RX0, "thingAt", "(I)Ljava/lang/Object;"⟩
def dkwX0_thingAt_1 : List UInt8 := [167, 0, 8, 42, 28, 182, 0, 129, 181, 0, 105, 42, 180, 0, 90, 27, 50, 180, 0, 105, 176]
abbrev dktX0_thingAt_1 : List UInt8 := dkwX0_thingAt_1 ++ []
def dkwX0_thingAt_0 : List UInt8 := [42, 180, 0, 71, 180, 1, 110, 27, 46, 61, 42, 180, 0, 90, 27, 50, 28, 2, 160, 0, 7, 1]
abbrev dktX0_thingAt_0 : List UInt8 := dkwX0_thingAt_0 ++ dktX0_thingAt_1
theorem dksX0_thingAt_0 : cX0_thingAt.data.toList.drop 0 = dktX0_thingAt_0 := by decide +kernel
theorem dksX0_thingAt_1 : cX0_thingAt.data.toList.drop 22 = dktX0_thingAt_1 := dk_seg dksX0_thingAt_0 22 rfl rfl
theorem dX0_thingAt_0 : decode cX0_thingAt 0 = .ok (.aload_n 0, 1) := dk_42 (dk_at dksX0_thingAt_0 0 rfl rfl)
theorem dX0_thingAt_1 : decode cX0_thingAt 1 = .ok (.getfield 71, 3) := dk_180 0 71 (dk_at dksX0_thingAt_0 1 rfl rfl)
theorem dX0_thingAt_4 : decode cX0_thingAt 4 = .ok (.getfield 366, 3) := dk_180 1 110 (dk_at dksX0_thingAt_0 4 rfl rfl)
theorem dX0_thingAt_7 : decode cX0_thingAt 7 = .ok (.iload_n 1, 1) := dk_27 (dk_at dksX0_thingAt_0 7 rfl rfl)
theorem dX0_thingAt_8 : decode cX0_thingAt 8 = .ok (.iaload, 1) := dk_46 (dk_at dksX0_thingAt_0 8 rfl rfl)
theorem dX0_thingAt_9 : decode cX0_thingAt 9 = .ok (.istore_n 2, 1) := dk_61 (dk_at dksX0_thingAt_0 9 rfl rfl)
theorem dX0_thingAt_10 : decode cX0_thingAt 10 = .ok (.aload_n 0, 1) := dk_42 (dk_at dksX0_thingAt_0 10 rfl rfl)
theorem dX0_thingAt_11 : decode cX0_thingAt 11 = .ok (.getfield 90, 3) := dk_180 0 90 (dk_at dksX0_thingAt_0 11 rfl rfl)
theorem dX0_thingAt_14 : decode cX0_thingAt 14 = .ok (.iload_n 1, 1) := dk_27 (dk_at dksX0_thingAt_0 14 rfl rfl)
theorem dX0_thingAt_15 : decode cX0_thingAt 15 = .ok (.aaload, 1) := dk_50 (dk_at dksX0_thingAt_0 15 rfl rfl)
theorem dX0_thingAt_16 : decode cX0_thingAt 16 = .ok (.iload_n 2, 1) := dk_28 (dk_at dksX0_thingAt_0 16 rfl rfl)
theorem dX0_thingAt_17 : decode cX0_thingAt 17 = .ok (.iconst (-1), 1) := dk_2 (dk_at dksX0_thingAt_0 17 rfl rfl)
theorem dX0_thingAt_18 : decode cX0_thingAt 18 = .ok (.if_icmp .ne 7, 3) := dk_160 0 7 (dk_at dksX0_thingAt_0 18 rfl rfl)
theorem dX0_thingAt_21 : decode cX0_thingAt 21 = .ok (.aconst_null, 1) := dk_1 (dk_at dksX0_thingAt_0 21 rfl rfl)
theorem dX0_thingAt_22 : decode cX0_thingAt 22 = .ok (.goto 8, 3) := dk_167 0 8 (dk_at dksX0_thingAt_1 0 rfl rfl)
theorem dX0_thingAt_25 : decode cX0_thingAt 25 = .ok (.aload_n 0, 1) := dk_42 (dk_at dksX0_thingAt_1 3 rfl rfl)
theorem dX0_thingAt_26 : decode cX0_thingAt 26 = .ok (.iload_n 2, 1) := dk_28 (dk_at dksX0_thingAt_1 4 rfl rfl)
theorem dX0_thingAt_27 : decode cX0_thingAt 27 = .ok (.invokevirtual 129, 3) := dk_182 0 129 (dk_at dksX0_thingAt_1 5 rfl rfl)
theorem dX0_thingAt_30 : decode cX0_thingAt 30 = .ok (.putfield 105, 3) := dk_181 0 105 (dk_at dksX0_thingAt_1 8 rfl rfl)
theorem dX0_thingAt_33 : decode cX0_thingAt 33 = .ok (.aload_n 0, 1) := dk_42 (dk_at dksX0_thingAt_1 11 rfl rfl)
theorem dX0_thingAt_34 : decode cX0_thingAt 34 = .ok (.getfield 90, 3) := dk_180 0 90 (dk_at dksX0_thingAt_1 12 rfl rfl)
theorem dX0_thingAt_37 : decode cX0_thingAt 37 = .ok (.iload_n 1, 1) := dk_27 (dk_at dksX0_thingAt_1 15 rfl rfl)
theorem dX0_thingAt_38 : decode cX0_thingAt 38 = .ok (.aaload, 1) := dk_50 (dk_at dksX0_thingAt_1 16 rfl rfl)
theorem dX0_thingAt_39 : decode cX0_thingAt 39 = .ok (.getfield 105, 3) := dk_180 0 105 (dk_at dksX0_thingAt_1 17 rfl rfl)
theorem dX0_thingAt_42 : decode cX0_thingAt 42 = .ok (.areturn, 1) := dk_176 (dk_at dksX0_thingAt_1 20 rfl rfl)
abbrev cX0_cast : ByteArray := prog_1_method_86_code
def yX0_cast : MethodName := ⟨RX0, "cast", "(Ljava/lang/Object;I)LOwlEars$Strike;"⟩
def dkwX0_cast_3 : List UInt8 := [176, 42, 192, 0, 43, 176, 42, 192, 0, 46, 176]
abbrev dktX0_cast_3 : List UInt8 := dkwX0_cast_3 ++ []
def dkwX0_cast_2 : List UInt8 := [42, 192, 0, 25, 176, 42, 192, 0, 31, 176, 42, 192, 0, 34, 176, 42, 192, 0, 37, 176, 42, 192, 0, 40]
abbrev dktX0_cast_2 : List UInt8 := dkwX0_cast_2 ++ dktX0_cast_3
def dkwX0_cast_1 : List UInt8 := [170, 0, 0, 0, 0, 0, 69, 0, 0, 0, 1, 0, 0, 0, 6, 0, 0, 0, 39, 0, 0, 0, 44, 0, 0, 0, 49, 0, 0, 0, 54, 0, 0, 0, 59, 0, 0, 0, 64]
abbrev dktX0_cast_1 : List UInt8 := dkwX0_cast_1 ++ dktX0_cast_2
def dkwX0_cast_0 : List UInt8 := [27]
abbrev dktX0_cast_0 : List UInt8 := dkwX0_cast_0 ++ dktX0_cast_1
theorem dksX0_cast_0 : cX0_cast.data.toList.drop 0 = dktX0_cast_0 := by decide +kernel
theorem dksX0_cast_1 : cX0_cast.data.toList.drop 1 = dktX0_cast_1 := dk_seg dksX0_cast_0 1 rfl rfl
theorem dksX0_cast_2 : cX0_cast.data.toList.drop 40 = dktX0_cast_2 := dk_seg dksX0_cast_1 39 rfl rfl
theorem dksX0_cast_3 : cX0_cast.data.toList.drop 64 = dktX0_cast_3 := dk_seg dksX0_cast_2 24 rfl rfl
theorem dX0_cast_0 : decode cX0_cast 0 = .ok (.iload_n 1, 1) := dk_27 (dk_at dksX0_cast_0 0 rfl rfl)
theorem dX0_cast_1 : decode cX0_cast 1 = .ok (.tableswitch 69 1 6 #[39, 44, 49, 54, 59, 64], 39) := by decide +kernel
theorem dX0_cast_40 : decode cX0_cast 40 = .ok (.aload_n 0, 1) := dk_42 (dk_at dksX0_cast_2 0 rfl rfl)
theorem dX0_cast_41 : decode cX0_cast 41 = .ok (.checkcast 25, 3) := dk_192 0 25 (dk_at dksX0_cast_2 1 rfl rfl)
theorem dX0_cast_44 : decode cX0_cast 44 = .ok (.areturn, 1) := dk_176 (dk_at dksX0_cast_2 4 rfl rfl)
theorem dX0_cast_45 : decode cX0_cast 45 = .ok (.aload_n 0, 1) := dk_42 (dk_at dksX0_cast_2 5 rfl rfl)
theorem dX0_cast_46 : decode cX0_cast 46 = .ok (.checkcast 31, 3) := dk_192 0 31 (dk_at dksX0_cast_2 6 rfl rfl)
theorem dX0_cast_49 : decode cX0_cast 49 = .ok (.areturn, 1) := dk_176 (dk_at dksX0_cast_2 9 rfl rfl)
theorem dX0_cast_50 : decode cX0_cast 50 = .ok (.aload_n 0, 1) := dk_42 (dk_at dksX0_cast_2 10 rfl rfl)
theorem dX0_cast_51 : decode cX0_cast 51 = .ok (.checkcast 34, 3) := dk_192 0 34 (dk_at dksX0_cast_2 11 rfl rfl)
theorem dX0_cast_54 : decode cX0_cast 54 = .ok (.areturn, 1) := dk_176 (dk_at dksX0_cast_2 14 rfl rfl)
theorem dX0_cast_55 : decode cX0_cast 55 = .ok (.aload_n 0, 1) := dk_42 (dk_at dksX0_cast_2 15 rfl rfl)
theorem dX0_cast_56 : decode cX0_cast 56 = .ok (.checkcast 37, 3) := dk_192 0 37 (dk_at dksX0_cast_2 16 rfl rfl)
theorem dX0_cast_59 : decode cX0_cast 59 = .ok (.areturn, 1) := dk_176 (dk_at dksX0_cast_2 19 rfl rfl)
theorem dX0_cast_60 : decode cX0_cast 60 = .ok (.aload_n 0, 1) := dk_42 (dk_at dksX0_cast_2 20 rfl rfl)
theorem dX0_cast_61 : decode cX0_cast 61 = .ok (.checkcast 40, 3) := dk_192 0 40 (dk_at dksX0_cast_2 21 rfl rfl)
theorem dX0_cast_64 : decode cX0_cast 64 = .ok (.areturn, 1) := dk_176 (dk_at dksX0_cast_3 0 rfl rfl)
theorem dX0_cast_65 : decode cX0_cast 65 = .ok (.aload_n 0, 1) := dk_42 (dk_at dksX0_cast_3 1 rfl rfl)
theorem dX0_cast_66 : decode cX0_cast 66 = .ok (.checkcast 43, 3) := dk_192 0 43 (dk_at dksX0_cast_3 2 rfl rfl)
theorem dX0_cast_69 : decode cX0_cast 69 = .ok (.areturn, 1) := dk_176 (dk_at dksX0_cast_3 5 rfl rfl)
theorem dX0_cast_70 : decode cX0_cast 70 = .ok (.aload_n 0, 1) := dk_42 (dk_at dksX0_cast_3 6 rfl rfl)
theorem dX0_cast_71 : decode cX0_cast 71 = .ok (.checkcast 46, 3) := dk_192 0 46 (dk_at dksX0_cast_3 7 rfl rfl)
theorem dX0_cast_74 : decode cX0_cast 74 = .ok (.areturn, 1) := dk_176 (dk_at dksX0_cast_3 10 rfl rfl)
abbrev cX0_sheet : ByteArray := prog_1_method_88_code
def yX0_sheet : MethodName := ⟨RX0, "sheet", "(III)I"⟩
def dkwX0_sheet_4 : List UInt8 := [167, 0, 6, 29, 188, 10, 181, 0, 105, 28, 154, 0, 7, 3, 167, 0, 4, 29, 172]
abbrev dktX0_sheet_4 : List UInt8 := dkwX0_sheet_4 ++ []
def dkwX0_sheet_3 : List UInt8 := [167, 0, 30, 28, 16, 8, 160, 0, 9, 29, 188, 8, 167, 0, 18, 28, 16, 16, 160, 0, 9, 29, 188, 9]
abbrev dktX0_sheet_3 : List UInt8 := dkwX0_sheet_3 ++ dktX0_sheet_4
def dkwX0_sheet_2 : List UInt8 := [156, 0, 8, 16, 6, 167, 0, 4, 3, 182, 0, 124, 172, 42, 180, 0, 93, 27, 50, 28, 154, 0, 7, 1]
abbrev dktX0_sheet_2 : List UInt8 := dkwX0_sheet_2 ++ dktX0_sheet_3
def dkwX0_sheet_1 : List UInt8 := [16, 32, 159, 0, 9, 42, 3, 182, 0, 124, 172, 29, 155, 0, 9, 29, 16, 40, 164, 0, 18, 42, 29]
abbrev dktX0_sheet_1 : List UInt8 := dkwX0_sheet_1 ++ dktX0_sheet_2
def dkwX0_sheet_0 : List UInt8 := [27, 184, 1, 128, 153, 0, 25, 28, 153, 0, 27, 28, 16, 8, 159, 0, 21, 28, 16, 16, 159, 0, 15, 28]
abbrev dktX0_sheet_0 : List UInt8 := dkwX0_sheet_0 ++ dktX0_sheet_1
theorem dksX0_sheet_0 : cX0_sheet.data.toList.drop 0 = dktX0_sheet_0 := by decide +kernel
theorem dksX0_sheet_1 : cX0_sheet.data.toList.drop 24 = dktX0_sheet_1 := dk_seg dksX0_sheet_0 24 rfl rfl
theorem dksX0_sheet_2 : cX0_sheet.data.toList.drop 47 = dktX0_sheet_2 := dk_seg dksX0_sheet_1 23 rfl rfl
theorem dksX0_sheet_3 : cX0_sheet.data.toList.drop 71 = dktX0_sheet_3 := dk_seg dksX0_sheet_2 24 rfl rfl
theorem dksX0_sheet_4 : cX0_sheet.data.toList.drop 95 = dktX0_sheet_4 := dk_seg dksX0_sheet_3 24 rfl rfl
theorem dX0_sheet_0 : decode cX0_sheet 0 = .ok (.iload_n 1, 1) := dk_27 (dk_at dksX0_sheet_0 0 rfl rfl)
theorem dX0_sheet_1 : decode cX0_sheet 1 = .ok (.invokestatic 384, 3) := dk_184 1 128 (dk_at dksX0_sheet_0 1 rfl rfl)
theorem dX0_sheet_4 : decode cX0_sheet 4 = .ok (.ifCond .eq 25, 3) := dk_153 0 25 (dk_at dksX0_sheet_0 4 rfl rfl)
theorem dX0_sheet_7 : decode cX0_sheet 7 = .ok (.iload_n 2, 1) := dk_28 (dk_at dksX0_sheet_0 7 rfl rfl)
theorem dX0_sheet_8 : decode cX0_sheet 8 = .ok (.ifCond .eq 27, 3) := dk_153 0 27 (dk_at dksX0_sheet_0 8 rfl rfl)
theorem dX0_sheet_11 : decode cX0_sheet 11 = .ok (.iload_n 2, 1) := dk_28 (dk_at dksX0_sheet_0 11 rfl rfl)
theorem dX0_sheet_12 : decode cX0_sheet 12 = .ok (.bipush 8, 2) := dk_16 8 (dk_at dksX0_sheet_0 12 rfl rfl)
theorem dX0_sheet_14 : decode cX0_sheet 14 = .ok (.if_icmp .eq 21, 3) := dk_159 0 21 (dk_at dksX0_sheet_0 14 rfl rfl)
theorem dX0_sheet_17 : decode cX0_sheet 17 = .ok (.iload_n 2, 1) := dk_28 (dk_at dksX0_sheet_0 17 rfl rfl)
theorem dX0_sheet_18 : decode cX0_sheet 18 = .ok (.bipush 16, 2) := dk_16 16 (dk_at dksX0_sheet_0 18 rfl rfl)
theorem dX0_sheet_20 : decode cX0_sheet 20 = .ok (.if_icmp .eq 15, 3) := dk_159 0 15 (dk_at dksX0_sheet_0 20 rfl rfl)
theorem dX0_sheet_23 : decode cX0_sheet 23 = .ok (.iload_n 2, 1) := dk_28 (dk_at dksX0_sheet_0 23 rfl rfl)
theorem dX0_sheet_24 : decode cX0_sheet 24 = .ok (.bipush 32, 2) := dk_16 32 (dk_at dksX0_sheet_1 0 rfl rfl)
theorem dX0_sheet_26 : decode cX0_sheet 26 = .ok (.if_icmp .eq 9, 3) := dk_159 0 9 (dk_at dksX0_sheet_1 2 rfl rfl)
theorem dX0_sheet_29 : decode cX0_sheet 29 = .ok (.aload_n 0, 1) := dk_42 (dk_at dksX0_sheet_1 5 rfl rfl)
theorem dX0_sheet_30 : decode cX0_sheet 30 = .ok (.iconst 0, 1) := dk_3 (dk_at dksX0_sheet_1 6 rfl rfl)
theorem dX0_sheet_31 : decode cX0_sheet 31 = .ok (.invokevirtual 124, 3) := dk_182 0 124 (dk_at dksX0_sheet_1 7 rfl rfl)
theorem dX0_sheet_34 : decode cX0_sheet 34 = .ok (.ireturn, 1) := dk_172 (dk_at dksX0_sheet_1 10 rfl rfl)
theorem dX0_sheet_35 : decode cX0_sheet 35 = .ok (.iload_n 3, 1) := dk_29 (dk_at dksX0_sheet_1 11 rfl rfl)
theorem dX0_sheet_36 : decode cX0_sheet 36 = .ok (.ifCond .lt 9, 3) := dk_155 0 9 (dk_at dksX0_sheet_1 12 rfl rfl)
theorem dX0_sheet_39 : decode cX0_sheet 39 = .ok (.iload_n 3, 1) := dk_29 (dk_at dksX0_sheet_1 15 rfl rfl)
theorem dX0_sheet_40 : decode cX0_sheet 40 = .ok (.bipush 40, 2) := dk_16 40 (dk_at dksX0_sheet_1 16 rfl rfl)
theorem dX0_sheet_42 : decode cX0_sheet 42 = .ok (.if_icmp .le 18, 3) := dk_164 0 18 (dk_at dksX0_sheet_1 18 rfl rfl)
theorem dX0_sheet_45 : decode cX0_sheet 45 = .ok (.aload_n 0, 1) := dk_42 (dk_at dksX0_sheet_1 21 rfl rfl)
theorem dX0_sheet_46 : decode cX0_sheet 46 = .ok (.iload_n 3, 1) := dk_29 (dk_at dksX0_sheet_1 22 rfl rfl)
theorem dX0_sheet_47 : decode cX0_sheet 47 = .ok (.ifCond .ge 8, 3) := dk_156 0 8 (dk_at dksX0_sheet_2 0 rfl rfl)
theorem dX0_sheet_50 : decode cX0_sheet 50 = .ok (.bipush 6, 2) := dk_16 6 (dk_at dksX0_sheet_2 3 rfl rfl)
theorem dX0_sheet_52 : decode cX0_sheet 52 = .ok (.goto 4, 3) := dk_167 0 4 (dk_at dksX0_sheet_2 5 rfl rfl)
theorem dX0_sheet_55 : decode cX0_sheet 55 = .ok (.iconst 0, 1) := dk_3 (dk_at dksX0_sheet_2 8 rfl rfl)
theorem dX0_sheet_56 : decode cX0_sheet 56 = .ok (.invokevirtual 124, 3) := dk_182 0 124 (dk_at dksX0_sheet_2 9 rfl rfl)
theorem dX0_sheet_59 : decode cX0_sheet 59 = .ok (.ireturn, 1) := dk_172 (dk_at dksX0_sheet_2 12 rfl rfl)
theorem dX0_sheet_60 : decode cX0_sheet 60 = .ok (.aload_n 0, 1) := dk_42 (dk_at dksX0_sheet_2 13 rfl rfl)
theorem dX0_sheet_61 : decode cX0_sheet 61 = .ok (.getfield 93, 3) := dk_180 0 93 (dk_at dksX0_sheet_2 14 rfl rfl)
theorem dX0_sheet_64 : decode cX0_sheet 64 = .ok (.iload_n 1, 1) := dk_27 (dk_at dksX0_sheet_2 17 rfl rfl)
theorem dX0_sheet_65 : decode cX0_sheet 65 = .ok (.aaload, 1) := dk_50 (dk_at dksX0_sheet_2 18 rfl rfl)
theorem dX0_sheet_66 : decode cX0_sheet 66 = .ok (.iload_n 2, 1) := dk_28 (dk_at dksX0_sheet_2 19 rfl rfl)
theorem dX0_sheet_67 : decode cX0_sheet 67 = .ok (.ifCond .ne 7, 3) := dk_154 0 7 (dk_at dksX0_sheet_2 20 rfl rfl)
theorem dX0_sheet_70 : decode cX0_sheet 70 = .ok (.aconst_null, 1) := dk_1 (dk_at dksX0_sheet_2 23 rfl rfl)
theorem dX0_sheet_71 : decode cX0_sheet 71 = .ok (.goto 30, 3) := dk_167 0 30 (dk_at dksX0_sheet_3 0 rfl rfl)
theorem dX0_sheet_74 : decode cX0_sheet 74 = .ok (.iload_n 2, 1) := dk_28 (dk_at dksX0_sheet_3 3 rfl rfl)
theorem dX0_sheet_75 : decode cX0_sheet 75 = .ok (.bipush 8, 2) := dk_16 8 (dk_at dksX0_sheet_3 4 rfl rfl)
theorem dX0_sheet_77 : decode cX0_sheet 77 = .ok (.if_icmp .ne 9, 3) := dk_160 0 9 (dk_at dksX0_sheet_3 6 rfl rfl)
theorem dX0_sheet_80 : decode cX0_sheet 80 = .ok (.iload_n 3, 1) := dk_29 (dk_at dksX0_sheet_3 9 rfl rfl)
theorem dX0_sheet_81 : decode cX0_sheet 81 = .ok (.newarray .byte, 2) := dk_188_8 (dk_at dksX0_sheet_3 10 rfl rfl)
theorem dX0_sheet_83 : decode cX0_sheet 83 = .ok (.goto 18, 3) := dk_167 0 18 (dk_at dksX0_sheet_3 12 rfl rfl)
theorem dX0_sheet_86 : decode cX0_sheet 86 = .ok (.iload_n 2, 1) := dk_28 (dk_at dksX0_sheet_3 15 rfl rfl)
theorem dX0_sheet_87 : decode cX0_sheet 87 = .ok (.bipush 16, 2) := dk_16 16 (dk_at dksX0_sheet_3 16 rfl rfl)
theorem dX0_sheet_89 : decode cX0_sheet 89 = .ok (.if_icmp .ne 9, 3) := dk_160 0 9 (dk_at dksX0_sheet_3 18 rfl rfl)
theorem dX0_sheet_92 : decode cX0_sheet 92 = .ok (.iload_n 3, 1) := dk_29 (dk_at dksX0_sheet_3 21 rfl rfl)
theorem dX0_sheet_93 : decode cX0_sheet 93 = .ok (.newarray .short, 2) := dk_188_9 (dk_at dksX0_sheet_3 22 rfl rfl)
theorem dX0_sheet_95 : decode cX0_sheet 95 = .ok (.goto 6, 3) := dk_167 0 6 (dk_at dksX0_sheet_4 0 rfl rfl)
theorem dX0_sheet_98 : decode cX0_sheet 98 = .ok (.iload_n 3, 1) := dk_29 (dk_at dksX0_sheet_4 3 rfl rfl)
theorem dX0_sheet_99 : decode cX0_sheet 99 = .ok (.newarray .int, 2) := dk_188_10 (dk_at dksX0_sheet_4 4 rfl rfl)
theorem dX0_sheet_101 : decode cX0_sheet 101 = .ok (.putfield 105, 3) := dk_181 0 105 (dk_at dksX0_sheet_4 6 rfl rfl)
theorem dX0_sheet_104 : decode cX0_sheet 104 = .ok (.iload_n 2, 1) := dk_28 (dk_at dksX0_sheet_4 9 rfl rfl)
theorem dX0_sheet_105 : decode cX0_sheet 105 = .ok (.ifCond .ne 7, 3) := dk_154 0 7 (dk_at dksX0_sheet_4 10 rfl rfl)
theorem dX0_sheet_108 : decode cX0_sheet 108 = .ok (.iconst 0, 1) := dk_3 (dk_at dksX0_sheet_4 13 rfl rfl)
theorem dX0_sheet_109 : decode cX0_sheet 109 = .ok (.goto 4, 3) := dk_167 0 4 (dk_at dksX0_sheet_4 14 rfl rfl)
theorem dX0_sheet_112 : decode cX0_sheet 112 = .ok (.iload_n 3, 1) := dk_29 (dk_at dksX0_sheet_4 17 rfl rfl)
theorem dX0_sheet_113 : decode cX0_sheet 113 = .ok (.ireturn, 1) := dk_172 (dk_at dksX0_sheet_4 18 rfl rfl)
abbrev cX0_write : ByteArray := prog_1_method_94_code
def yX0_write : MethodName := ⟨RX0, "write", "(III)I"⟩
def dkwX0_write_2 : List UInt8 := [58, 4, 42, 25, 4, 180, 0, 114, 182, 0, 124, 172]
abbrev dktX0_write_2 : List UInt8 := dkwX0_write_2 ++ []
def dkwX0_write_1 : List UInt8 := [3, 25, 4, 184, 1, 46, 4, 100, 184, 0, 9, 3, 182, 1, 61, 25, 4, 28, 29, 184, 1, 135, 4, 172]
abbrev dktX0_write_1 : List UInt8 := dkwX0_write_1 ++ dktX0_write_2
def dkwX0_write_0 : List UInt8 := [42, 27, 182, 1, 57, 58, 4, 42, 25, 4, 198, 0, 7, 4, 167, 0, 4, 3, 8, 182, 1, 61, 42, 28]
abbrev dktX0_write_0 : List UInt8 := dkwX0_write_0 ++ dktX0_write_1
theorem dksX0_write_0 : cX0_write.data.toList.drop 0 = dktX0_write_0 := by decide +kernel
theorem dksX0_write_1 : cX0_write.data.toList.drop 24 = dktX0_write_1 := dk_seg dksX0_write_0 24 rfl rfl
theorem dksX0_write_2 : cX0_write.data.toList.drop 48 = dktX0_write_2 := dk_seg dksX0_write_1 24 rfl rfl
theorem dX0_write_0 : decode cX0_write 0 = .ok (.aload_n 0, 1) := dk_42 (dk_at dksX0_write_0 0 rfl rfl)
theorem dX0_write_1 : decode cX0_write 1 = .ok (.iload_n 1, 1) := dk_27 (dk_at dksX0_write_0 1 rfl rfl)
theorem dX0_write_2 : decode cX0_write 2 = .ok (.invokevirtual 313, 3) := dk_182 1 57 (dk_at dksX0_write_0 2 rfl rfl)
theorem dX0_write_5 : decode cX0_write 5 = .ok (.astore 4, 2) := dk_58 4 (dk_at dksX0_write_0 5 rfl rfl)
theorem dX0_write_7 : decode cX0_write 7 = .ok (.aload_n 0, 1) := dk_42 (dk_at dksX0_write_0 7 rfl rfl)
theorem dX0_write_8 : decode cX0_write 8 = .ok (.aload 4, 2) := dk_25 4 (dk_at dksX0_write_0 8 rfl rfl)
theorem dX0_write_10 : decode cX0_write 10 = .ok (.ifnull 7, 3) := dk_198 0 7 (dk_at dksX0_write_0 10 rfl rfl)
theorem dX0_write_13 : decode cX0_write 13 = .ok (.iconst 1, 1) := dk_4 (dk_at dksX0_write_0 13 rfl rfl)
theorem dX0_write_14 : decode cX0_write 14 = .ok (.goto 4, 3) := dk_167 0 4 (dk_at dksX0_write_0 14 rfl rfl)
theorem dX0_write_17 : decode cX0_write 17 = .ok (.iconst 0, 1) := dk_3 (dk_at dksX0_write_0 17 rfl rfl)
theorem dX0_write_18 : decode cX0_write 18 = .ok (.iconst 5, 1) := dk_8 (dk_at dksX0_write_0 18 rfl rfl)
theorem dX0_write_19 : decode cX0_write 19 = .ok (.invokevirtual 317, 3) := dk_182 1 61 (dk_at dksX0_write_0 19 rfl rfl)
theorem dX0_write_22 : decode cX0_write 22 = .ok (.aload_n 0, 1) := dk_42 (dk_at dksX0_write_0 22 rfl rfl)
theorem dX0_write_23 : decode cX0_write 23 = .ok (.iload_n 2, 1) := dk_28 (dk_at dksX0_write_0 23 rfl rfl)
theorem dX0_write_24 : decode cX0_write 24 = .ok (.iconst 0, 1) := dk_3 (dk_at dksX0_write_1 0 rfl rfl)
theorem dX0_write_25 : decode cX0_write 25 = .ok (.aload 4, 2) := dk_25 4 (dk_at dksX0_write_1 1 rfl rfl)
theorem dX0_write_27 : decode cX0_write 27 = .ok (.invokestatic 302, 3) := dk_184 1 46 (dk_at dksX0_write_1 3 rfl rfl)
theorem dX0_write_30 : decode cX0_write 30 = .ok (.iconst 1, 1) := dk_4 (dk_at dksX0_write_1 6 rfl rfl)
theorem dX0_write_31 : decode cX0_write 31 = .ok (.isub, 1) := dk_100 (dk_at dksX0_write_1 7 rfl rfl)
theorem dX0_write_32 : decode cX0_write 32 = .ok (.invokestatic 9, 3) := dk_184 0 9 (dk_at dksX0_write_1 8 rfl rfl)
theorem dX0_write_35 : decode cX0_write 35 = .ok (.iconst 0, 1) := dk_3 (dk_at dksX0_write_1 11 rfl rfl)
theorem dX0_write_36 : decode cX0_write 36 = .ok (.invokevirtual 317, 3) := dk_182 1 61 (dk_at dksX0_write_1 12 rfl rfl)
theorem dX0_write_39 : decode cX0_write 39 = .ok (.aload 4, 2) := dk_25 4 (dk_at dksX0_write_1 15 rfl rfl)
theorem dX0_write_41 : decode cX0_write 41 = .ok (.iload_n 2, 1) := dk_28 (dk_at dksX0_write_1 17 rfl rfl)
theorem dX0_write_42 : decode cX0_write 42 = .ok (.iload_n 3, 1) := dk_29 (dk_at dksX0_write_1 18 rfl rfl)
theorem dX0_write_43 : decode cX0_write 43 = .ok (.invokestatic 391, 3) := dk_184 1 135 (dk_at dksX0_write_1 19 rfl rfl)
theorem dX0_write_46 : decode cX0_write 46 = .ok (.iconst 1, 1) := dk_4 (dk_at dksX0_write_1 22 rfl rfl)
theorem dX0_write_47 : decode cX0_write 47 = .ok (.ireturn, 1) := dk_172 (dk_at dksX0_write_1 23 rfl rfl)
theorem dX0_write_48 : decode cX0_write 48 = .ok (.astore 4, 2) := dk_58 4 (dk_at dksX0_write_2 0 rfl rfl)
theorem dX0_write_50 : decode cX0_write 50 = .ok (.aload_n 0, 1) := dk_42 (dk_at dksX0_write_2 2 rfl rfl)
theorem dX0_write_51 : decode cX0_write 51 = .ok (.aload 4, 2) := dk_25 4 (dk_at dksX0_write_2 3 rfl rfl)
theorem dX0_write_53 : decode cX0_write 53 = .ok (.getfield 114, 3) := dk_180 0 114 (dk_at dksX0_write_2 5 rfl rfl)
theorem dX0_write_56 : decode cX0_write 56 = .ok (.invokevirtual 124, 3) := dk_182 0 124 (dk_at dksX0_write_2 8 rfl rfl)
theorem dX0_write_59 : decode cX0_write 59 = .ok (.ireturn, 1) := dk_172 (dk_at dksX0_write_2 11 rfl rfl)
abbrev cX0_lay : ByteArray := prog_1_method_93_code
def yX0_lay : MethodName := ⟨RX0, "lay", "(Ljava/lang/Object;II)V"⟩
def dkwX0_lay_1 : List UInt8 := [153, 0, 14, 42, 192, 1, 132, 27, 28, 147, 86, 167, 0, 10, 42, 192, 1, 134, 27, 28, 79, 177]
abbrev dktX0_lay_1 : List UInt8 := dkwX0_lay_1 ++ []
def dkwX0_lay_0 : List UInt8 := [42, 193, 1, 131, 153, 0, 14, 42, 192, 1, 131, 27, 28, 145, 84, 167, 0, 28, 42, 193, 1, 132]
abbrev dktX0_lay_0 : List UInt8 := dkwX0_lay_0 ++ dktX0_lay_1
theorem dksX0_lay_0 : cX0_lay.data.toList.drop 0 = dktX0_lay_0 := by decide +kernel
theorem dksX0_lay_1 : cX0_lay.data.toList.drop 22 = dktX0_lay_1 := dk_seg dksX0_lay_0 22 rfl rfl
theorem dX0_lay_0 : decode cX0_lay 0 = .ok (.aload_n 0, 1) := dk_42 (dk_at dksX0_lay_0 0 rfl rfl)
theorem dX0_lay_1 : decode cX0_lay 1 = .ok (.instanceof 387, 3) := dk_193 1 131 (dk_at dksX0_lay_0 1 rfl rfl)
theorem dX0_lay_4 : decode cX0_lay 4 = .ok (.ifCond .eq 14, 3) := dk_153 0 14 (dk_at dksX0_lay_0 4 rfl rfl)
theorem dX0_lay_7 : decode cX0_lay 7 = .ok (.aload_n 0, 1) := dk_42 (dk_at dksX0_lay_0 7 rfl rfl)
theorem dX0_lay_8 : decode cX0_lay 8 = .ok (.checkcast 387, 3) := dk_192 1 131 (dk_at dksX0_lay_0 8 rfl rfl)
theorem dX0_lay_11 : decode cX0_lay 11 = .ok (.iload_n 1, 1) := dk_27 (dk_at dksX0_lay_0 11 rfl rfl)
theorem dX0_lay_12 : decode cX0_lay 12 = .ok (.iload_n 2, 1) := dk_28 (dk_at dksX0_lay_0 12 rfl rfl)
theorem dX0_lay_13 : decode cX0_lay 13 = .ok (.i2b, 1) := dk_145 (dk_at dksX0_lay_0 13 rfl rfl)
theorem dX0_lay_14 : decode cX0_lay 14 = .ok (.bastore, 1) := dk_84 (dk_at dksX0_lay_0 14 rfl rfl)
theorem dX0_lay_15 : decode cX0_lay 15 = .ok (.goto 28, 3) := dk_167 0 28 (dk_at dksX0_lay_0 15 rfl rfl)
theorem dX0_lay_18 : decode cX0_lay 18 = .ok (.aload_n 0, 1) := dk_42 (dk_at dksX0_lay_0 18 rfl rfl)
theorem dX0_lay_19 : decode cX0_lay 19 = .ok (.instanceof 388, 3) := dk_193 1 132 (dk_at dksX0_lay_0 19 rfl rfl)
theorem dX0_lay_22 : decode cX0_lay 22 = .ok (.ifCond .eq 14, 3) := dk_153 0 14 (dk_at dksX0_lay_1 0 rfl rfl)
theorem dX0_lay_25 : decode cX0_lay 25 = .ok (.aload_n 0, 1) := dk_42 (dk_at dksX0_lay_1 3 rfl rfl)
theorem dX0_lay_26 : decode cX0_lay 26 = .ok (.checkcast 388, 3) := dk_192 1 132 (dk_at dksX0_lay_1 4 rfl rfl)
theorem dX0_lay_29 : decode cX0_lay 29 = .ok (.iload_n 1, 1) := dk_27 (dk_at dksX0_lay_1 7 rfl rfl)
theorem dX0_lay_30 : decode cX0_lay 30 = .ok (.iload_n 2, 1) := dk_28 (dk_at dksX0_lay_1 8 rfl rfl)
theorem dX0_lay_31 : decode cX0_lay 31 = .ok (.i2s, 1) := dk_147 (dk_at dksX0_lay_1 9 rfl rfl)
theorem dX0_lay_32 : decode cX0_lay 32 = .ok (.sastore, 1) := dk_86 (dk_at dksX0_lay_1 10 rfl rfl)
theorem dX0_lay_33 : decode cX0_lay 33 = .ok (.goto 10, 3) := dk_167 0 10 (dk_at dksX0_lay_1 11 rfl rfl)
theorem dX0_lay_36 : decode cX0_lay 36 = .ok (.aload_n 0, 1) := dk_42 (dk_at dksX0_lay_1 14 rfl rfl)
theorem dX0_lay_37 : decode cX0_lay 37 = .ok (.checkcast 390, 3) := dk_192 1 134 (dk_at dksX0_lay_1 15 rfl rfl)
theorem dX0_lay_40 : decode cX0_lay 40 = .ok (.iload_n 1, 1) := dk_27 (dk_at dksX0_lay_1 18 rfl rfl)
theorem dX0_lay_41 : decode cX0_lay 41 = .ok (.iload_n 2, 1) := dk_28 (dk_at dksX0_lay_1 19 rfl rfl)
theorem dX0_lay_42 : decode cX0_lay 42 = .ok (.iastore, 1) := dk_79 (dk_at dksX0_lay_1 20 rfl rfl)
theorem dX0_lay_43 : decode cX0_lay 43 = .ok (.return_, 1) := dk_177 (dk_at dksX0_lay_1 21 rfl rfl)
abbrev cX0_copy : ByteArray := prog_1_method_96_code
def yX0_copy : MethodName := ⟨RX0, "copy", "(IIIII)I"⟩
def dkwX0_copy_5 : List UInt8 := [184, 1, 148, 21, 5, 172, 58, 6, 42, 25, 6, 180, 0, 114, 182, 0, 124, 172]
abbrev dktX0_copy_5 : List UInt8 := dkwX0_copy_5 ++ []
def dkwX0_copy_4 : List UInt8 := [100, 163, 0, 7, 4, 167, 0, 4, 3, 3, 182, 1, 61, 25, 6, 28, 25, 7, 21, 4, 21, 5]
abbrev dktX0_copy_4 : List UInt8 := dkwX0_copy_4 ++ dktX0_copy_5
def dkwX0_copy_3 : List UInt8 := [155, 0, 32, 28, 25, 6, 184, 1, 46, 21, 5, 100, 163, 0, 20, 21, 4, 25, 7, 184, 1, 46, 21, 5]
abbrev dktX0_copy_3 : List UInt8 := dkwX0_copy_3 ++ dktX0_copy_4
def dkwX0_copy_2 : List UInt8 := [160, 0, 7, 4, 167, 0, 4, 3, 5, 182, 1, 61, 42, 21, 5, 155, 0, 41, 28, 155, 0, 37, 21, 4]
abbrev dktX0_copy_2 : List UInt8 := dkwX0_copy_2 ++ dktX0_copy_3
def dkwX0_copy_1 : List UInt8 := [198, 0, 7, 4, 167, 0, 4, 3, 8, 182, 1, 61, 42, 25, 6, 184, 1, 145, 25, 7, 184, 1, 145]
abbrev dktX0_copy_1 : List UInt8 := dkwX0_copy_1 ++ dktX0_copy_2
def dkwX0_copy_0 : List UInt8 := [42, 27, 182, 1, 57, 58, 6, 42, 29, 182, 1, 57, 58, 7, 42, 25, 6, 198, 0, 12, 25, 7]
abbrev dktX0_copy_0 : List UInt8 := dkwX0_copy_0 ++ dktX0_copy_1
theorem dksX0_copy_0 : cX0_copy.data.toList.drop 0 = dktX0_copy_0 := by decide +kernel
theorem dksX0_copy_1 : cX0_copy.data.toList.drop 22 = dktX0_copy_1 := dk_seg dksX0_copy_0 22 rfl rfl
theorem dksX0_copy_2 : cX0_copy.data.toList.drop 45 = dktX0_copy_2 := dk_seg dksX0_copy_1 23 rfl rfl
theorem dksX0_copy_3 : cX0_copy.data.toList.drop 69 = dktX0_copy_3 := dk_seg dksX0_copy_2 24 rfl rfl
theorem dksX0_copy_4 : cX0_copy.data.toList.drop 93 = dktX0_copy_4 := dk_seg dksX0_copy_3 24 rfl rfl
theorem dksX0_copy_5 : cX0_copy.data.toList.drop 115 = dktX0_copy_5 := dk_seg dksX0_copy_4 22 rfl rfl
theorem dX0_copy_0 : decode cX0_copy 0 = .ok (.aload_n 0, 1) := dk_42 (dk_at dksX0_copy_0 0 rfl rfl)
theorem dX0_copy_1 : decode cX0_copy 1 = .ok (.iload_n 1, 1) := dk_27 (dk_at dksX0_copy_0 1 rfl rfl)
theorem dX0_copy_2 : decode cX0_copy 2 = .ok (.invokevirtual 313, 3) := dk_182 1 57 (dk_at dksX0_copy_0 2 rfl rfl)
theorem dX0_copy_5 : decode cX0_copy 5 = .ok (.astore 6, 2) := dk_58 6 (dk_at dksX0_copy_0 5 rfl rfl)
theorem dX0_copy_7 : decode cX0_copy 7 = .ok (.aload_n 0, 1) := dk_42 (dk_at dksX0_copy_0 7 rfl rfl)
theorem dX0_copy_8 : decode cX0_copy 8 = .ok (.iload_n 3, 1) := dk_29 (dk_at dksX0_copy_0 8 rfl rfl)
theorem dX0_copy_9 : decode cX0_copy 9 = .ok (.invokevirtual 313, 3) := dk_182 1 57 (dk_at dksX0_copy_0 9 rfl rfl)
theorem dX0_copy_12 : decode cX0_copy 12 = .ok (.astore 7, 2) := dk_58 7 (dk_at dksX0_copy_0 12 rfl rfl)
theorem dX0_copy_14 : decode cX0_copy 14 = .ok (.aload_n 0, 1) := dk_42 (dk_at dksX0_copy_0 14 rfl rfl)
theorem dX0_copy_15 : decode cX0_copy 15 = .ok (.aload 6, 2) := dk_25 6 (dk_at dksX0_copy_0 15 rfl rfl)
theorem dX0_copy_17 : decode cX0_copy 17 = .ok (.ifnull 12, 3) := dk_198 0 12 (dk_at dksX0_copy_0 17 rfl rfl)
theorem dX0_copy_20 : decode cX0_copy 20 = .ok (.aload 7, 2) := dk_25 7 (dk_at dksX0_copy_0 20 rfl rfl)
theorem dX0_copy_22 : decode cX0_copy 22 = .ok (.ifnull 7, 3) := dk_198 0 7 (dk_at dksX0_copy_1 0 rfl rfl)
theorem dX0_copy_25 : decode cX0_copy 25 = .ok (.iconst 1, 1) := dk_4 (dk_at dksX0_copy_1 3 rfl rfl)
theorem dX0_copy_26 : decode cX0_copy 26 = .ok (.goto 4, 3) := dk_167 0 4 (dk_at dksX0_copy_1 4 rfl rfl)
theorem dX0_copy_29 : decode cX0_copy 29 = .ok (.iconst 0, 1) := dk_3 (dk_at dksX0_copy_1 7 rfl rfl)
theorem dX0_copy_30 : decode cX0_copy 30 = .ok (.iconst 5, 1) := dk_8 (dk_at dksX0_copy_1 8 rfl rfl)
theorem dX0_copy_31 : decode cX0_copy 31 = .ok (.invokevirtual 317, 3) := dk_182 1 61 (dk_at dksX0_copy_1 9 rfl rfl)
theorem dX0_copy_34 : decode cX0_copy 34 = .ok (.aload_n 0, 1) := dk_42 (dk_at dksX0_copy_1 12 rfl rfl)
theorem dX0_copy_35 : decode cX0_copy 35 = .ok (.aload 6, 2) := dk_25 6 (dk_at dksX0_copy_1 13 rfl rfl)
theorem dX0_copy_37 : decode cX0_copy 37 = .ok (.invokestatic 401, 3) := dk_184 1 145 (dk_at dksX0_copy_1 15 rfl rfl)
theorem dX0_copy_40 : decode cX0_copy 40 = .ok (.aload 7, 2) := dk_25 7 (dk_at dksX0_copy_1 18 rfl rfl)
theorem dX0_copy_42 : decode cX0_copy 42 = .ok (.invokestatic 401, 3) := dk_184 1 145 (dk_at dksX0_copy_1 20 rfl rfl)
theorem dX0_copy_45 : decode cX0_copy 45 = .ok (.if_icmp .ne 7, 3) := dk_160 0 7 (dk_at dksX0_copy_2 0 rfl rfl)
theorem dX0_copy_48 : decode cX0_copy 48 = .ok (.iconst 1, 1) := dk_4 (dk_at dksX0_copy_2 3 rfl rfl)
theorem dX0_copy_49 : decode cX0_copy 49 = .ok (.goto 4, 3) := dk_167 0 4 (dk_at dksX0_copy_2 4 rfl rfl)
theorem dX0_copy_52 : decode cX0_copy 52 = .ok (.iconst 0, 1) := dk_3 (dk_at dksX0_copy_2 7 rfl rfl)
theorem dX0_copy_53 : decode cX0_copy 53 = .ok (.iconst 2, 1) := dk_5 (dk_at dksX0_copy_2 8 rfl rfl)
theorem dX0_copy_54 : decode cX0_copy 54 = .ok (.invokevirtual 317, 3) := dk_182 1 61 (dk_at dksX0_copy_2 9 rfl rfl)
theorem dX0_copy_57 : decode cX0_copy 57 = .ok (.aload_n 0, 1) := dk_42 (dk_at dksX0_copy_2 12 rfl rfl)
theorem dX0_copy_58 : decode cX0_copy 58 = .ok (.iload 5, 2) := dk_21 5 (dk_at dksX0_copy_2 13 rfl rfl)
theorem dX0_copy_60 : decode cX0_copy 60 = .ok (.ifCond .lt 41, 3) := dk_155 0 41 (dk_at dksX0_copy_2 15 rfl rfl)
theorem dX0_copy_63 : decode cX0_copy 63 = .ok (.iload_n 2, 1) := dk_28 (dk_at dksX0_copy_2 18 rfl rfl)
theorem dX0_copy_64 : decode cX0_copy 64 = .ok (.ifCond .lt 37, 3) := dk_155 0 37 (dk_at dksX0_copy_2 19 rfl rfl)
theorem dX0_copy_67 : decode cX0_copy 67 = .ok (.iload 4, 2) := dk_21 4 (dk_at dksX0_copy_2 22 rfl rfl)
theorem dX0_copy_69 : decode cX0_copy 69 = .ok (.ifCond .lt 32, 3) := dk_155 0 32 (dk_at dksX0_copy_3 0 rfl rfl)
theorem dX0_copy_72 : decode cX0_copy 72 = .ok (.iload_n 2, 1) := dk_28 (dk_at dksX0_copy_3 3 rfl rfl)
theorem dX0_copy_73 : decode cX0_copy 73 = .ok (.aload 6, 2) := dk_25 6 (dk_at dksX0_copy_3 4 rfl rfl)
theorem dX0_copy_75 : decode cX0_copy 75 = .ok (.invokestatic 302, 3) := dk_184 1 46 (dk_at dksX0_copy_3 6 rfl rfl)
theorem dX0_copy_78 : decode cX0_copy 78 = .ok (.iload 5, 2) := dk_21 5 (dk_at dksX0_copy_3 9 rfl rfl)
theorem dX0_copy_80 : decode cX0_copy 80 = .ok (.isub, 1) := dk_100 (dk_at dksX0_copy_3 11 rfl rfl)
theorem dX0_copy_81 : decode cX0_copy 81 = .ok (.if_icmp .gt 20, 3) := dk_163 0 20 (dk_at dksX0_copy_3 12 rfl rfl)
theorem dX0_copy_84 : decode cX0_copy 84 = .ok (.iload 4, 2) := dk_21 4 (dk_at dksX0_copy_3 15 rfl rfl)
theorem dX0_copy_86 : decode cX0_copy 86 = .ok (.aload 7, 2) := dk_25 7 (dk_at dksX0_copy_3 17 rfl rfl)
theorem dX0_copy_88 : decode cX0_copy 88 = .ok (.invokestatic 302, 3) := dk_184 1 46 (dk_at dksX0_copy_3 19 rfl rfl)
theorem dX0_copy_91 : decode cX0_copy 91 = .ok (.iload 5, 2) := dk_21 5 (dk_at dksX0_copy_3 22 rfl rfl)
theorem dX0_copy_93 : decode cX0_copy 93 = .ok (.isub, 1) := dk_100 (dk_at dksX0_copy_4 0 rfl rfl)
theorem dX0_copy_94 : decode cX0_copy 94 = .ok (.if_icmp .gt 7, 3) := dk_163 0 7 (dk_at dksX0_copy_4 1 rfl rfl)
theorem dX0_copy_97 : decode cX0_copy 97 = .ok (.iconst 1, 1) := dk_4 (dk_at dksX0_copy_4 4 rfl rfl)
theorem dX0_copy_98 : decode cX0_copy 98 = .ok (.goto 4, 3) := dk_167 0 4 (dk_at dksX0_copy_4 5 rfl rfl)
theorem dX0_copy_101 : decode cX0_copy 101 = .ok (.iconst 0, 1) := dk_3 (dk_at dksX0_copy_4 8 rfl rfl)
theorem dX0_copy_102 : decode cX0_copy 102 = .ok (.iconst 0, 1) := dk_3 (dk_at dksX0_copy_4 9 rfl rfl)
theorem dX0_copy_103 : decode cX0_copy 103 = .ok (.invokevirtual 317, 3) := dk_182 1 61 (dk_at dksX0_copy_4 10 rfl rfl)
theorem dX0_copy_106 : decode cX0_copy 106 = .ok (.aload 6, 2) := dk_25 6 (dk_at dksX0_copy_4 13 rfl rfl)
theorem dX0_copy_108 : decode cX0_copy 108 = .ok (.iload_n 2, 1) := dk_28 (dk_at dksX0_copy_4 15 rfl rfl)
theorem dX0_copy_109 : decode cX0_copy 109 = .ok (.aload 7, 2) := dk_25 7 (dk_at dksX0_copy_4 16 rfl rfl)
theorem dX0_copy_111 : decode cX0_copy 111 = .ok (.iload 4, 2) := dk_21 4 (dk_at dksX0_copy_4 18 rfl rfl)
theorem dX0_copy_113 : decode cX0_copy 113 = .ok (.iload 5, 2) := dk_21 5 (dk_at dksX0_copy_4 20 rfl rfl)
theorem dX0_copy_115 : decode cX0_copy 115 = .ok (.invokestatic 404, 3) := dk_184 1 148 (dk_at dksX0_copy_5 0 rfl rfl)
theorem dX0_copy_118 : decode cX0_copy 118 = .ok (.iload 5, 2) := dk_21 5 (dk_at dksX0_copy_5 3 rfl rfl)
theorem dX0_copy_120 : decode cX0_copy 120 = .ok (.ireturn, 1) := dk_172 (dk_at dksX0_copy_5 5 rfl rfl)
theorem dX0_copy_121 : decode cX0_copy 121 = .ok (.astore 6, 2) := dk_58 6 (dk_at dksX0_copy_5 6 rfl rfl)
theorem dX0_copy_123 : decode cX0_copy 123 = .ok (.aload_n 0, 1) := dk_42 (dk_at dksX0_copy_5 8 rfl rfl)
theorem dX0_copy_124 : decode cX0_copy 124 = .ok (.aload 6, 2) := dk_25 6 (dk_at dksX0_copy_5 9 rfl rfl)
theorem dX0_copy_126 : decode cX0_copy 126 = .ok (.getfield 114, 3) := dk_180 0 114 (dk_at dksX0_copy_5 11 rfl rfl)
theorem dX0_copy_129 : decode cX0_copy 129 = .ok (.invokevirtual 124, 3) := dk_182 0 124 (dk_at dksX0_copy_5 14 rfl rfl)
theorem dX0_copy_132 : decode cX0_copy 132 = .ok (.ireturn, 1) := dk_172 (dk_at dksX0_copy_5 17 rfl rfl)
abbrev cX0_widthOf : ByteArray := prog_1_method_92_code
def yX0_widthOf : MethodName := ⟨RX0, "widthOf", "(Ljava/lang/Object;)I"⟩
def dkwX0_widthOf_1 : List UInt8 := [16, 32, 172]
abbrev dktX0_widthOf_1 : List UInt8 := dkwX0_widthOf_1 ++ []
def dkwX0_widthOf_0 : List UInt8 := [42, 193, 1, 131, 153, 0, 8, 16, 8, 167, 0, 17, 42, 193, 1, 132, 153, 0, 8, 16, 16, 167, 0, 5]
abbrev dktX0_widthOf_0 : List UInt8 := dkwX0_widthOf_0 ++ dktX0_widthOf_1
theorem dksX0_widthOf_0 : cX0_widthOf.data.toList.drop 0 = dktX0_widthOf_0 := by decide +kernel
theorem dksX0_widthOf_1 : cX0_widthOf.data.toList.drop 24 = dktX0_widthOf_1 := dk_seg dksX0_widthOf_0 24 rfl rfl
theorem dX0_widthOf_0 : decode cX0_widthOf 0 = .ok (.aload_n 0, 1) := dk_42 (dk_at dksX0_widthOf_0 0 rfl rfl)
theorem dX0_widthOf_1 : decode cX0_widthOf 1 = .ok (.instanceof 387, 3) := dk_193 1 131 (dk_at dksX0_widthOf_0 1 rfl rfl)
theorem dX0_widthOf_4 : decode cX0_widthOf 4 = .ok (.ifCond .eq 8, 3) := dk_153 0 8 (dk_at dksX0_widthOf_0 4 rfl rfl)
theorem dX0_widthOf_7 : decode cX0_widthOf 7 = .ok (.bipush 8, 2) := dk_16 8 (dk_at dksX0_widthOf_0 7 rfl rfl)
theorem dX0_widthOf_9 : decode cX0_widthOf 9 = .ok (.goto 17, 3) := dk_167 0 17 (dk_at dksX0_widthOf_0 9 rfl rfl)
theorem dX0_widthOf_12 : decode cX0_widthOf 12 = .ok (.aload_n 0, 1) := dk_42 (dk_at dksX0_widthOf_0 12 rfl rfl)
theorem dX0_widthOf_13 : decode cX0_widthOf 13 = .ok (.instanceof 388, 3) := dk_193 1 132 (dk_at dksX0_widthOf_0 13 rfl rfl)
theorem dX0_widthOf_16 : decode cX0_widthOf 16 = .ok (.ifCond .eq 8, 3) := dk_153 0 8 (dk_at dksX0_widthOf_0 16 rfl rfl)
theorem dX0_widthOf_19 : decode cX0_widthOf 19 = .ok (.bipush 16, 2) := dk_16 16 (dk_at dksX0_widthOf_0 19 rfl rfl)
theorem dX0_widthOf_21 : decode cX0_widthOf 21 = .ok (.goto 5, 3) := dk_167 0 5 (dk_at dksX0_widthOf_0 21 rfl rfl)
theorem dX0_widthOf_24 : decode cX0_widthOf 24 = .ok (.bipush 32, 2) := dk_16 32 (dk_at dksX0_widthOf_1 0 rfl rfl)
theorem dX0_widthOf_26 : decode cX0_widthOf 26 = .ok (.ireturn, 1) := dk_172 (dk_at dksX0_widthOf_1 2 rfl rfl)
abbrev cX0_slide : ByteArray := prog_1_method_95_code
def yX0_slide : MethodName := ⟨RX0, "slide", "(Ljava/lang/Object;ILjava/lang/Object;II)V"⟩
def dkwX0_slide_2 : List UInt8 := [184, 1, 139, 167, 0, 18, 42, 192, 1, 134, 27, 44, 192, 1, 134, 29, 21, 4, 184, 1, 139, 177]
abbrev dktX0_slide_2 : List UInt8 := dkwX0_slide_2 ++ []
def dkwX0_slide_1 : List UInt8 := [167, 0, 43, 42, 193, 1, 132, 153, 0, 21, 42, 192, 1, 132, 27, 44, 192, 1, 132, 29, 21, 4]
abbrev dktX0_slide_1 : List UInt8 := dkwX0_slide_1 ++ dktX0_slide_2
def dkwX0_slide_0 : List UInt8 := [42, 193, 1, 131, 153, 0, 21, 42, 192, 1, 131, 27, 44, 192, 1, 131, 29, 21, 4, 184, 1, 139]
abbrev dktX0_slide_0 : List UInt8 := dkwX0_slide_0 ++ dktX0_slide_1
theorem dksX0_slide_0 : cX0_slide.data.toList.drop 0 = dktX0_slide_0 := by decide +kernel
theorem dksX0_slide_1 : cX0_slide.data.toList.drop 22 = dktX0_slide_1 := dk_seg dksX0_slide_0 22 rfl rfl
theorem dksX0_slide_2 : cX0_slide.data.toList.drop 44 = dktX0_slide_2 := dk_seg dksX0_slide_1 22 rfl rfl
theorem dX0_slide_0 : decode cX0_slide 0 = .ok (.aload_n 0, 1) := dk_42 (dk_at dksX0_slide_0 0 rfl rfl)
theorem dX0_slide_1 : decode cX0_slide 1 = .ok (.instanceof 387, 3) := dk_193 1 131 (dk_at dksX0_slide_0 1 rfl rfl)
theorem dX0_slide_4 : decode cX0_slide 4 = .ok (.ifCond .eq 21, 3) := dk_153 0 21 (dk_at dksX0_slide_0 4 rfl rfl)
theorem dX0_slide_7 : decode cX0_slide 7 = .ok (.aload_n 0, 1) := dk_42 (dk_at dksX0_slide_0 7 rfl rfl)
theorem dX0_slide_8 : decode cX0_slide 8 = .ok (.checkcast 387, 3) := dk_192 1 131 (dk_at dksX0_slide_0 8 rfl rfl)
theorem dX0_slide_11 : decode cX0_slide 11 = .ok (.iload_n 1, 1) := dk_27 (dk_at dksX0_slide_0 11 rfl rfl)
theorem dX0_slide_12 : decode cX0_slide 12 = .ok (.aload_n 2, 1) := dk_44 (dk_at dksX0_slide_0 12 rfl rfl)
theorem dX0_slide_13 : decode cX0_slide 13 = .ok (.checkcast 387, 3) := dk_192 1 131 (dk_at dksX0_slide_0 13 rfl rfl)
theorem dX0_slide_16 : decode cX0_slide 16 = .ok (.iload_n 3, 1) := dk_29 (dk_at dksX0_slide_0 16 rfl rfl)
theorem dX0_slide_17 : decode cX0_slide 17 = .ok (.iload 4, 2) := dk_21 4 (dk_at dksX0_slide_0 17 rfl rfl)
theorem dX0_slide_19 : decode cX0_slide 19 = .ok (.invokestatic 395, 3) := dk_184 1 139 (dk_at dksX0_slide_0 19 rfl rfl)
theorem dX0_slide_22 : decode cX0_slide 22 = .ok (.goto 43, 3) := dk_167 0 43 (dk_at dksX0_slide_1 0 rfl rfl)
theorem dX0_slide_25 : decode cX0_slide 25 = .ok (.aload_n 0, 1) := dk_42 (dk_at dksX0_slide_1 3 rfl rfl)
theorem dX0_slide_26 : decode cX0_slide 26 = .ok (.instanceof 388, 3) := dk_193 1 132 (dk_at dksX0_slide_1 4 rfl rfl)
theorem dX0_slide_29 : decode cX0_slide 29 = .ok (.ifCond .eq 21, 3) := dk_153 0 21 (dk_at dksX0_slide_1 7 rfl rfl)
theorem dX0_slide_32 : decode cX0_slide 32 = .ok (.aload_n 0, 1) := dk_42 (dk_at dksX0_slide_1 10 rfl rfl)
theorem dX0_slide_33 : decode cX0_slide 33 = .ok (.checkcast 388, 3) := dk_192 1 132 (dk_at dksX0_slide_1 11 rfl rfl)
theorem dX0_slide_36 : decode cX0_slide 36 = .ok (.iload_n 1, 1) := dk_27 (dk_at dksX0_slide_1 14 rfl rfl)
theorem dX0_slide_37 : decode cX0_slide 37 = .ok (.aload_n 2, 1) := dk_44 (dk_at dksX0_slide_1 15 rfl rfl)
theorem dX0_slide_38 : decode cX0_slide 38 = .ok (.checkcast 388, 3) := dk_192 1 132 (dk_at dksX0_slide_1 16 rfl rfl)
theorem dX0_slide_41 : decode cX0_slide 41 = .ok (.iload_n 3, 1) := dk_29 (dk_at dksX0_slide_1 19 rfl rfl)
theorem dX0_slide_42 : decode cX0_slide 42 = .ok (.iload 4, 2) := dk_21 4 (dk_at dksX0_slide_1 20 rfl rfl)
theorem dX0_slide_44 : decode cX0_slide 44 = .ok (.invokestatic 395, 3) := dk_184 1 139 (dk_at dksX0_slide_2 0 rfl rfl)
theorem dX0_slide_47 : decode cX0_slide 47 = .ok (.goto 18, 3) := dk_167 0 18 (dk_at dksX0_slide_2 3 rfl rfl)
theorem dX0_slide_50 : decode cX0_slide 50 = .ok (.aload_n 0, 1) := dk_42 (dk_at dksX0_slide_2 6 rfl rfl)
theorem dX0_slide_51 : decode cX0_slide 51 = .ok (.checkcast 390, 3) := dk_192 1 134 (dk_at dksX0_slide_2 7 rfl rfl)
theorem dX0_slide_54 : decode cX0_slide 54 = .ok (.iload_n 1, 1) := dk_27 (dk_at dksX0_slide_2 10 rfl rfl)
theorem dX0_slide_55 : decode cX0_slide 55 = .ok (.aload_n 2, 1) := dk_44 (dk_at dksX0_slide_2 11 rfl rfl)
theorem dX0_slide_56 : decode cX0_slide 56 = .ok (.checkcast 390, 3) := dk_192 1 134 (dk_at dksX0_slide_2 12 rfl rfl)
theorem dX0_slide_59 : decode cX0_slide 59 = .ok (.iload_n 3, 1) := dk_29 (dk_at dksX0_slide_2 15 rfl rfl)
theorem dX0_slide_60 : decode cX0_slide 60 = .ok (.iload 4, 2) := dk_21 4 (dk_at dksX0_slide_2 16 rfl rfl)
theorem dX0_slide_62 : decode cX0_slide 62 = .ok (.invokestatic 395, 3) := dk_184 1 139 (dk_at dksX0_slide_2 18 rfl rfl)
theorem dX0_slide_65 : decode cX0_slide 65 = .ok (.return_, 1) := dk_177 (dk_at dksX0_slide_2 21 rfl rfl)
abbrev cX0_load : ByteArray := prog_1_method_98_code
def yX0_load : MethodName := ⟨RX0, "load", "(I)I"⟩
def dkwX0_load_1 : List UInt8 := [182, 1, 151, 172, 77, 42, 44, 180, 0, 114, 182, 0, 124, 172]
abbrev dktX0_load_1 : List UInt8 := dkwX0_load_1 ++ []
def dkwX0_load_0 : List UInt8 := [42, 27, 182, 1, 57, 77, 42, 44, 198, 0, 7, 4, 167, 0, 4, 3, 8, 182, 1, 61, 42, 44]
abbrev dktX0_load_0 : List UInt8 := dkwX0_load_0 ++ dktX0_load_1
theorem dksX0_load_0 : cX0_load.data.toList.drop 0 = dktX0_load_0 := by decide +kernel
theorem dksX0_load_1 : cX0_load.data.toList.drop 22 = dktX0_load_1 := dk_seg dksX0_load_0 22 rfl rfl
theorem dX0_load_0 : decode cX0_load 0 = .ok (.aload_n 0, 1) := dk_42 (dk_at dksX0_load_0 0 rfl rfl)
theorem dX0_load_1 : decode cX0_load 1 = .ok (.iload_n 1, 1) := dk_27 (dk_at dksX0_load_0 1 rfl rfl)
theorem dX0_load_2 : decode cX0_load 2 = .ok (.invokevirtual 313, 3) := dk_182 1 57 (dk_at dksX0_load_0 2 rfl rfl)
theorem dX0_load_5 : decode cX0_load 5 = .ok (.astore_n 2, 1) := dk_77 (dk_at dksX0_load_0 5 rfl rfl)
theorem dX0_load_6 : decode cX0_load 6 = .ok (.aload_n 0, 1) := dk_42 (dk_at dksX0_load_0 6 rfl rfl)
theorem dX0_load_7 : decode cX0_load 7 = .ok (.aload_n 2, 1) := dk_44 (dk_at dksX0_load_0 7 rfl rfl)
theorem dX0_load_8 : decode cX0_load 8 = .ok (.ifnull 7, 3) := dk_198 0 7 (dk_at dksX0_load_0 8 rfl rfl)
theorem dX0_load_11 : decode cX0_load 11 = .ok (.iconst 1, 1) := dk_4 (dk_at dksX0_load_0 11 rfl rfl)
theorem dX0_load_12 : decode cX0_load 12 = .ok (.goto 4, 3) := dk_167 0 4 (dk_at dksX0_load_0 12 rfl rfl)
theorem dX0_load_15 : decode cX0_load 15 = .ok (.iconst 0, 1) := dk_3 (dk_at dksX0_load_0 15 rfl rfl)
theorem dX0_load_16 : decode cX0_load 16 = .ok (.iconst 5, 1) := dk_8 (dk_at dksX0_load_0 16 rfl rfl)
theorem dX0_load_17 : decode cX0_load 17 = .ok (.invokevirtual 317, 3) := dk_182 1 61 (dk_at dksX0_load_0 17 rfl rfl)
theorem dX0_load_20 : decode cX0_load 20 = .ok (.aload_n 0, 1) := dk_42 (dk_at dksX0_load_0 20 rfl rfl)
theorem dX0_load_21 : decode cX0_load 21 = .ok (.aload_n 2, 1) := dk_44 (dk_at dksX0_load_0 21 rfl rfl)
theorem dX0_load_22 : decode cX0_load 22 = .ok (.invokevirtual 407, 3) := dk_182 1 151 (dk_at dksX0_load_1 0 rfl rfl)
theorem dX0_load_25 : decode cX0_load 25 = .ok (.ireturn, 1) := dk_172 (dk_at dksX0_load_1 3 rfl rfl)
theorem dX0_load_26 : decode cX0_load 26 = .ok (.astore_n 2, 1) := dk_77 (dk_at dksX0_load_1 4 rfl rfl)
theorem dX0_load_27 : decode cX0_load 27 = .ok (.aload_n 0, 1) := dk_42 (dk_at dksX0_load_1 5 rfl rfl)
theorem dX0_load_28 : decode cX0_load 28 = .ok (.aload_n 2, 1) := dk_44 (dk_at dksX0_load_1 6 rfl rfl)
theorem dX0_load_29 : decode cX0_load 29 = .ok (.getfield 114, 3) := dk_180 0 114 (dk_at dksX0_load_1 7 rfl rfl)
theorem dX0_load_32 : decode cX0_load 32 = .ok (.invokevirtual 124, 3) := dk_182 0 124 (dk_at dksX0_load_1 10 rfl rfl)
theorem dX0_load_35 : decode cX0_load 35 = .ok (.ireturn, 1) := dk_172 (dk_at dksX0_load_1 13 rfl rfl)
abbrev cX0_loads : ByteArray := prog_1_method_97_code
def yX0_loads : MethodName := ⟨RX0, "loads", "(Ljava/lang/Object;)I"⟩
def dkwX0_loads_2 : List UInt8 := [132, 2, 1, 167, 255, 210, 28, 172]
abbrev dktX0_loads_2 : List UInt8 := dkwX0_loads_2 ++ []
def dkwX0_loads_1 : List UInt8 := [16, 30, 184, 0, 9, 153, 0, 23, 42, 180, 0, 71, 180, 0, 146, 28, 43, 28, 184, 1, 50, 79]
abbrev dktX0_loads_1 : List UInt8 := dkwX0_loads_1 ++ dktX0_loads_2
def dkwX0_loads_0 : List UInt8 := [3, 61, 28, 43, 184, 1, 46, 162, 0, 44, 28, 184, 0, 17, 153, 0, 37, 43, 28, 184, 1, 50, 3]
abbrev dktX0_loads_0 : List UInt8 := dkwX0_loads_0 ++ dktX0_loads_1
theorem dksX0_loads_0 : cX0_loads.data.toList.drop 0 = dktX0_loads_0 := by decide +kernel
theorem dksX0_loads_1 : cX0_loads.data.toList.drop 23 = dktX0_loads_1 := dk_seg dksX0_loads_0 23 rfl rfl
theorem dksX0_loads_2 : cX0_loads.data.toList.drop 45 = dktX0_loads_2 := dk_seg dksX0_loads_1 22 rfl rfl
theorem dX0_loads_0 : decode cX0_loads 0 = .ok (.iconst 0, 1) := dk_3 (dk_at dksX0_loads_0 0 rfl rfl)
theorem dX0_loads_1 : decode cX0_loads 1 = .ok (.istore_n 2, 1) := dk_61 (dk_at dksX0_loads_0 1 rfl rfl)
theorem dX0_loads_2 : decode cX0_loads 2 = .ok (.iload_n 2, 1) := dk_28 (dk_at dksX0_loads_0 2 rfl rfl)
theorem dX0_loads_3 : decode cX0_loads 3 = .ok (.aload_n 1, 1) := dk_43 (dk_at dksX0_loads_0 3 rfl rfl)
theorem dX0_loads_4 : decode cX0_loads 4 = .ok (.invokestatic 302, 3) := dk_184 1 46 (dk_at dksX0_loads_0 4 rfl rfl)
theorem dX0_loads_7 : decode cX0_loads 7 = .ok (.if_icmp .ge 44, 3) := dk_162 0 44 (dk_at dksX0_loads_0 7 rfl rfl)
theorem dX0_loads_10 : decode cX0_loads 10 = .ok (.iload_n 2, 1) := dk_28 (dk_at dksX0_loads_0 10 rfl rfl)
theorem dX0_loads_11 : decode cX0_loads 11 = .ok (.invokestatic 17, 3) := dk_184 0 17 (dk_at dksX0_loads_0 11 rfl rfl)
theorem dX0_loads_14 : decode cX0_loads 14 = .ok (.ifCond .eq 37, 3) := dk_153 0 37 (dk_at dksX0_loads_0 14 rfl rfl)
theorem dX0_loads_17 : decode cX0_loads 17 = .ok (.aload_n 1, 1) := dk_43 (dk_at dksX0_loads_0 17 rfl rfl)
theorem dX0_loads_18 : decode cX0_loads 18 = .ok (.iload_n 2, 1) := dk_28 (dk_at dksX0_loads_0 18 rfl rfl)
theorem dX0_loads_19 : decode cX0_loads 19 = .ok (.invokestatic 306, 3) := dk_184 1 50 (dk_at dksX0_loads_0 19 rfl rfl)
theorem dX0_loads_22 : decode cX0_loads 22 = .ok (.iconst 0, 1) := dk_3 (dk_at dksX0_loads_0 22 rfl rfl)
theorem dX0_loads_23 : decode cX0_loads 23 = .ok (.bipush 30, 2) := dk_16 30 (dk_at dksX0_loads_1 0 rfl rfl)
theorem dX0_loads_25 : decode cX0_loads 25 = .ok (.invokestatic 9, 3) := dk_184 0 9 (dk_at dksX0_loads_1 2 rfl rfl)
theorem dX0_loads_28 : decode cX0_loads 28 = .ok (.ifCond .eq 23, 3) := dk_153 0 23 (dk_at dksX0_loads_1 5 rfl rfl)
theorem dX0_loads_31 : decode cX0_loads 31 = .ok (.aload_n 0, 1) := dk_42 (dk_at dksX0_loads_1 8 rfl rfl)
theorem dX0_loads_32 : decode cX0_loads 32 = .ok (.getfield 71, 3) := dk_180 0 71 (dk_at dksX0_loads_1 9 rfl rfl)
theorem dX0_loads_35 : decode cX0_loads 35 = .ok (.getfield 146, 3) := dk_180 0 146 (dk_at dksX0_loads_1 12 rfl rfl)
theorem dX0_loads_38 : decode cX0_loads 38 = .ok (.iload_n 2, 1) := dk_28 (dk_at dksX0_loads_1 15 rfl rfl)
theorem dX0_loads_39 : decode cX0_loads 39 = .ok (.aload_n 1, 1) := dk_43 (dk_at dksX0_loads_1 16 rfl rfl)
theorem dX0_loads_40 : decode cX0_loads 40 = .ok (.iload_n 2, 1) := dk_28 (dk_at dksX0_loads_1 17 rfl rfl)
theorem dX0_loads_41 : decode cX0_loads 41 = .ok (.invokestatic 306, 3) := dk_184 1 50 (dk_at dksX0_loads_1 18 rfl rfl)
theorem dX0_loads_44 : decode cX0_loads 44 = .ok (.iastore, 1) := dk_79 (dk_at dksX0_loads_1 21 rfl rfl)
theorem dX0_loads_45 : decode cX0_loads 45 = .ok (.iinc 2 1, 3) := dk_132 2 1 (dk_at dksX0_loads_2 0 rfl rfl)
theorem dX0_loads_48 : decode cX0_loads 48 = .ok (.goto (-46), 3) := dk_167 255 210 (dk_at dksX0_loads_2 3 rfl rfl)
theorem dX0_loads_51 : decode cX0_loads 51 = .ok (.iload_n 2, 1) := dk_28 (dk_at dksX0_loads_2 6 rfl rfl)
theorem dX0_loads_52 : decode cX0_loads 52 = .ok (.ireturn, 1) := dk_172 (dk_at dksX0_loads_2 7 rfl rfl)
abbrev cX0_judge : ByteArray := prog_1_method_100_code
def yX0_judge : MethodName := ⟨RX0, "judge", "(I)I"⟩
def dkwX0_judge_2 : List UInt8 := [180, 0, 114, 182, 0, 124, 172]
abbrev dktX0_judge_2 : List UInt8 := dkwX0_judge_2 ++ []
def dkwX0_judge_1 : List UInt8 := [182, 1, 154, 62, 29, 44, 184, 1, 46, 160, 0, 7, 3, 167, 0, 6, 4, 29, 96, 172, 77, 42, 44]
abbrev dktX0_judge_1 : List UInt8 := dkwX0_judge_1 ++ dktX0_judge_2
def dkwX0_judge_0 : List UInt8 := [42, 27, 182, 1, 57, 77, 42, 44, 198, 0, 7, 4, 167, 0, 4, 3, 8, 182, 1, 61, 42, 44]
abbrev dktX0_judge_0 : List UInt8 := dkwX0_judge_0 ++ dktX0_judge_1
theorem dksX0_judge_0 : cX0_judge.data.toList.drop 0 = dktX0_judge_0 := by decide +kernel
theorem dksX0_judge_1 : cX0_judge.data.toList.drop 22 = dktX0_judge_1 := dk_seg dksX0_judge_0 22 rfl rfl
theorem dksX0_judge_2 : cX0_judge.data.toList.drop 45 = dktX0_judge_2 := dk_seg dksX0_judge_1 23 rfl rfl
theorem dX0_judge_0 : decode cX0_judge 0 = .ok (.aload_n 0, 1) := dk_42 (dk_at dksX0_judge_0 0 rfl rfl)
theorem dX0_judge_1 : decode cX0_judge 1 = .ok (.iload_n 1, 1) := dk_27 (dk_at dksX0_judge_0 1 rfl rfl)
theorem dX0_judge_2 : decode cX0_judge 2 = .ok (.invokevirtual 313, 3) := dk_182 1 57 (dk_at dksX0_judge_0 2 rfl rfl)
theorem dX0_judge_5 : decode cX0_judge 5 = .ok (.astore_n 2, 1) := dk_77 (dk_at dksX0_judge_0 5 rfl rfl)
theorem dX0_judge_6 : decode cX0_judge 6 = .ok (.aload_n 0, 1) := dk_42 (dk_at dksX0_judge_0 6 rfl rfl)
theorem dX0_judge_7 : decode cX0_judge 7 = .ok (.aload_n 2, 1) := dk_44 (dk_at dksX0_judge_0 7 rfl rfl)
theorem dX0_judge_8 : decode cX0_judge 8 = .ok (.ifnull 7, 3) := dk_198 0 7 (dk_at dksX0_judge_0 8 rfl rfl)
theorem dX0_judge_11 : decode cX0_judge 11 = .ok (.iconst 1, 1) := dk_4 (dk_at dksX0_judge_0 11 rfl rfl)
theorem dX0_judge_12 : decode cX0_judge 12 = .ok (.goto 4, 3) := dk_167 0 4 (dk_at dksX0_judge_0 12 rfl rfl)
theorem dX0_judge_15 : decode cX0_judge 15 = .ok (.iconst 0, 1) := dk_3 (dk_at dksX0_judge_0 15 rfl rfl)
theorem dX0_judge_16 : decode cX0_judge 16 = .ok (.iconst 5, 1) := dk_8 (dk_at dksX0_judge_0 16 rfl rfl)
theorem dX0_judge_17 : decode cX0_judge 17 = .ok (.invokevirtual 317, 3) := dk_182 1 61 (dk_at dksX0_judge_0 17 rfl rfl)
theorem dX0_judge_20 : decode cX0_judge 20 = .ok (.aload_n 0, 1) := dk_42 (dk_at dksX0_judge_0 20 rfl rfl)
theorem dX0_judge_21 : decode cX0_judge 21 = .ok (.aload_n 2, 1) := dk_44 (dk_at dksX0_judge_0 21 rfl rfl)
theorem dX0_judge_22 : decode cX0_judge 22 = .ok (.invokevirtual 410, 3) := dk_182 1 154 (dk_at dksX0_judge_1 0 rfl rfl)
theorem dX0_judge_25 : decode cX0_judge 25 = .ok (.istore_n 3, 1) := dk_62 (dk_at dksX0_judge_1 3 rfl rfl)
theorem dX0_judge_26 : decode cX0_judge 26 = .ok (.iload_n 3, 1) := dk_29 (dk_at dksX0_judge_1 4 rfl rfl)
theorem dX0_judge_27 : decode cX0_judge 27 = .ok (.aload_n 2, 1) := dk_44 (dk_at dksX0_judge_1 5 rfl rfl)
theorem dX0_judge_28 : decode cX0_judge 28 = .ok (.invokestatic 302, 3) := dk_184 1 46 (dk_at dksX0_judge_1 6 rfl rfl)
theorem dX0_judge_31 : decode cX0_judge 31 = .ok (.if_icmp .ne 7, 3) := dk_160 0 7 (dk_at dksX0_judge_1 9 rfl rfl)
theorem dX0_judge_34 : decode cX0_judge 34 = .ok (.iconst 0, 1) := dk_3 (dk_at dksX0_judge_1 12 rfl rfl)
theorem dX0_judge_35 : decode cX0_judge 35 = .ok (.goto 6, 3) := dk_167 0 6 (dk_at dksX0_judge_1 13 rfl rfl)
theorem dX0_judge_38 : decode cX0_judge 38 = .ok (.iconst 1, 1) := dk_4 (dk_at dksX0_judge_1 16 rfl rfl)
theorem dX0_judge_39 : decode cX0_judge 39 = .ok (.iload_n 3, 1) := dk_29 (dk_at dksX0_judge_1 17 rfl rfl)
theorem dX0_judge_40 : decode cX0_judge 40 = .ok (.iadd, 1) := dk_96 (dk_at dksX0_judge_1 18 rfl rfl)
theorem dX0_judge_41 : decode cX0_judge 41 = .ok (.ireturn, 1) := dk_172 (dk_at dksX0_judge_1 19 rfl rfl)
theorem dX0_judge_42 : decode cX0_judge 42 = .ok (.astore_n 2, 1) := dk_77 (dk_at dksX0_judge_1 20 rfl rfl)
theorem dX0_judge_43 : decode cX0_judge 43 = .ok (.aload_n 0, 1) := dk_42 (dk_at dksX0_judge_1 21 rfl rfl)
theorem dX0_judge_44 : decode cX0_judge 44 = .ok (.aload_n 2, 1) := dk_44 (dk_at dksX0_judge_1 22 rfl rfl)
theorem dX0_judge_45 : decode cX0_judge 45 = .ok (.getfield 114, 3) := dk_180 0 114 (dk_at dksX0_judge_2 0 rfl rfl)
theorem dX0_judge_48 : decode cX0_judge 48 = .ok (.invokevirtual 124, 3) := dk_182 0 124 (dk_at dksX0_judge_2 3 rfl rfl)
theorem dX0_judge_51 : decode cX0_judge 51 = .ok (.ireturn, 1) := dk_172 (dk_at dksX0_judge_2 6 rfl rfl)
abbrev cX0_rightOnes : ByteArray := prog_1_method_99_code
def yX0_rightOnes : MethodName := ⟨RX0, "rightOnes", "(Ljava/lang/Object;)I"⟩
def dkwX0_rightOnes_3 : List UInt8 := [180, 0, 71, 42, 180, 0, 78, 182, 0, 155, 25, 4, 191]
abbrev dktX0_rightOnes_3 : List UInt8 := dkwX0_rightOnes_3 ++ []
def dkwX0_rightOnes_2 : List UInt8 := [132, 2, 1, 167, 255, 221, 28, 62, 42, 180, 0, 71, 42, 180, 0, 78, 182, 0, 155, 29, 172, 58, 4, 42]
abbrev dktX0_rightOnes_2 : List UInt8 := dkwX0_rightOnes_2 ++ dktX0_rightOnes_3
def dkwX0_rightOnes_1 : List UInt8 := [184, 1, 50, 42, 180, 0, 71, 180, 0, 133, 3, 46, 160, 0, 16, 42, 180, 0, 71, 182, 0, 126]
abbrev dktX0_rightOnes_1 : List UInt8 := dkwX0_rightOnes_1 ++ dktX0_rightOnes_2
def dkwX0_rightOnes_0 : List UInt8 := [42, 180, 0, 78, 42, 180, 0, 71, 182, 0, 155, 3, 61, 28, 43, 184, 1, 46, 162, 0, 33, 43, 28]
abbrev dktX0_rightOnes_0 : List UInt8 := dkwX0_rightOnes_0 ++ dktX0_rightOnes_1
theorem dksX0_rightOnes_0 : cX0_rightOnes.data.toList.drop 0 = dktX0_rightOnes_0 := by decide +kernel
theorem dksX0_rightOnes_1 : cX0_rightOnes.data.toList.drop 23 = dktX0_rightOnes_1 := dk_seg dksX0_rightOnes_0 23 rfl rfl
theorem dksX0_rightOnes_2 : cX0_rightOnes.data.toList.drop 45 = dktX0_rightOnes_2 := dk_seg dksX0_rightOnes_1 22 rfl rfl
theorem dksX0_rightOnes_3 : cX0_rightOnes.data.toList.drop 69 = dktX0_rightOnes_3 := dk_seg dksX0_rightOnes_2 24 rfl rfl
theorem dX0_rightOnes_0 : decode cX0_rightOnes 0 = .ok (.aload_n 0, 1) := dk_42 (dk_at dksX0_rightOnes_0 0 rfl rfl)
theorem dX0_rightOnes_1 : decode cX0_rightOnes 1 = .ok (.getfield 78, 3) := dk_180 0 78 (dk_at dksX0_rightOnes_0 1 rfl rfl)
theorem dX0_rightOnes_4 : decode cX0_rightOnes 4 = .ok (.aload_n 0, 1) := dk_42 (dk_at dksX0_rightOnes_0 4 rfl rfl)
theorem dX0_rightOnes_5 : decode cX0_rightOnes 5 = .ok (.getfield 71, 3) := dk_180 0 71 (dk_at dksX0_rightOnes_0 5 rfl rfl)
theorem dX0_rightOnes_8 : decode cX0_rightOnes 8 = .ok (.invokevirtual 155, 3) := dk_182 0 155 (dk_at dksX0_rightOnes_0 8 rfl rfl)
theorem dX0_rightOnes_11 : decode cX0_rightOnes 11 = .ok (.iconst 0, 1) := dk_3 (dk_at dksX0_rightOnes_0 11 rfl rfl)
theorem dX0_rightOnes_12 : decode cX0_rightOnes 12 = .ok (.istore_n 2, 1) := dk_61 (dk_at dksX0_rightOnes_0 12 rfl rfl)
theorem dX0_rightOnes_13 : decode cX0_rightOnes 13 = .ok (.iload_n 2, 1) := dk_28 (dk_at dksX0_rightOnes_0 13 rfl rfl)
theorem dX0_rightOnes_14 : decode cX0_rightOnes 14 = .ok (.aload_n 1, 1) := dk_43 (dk_at dksX0_rightOnes_0 14 rfl rfl)
theorem dX0_rightOnes_15 : decode cX0_rightOnes 15 = .ok (.invokestatic 302, 3) := dk_184 1 46 (dk_at dksX0_rightOnes_0 15 rfl rfl)
theorem dX0_rightOnes_18 : decode cX0_rightOnes 18 = .ok (.if_icmp .ge 33, 3) := dk_162 0 33 (dk_at dksX0_rightOnes_0 18 rfl rfl)
theorem dX0_rightOnes_21 : decode cX0_rightOnes 21 = .ok (.aload_n 1, 1) := dk_43 (dk_at dksX0_rightOnes_0 21 rfl rfl)
theorem dX0_rightOnes_22 : decode cX0_rightOnes 22 = .ok (.iload_n 2, 1) := dk_28 (dk_at dksX0_rightOnes_0 22 rfl rfl)
theorem dX0_rightOnes_23 : decode cX0_rightOnes 23 = .ok (.invokestatic 306, 3) := dk_184 1 50 (dk_at dksX0_rightOnes_1 0 rfl rfl)
theorem dX0_rightOnes_26 : decode cX0_rightOnes 26 = .ok (.aload_n 0, 1) := dk_42 (dk_at dksX0_rightOnes_1 3 rfl rfl)
theorem dX0_rightOnes_27 : decode cX0_rightOnes 27 = .ok (.getfield 71, 3) := dk_180 0 71 (dk_at dksX0_rightOnes_1 4 rfl rfl)
theorem dX0_rightOnes_30 : decode cX0_rightOnes 30 = .ok (.getfield 133, 3) := dk_180 0 133 (dk_at dksX0_rightOnes_1 7 rfl rfl)
theorem dX0_rightOnes_33 : decode cX0_rightOnes 33 = .ok (.iconst 0, 1) := dk_3 (dk_at dksX0_rightOnes_1 10 rfl rfl)
theorem dX0_rightOnes_34 : decode cX0_rightOnes 34 = .ok (.iaload, 1) := dk_46 (dk_at dksX0_rightOnes_1 11 rfl rfl)
theorem dX0_rightOnes_35 : decode cX0_rightOnes 35 = .ok (.if_icmp .ne 16, 3) := dk_160 0 16 (dk_at dksX0_rightOnes_1 12 rfl rfl)
theorem dX0_rightOnes_38 : decode cX0_rightOnes 38 = .ok (.aload_n 0, 1) := dk_42 (dk_at dksX0_rightOnes_1 15 rfl rfl)
theorem dX0_rightOnes_39 : decode cX0_rightOnes 39 = .ok (.getfield 71, 3) := dk_180 0 71 (dk_at dksX0_rightOnes_1 16 rfl rfl)
theorem dX0_rightOnes_42 : decode cX0_rightOnes 42 = .ok (.invokevirtual 126, 3) := dk_182 0 126 (dk_at dksX0_rightOnes_1 19 rfl rfl)
theorem dX0_rightOnes_45 : decode cX0_rightOnes 45 = .ok (.iinc 2 1, 3) := dk_132 2 1 (dk_at dksX0_rightOnes_2 0 rfl rfl)
theorem dX0_rightOnes_48 : decode cX0_rightOnes 48 = .ok (.goto (-35), 3) := dk_167 255 221 (dk_at dksX0_rightOnes_2 3 rfl rfl)
theorem dX0_rightOnes_51 : decode cX0_rightOnes 51 = .ok (.iload_n 2, 1) := dk_28 (dk_at dksX0_rightOnes_2 6 rfl rfl)
theorem dX0_rightOnes_52 : decode cX0_rightOnes 52 = .ok (.istore_n 3, 1) := dk_62 (dk_at dksX0_rightOnes_2 7 rfl rfl)
theorem dX0_rightOnes_53 : decode cX0_rightOnes 53 = .ok (.aload_n 0, 1) := dk_42 (dk_at dksX0_rightOnes_2 8 rfl rfl)
theorem dX0_rightOnes_54 : decode cX0_rightOnes 54 = .ok (.getfield 71, 3) := dk_180 0 71 (dk_at dksX0_rightOnes_2 9 rfl rfl)
theorem dX0_rightOnes_57 : decode cX0_rightOnes 57 = .ok (.aload_n 0, 1) := dk_42 (dk_at dksX0_rightOnes_2 12 rfl rfl)
theorem dX0_rightOnes_58 : decode cX0_rightOnes 58 = .ok (.getfield 78, 3) := dk_180 0 78 (dk_at dksX0_rightOnes_2 13 rfl rfl)
theorem dX0_rightOnes_61 : decode cX0_rightOnes 61 = .ok (.invokevirtual 155, 3) := dk_182 0 155 (dk_at dksX0_rightOnes_2 16 rfl rfl)
theorem dX0_rightOnes_64 : decode cX0_rightOnes 64 = .ok (.iload_n 3, 1) := dk_29 (dk_at dksX0_rightOnes_2 19 rfl rfl)
theorem dX0_rightOnes_65 : decode cX0_rightOnes 65 = .ok (.ireturn, 1) := dk_172 (dk_at dksX0_rightOnes_2 20 rfl rfl)
theorem dX0_rightOnes_66 : decode cX0_rightOnes 66 = .ok (.astore 4, 2) := dk_58 4 (dk_at dksX0_rightOnes_2 21 rfl rfl)
theorem dX0_rightOnes_68 : decode cX0_rightOnes 68 = .ok (.aload_n 0, 1) := dk_42 (dk_at dksX0_rightOnes_2 23 rfl rfl)
theorem dX0_rightOnes_69 : decode cX0_rightOnes 69 = .ok (.getfield 71, 3) := dk_180 0 71 (dk_at dksX0_rightOnes_3 0 rfl rfl)
theorem dX0_rightOnes_72 : decode cX0_rightOnes 72 = .ok (.aload_n 0, 1) := dk_42 (dk_at dksX0_rightOnes_3 3 rfl rfl)
theorem dX0_rightOnes_73 : decode cX0_rightOnes 73 = .ok (.getfield 78, 3) := dk_180 0 78 (dk_at dksX0_rightOnes_3 4 rfl rfl)
theorem dX0_rightOnes_76 : decode cX0_rightOnes 76 = .ok (.invokevirtual 155, 3) := dk_182 0 155 (dk_at dksX0_rightOnes_3 7 rfl rfl)
theorem dX0_rightOnes_79 : decode cX0_rightOnes 79 = .ok (.aload 4, 2) := dk_25 4 (dk_at dksX0_rightOnes_3 10 rfl rfl)
theorem dX0_rightOnes_81 : decode cX0_rightOnes 81 = .ok (.athrow, 1) := dk_191 (dk_at dksX0_rightOnes_3 12 rfl rfl)
abbrev cX0_image : ByteArray := prog_1_method_101_code
def yX0_image : MethodName := ⟨RX0, "image", "()I"⟩
def dkwX0_image_0 : List UInt8 := [42, 180, 0, 75, 42, 180, 0, 71, 182, 0, 155, 42, 4, 181, 1, 157, 4, 172]
abbrev dktX0_image_0 : List UInt8 := dkwX0_image_0 ++ []
theorem dksX0_image_0 : cX0_image.data.toList.drop 0 = dktX0_image_0 := by decide +kernel
theorem dX0_image_0 : decode cX0_image 0 = .ok (.aload_n 0, 1) := dk_42 (dk_at dksX0_image_0 0 rfl rfl)
theorem dX0_image_1 : decode cX0_image 1 = .ok (.getfield 75, 3) := dk_180 0 75 (dk_at dksX0_image_0 1 rfl rfl)
theorem dX0_image_4 : decode cX0_image 4 = .ok (.aload_n 0, 1) := dk_42 (dk_at dksX0_image_0 4 rfl rfl)
theorem dX0_image_5 : decode cX0_image 5 = .ok (.getfield 71, 3) := dk_180 0 71 (dk_at dksX0_image_0 5 rfl rfl)
theorem dX0_image_8 : decode cX0_image 8 = .ok (.invokevirtual 155, 3) := dk_182 0 155 (dk_at dksX0_image_0 8 rfl rfl)
theorem dX0_image_11 : decode cX0_image 11 = .ok (.aload_n 0, 1) := dk_42 (dk_at dksX0_image_0 11 rfl rfl)
theorem dX0_image_12 : decode cX0_image 12 = .ok (.iconst 1, 1) := dk_4 (dk_at dksX0_image_0 12 rfl rfl)
theorem dX0_image_13 : decode cX0_image 13 = .ok (.putfield 413, 3) := dk_181 1 157 (dk_at dksX0_image_0 13 rfl rfl)
theorem dX0_image_16 : decode cX0_image 16 = .ok (.iconst 1, 1) := dk_4 (dk_at dksX0_image_0 16 rfl rfl)
theorem dX0_image_17 : decode cX0_image 17 = .ok (.ireturn, 1) := dk_172 (dk_at dksX0_image_0 17 rfl rfl)
abbrev cX0_undo : ByteArray := prog_1_method_102_code
def yX0_undo : MethodName := ⟨RX0, "undo", "()I"⟩
def dkwX0_undo_1 : List UInt8 := [42, 180, 0, 71, 180, 0, 221, 172]
abbrev dktX0_undo_1 : List UInt8 := dkwX0_undo_1 ++ []
def dkwX0_undo_0 : List UInt8 := [42, 180, 1, 157, 154, 0, 9, 42, 6, 182, 0, 124, 172, 42, 180, 0, 71, 42, 180, 0, 75, 182, 0, 155]
abbrev dktX0_undo_0 : List UInt8 := dkwX0_undo_0 ++ dktX0_undo_1
theorem dksX0_undo_0 : cX0_undo.data.toList.drop 0 = dktX0_undo_0 := by decide +kernel
theorem dksX0_undo_1 : cX0_undo.data.toList.drop 24 = dktX0_undo_1 := dk_seg dksX0_undo_0 24 rfl rfl
theorem dX0_undo_0 : decode cX0_undo 0 = .ok (.aload_n 0, 1) := dk_42 (dk_at dksX0_undo_0 0 rfl rfl)
theorem dX0_undo_1 : decode cX0_undo 1 = .ok (.getfield 413, 3) := dk_180 1 157 (dk_at dksX0_undo_0 1 rfl rfl)
theorem dX0_undo_4 : decode cX0_undo 4 = .ok (.ifCond .ne 9, 3) := dk_154 0 9 (dk_at dksX0_undo_0 4 rfl rfl)
theorem dX0_undo_7 : decode cX0_undo 7 = .ok (.aload_n 0, 1) := dk_42 (dk_at dksX0_undo_0 7 rfl rfl)
theorem dX0_undo_8 : decode cX0_undo 8 = .ok (.iconst 3, 1) := dk_6 (dk_at dksX0_undo_0 8 rfl rfl)
theorem dX0_undo_9 : decode cX0_undo 9 = .ok (.invokevirtual 124, 3) := dk_182 0 124 (dk_at dksX0_undo_0 9 rfl rfl)
theorem dX0_undo_12 : decode cX0_undo 12 = .ok (.ireturn, 1) := dk_172 (dk_at dksX0_undo_0 12 rfl rfl)
theorem dX0_undo_13 : decode cX0_undo 13 = .ok (.aload_n 0, 1) := dk_42 (dk_at dksX0_undo_0 13 rfl rfl)
theorem dX0_undo_14 : decode cX0_undo 14 = .ok (.getfield 71, 3) := dk_180 0 71 (dk_at dksX0_undo_0 14 rfl rfl)
theorem dX0_undo_17 : decode cX0_undo 17 = .ok (.aload_n 0, 1) := dk_42 (dk_at dksX0_undo_0 17 rfl rfl)
theorem dX0_undo_18 : decode cX0_undo 18 = .ok (.getfield 75, 3) := dk_180 0 75 (dk_at dksX0_undo_0 18 rfl rfl)
theorem dX0_undo_21 : decode cX0_undo 21 = .ok (.invokevirtual 155, 3) := dk_182 0 155 (dk_at dksX0_undo_0 21 rfl rfl)
theorem dX0_undo_24 : decode cX0_undo 24 = .ok (.aload_n 0, 1) := dk_42 (dk_at dksX0_undo_1 0 rfl rfl)
theorem dX0_undo_25 : decode cX0_undo 25 = .ok (.getfield 71, 3) := dk_180 0 71 (dk_at dksX0_undo_1 1 rfl rfl)
theorem dX0_undo_28 : decode cX0_undo 28 = .ok (.getfield 221, 3) := dk_180 0 221 (dk_at dksX0_undo_1 4 rfl rfl)
theorem dX0_undo_31 : decode cX0_undo 31 = .ok (.ireturn, 1) := dk_172 (dk_at dksX0_undo_1 7 rfl rfl)
abbrev cX0_tear : ByteArray := prog_1_method_103_code
def yX0_tear : MethodName := ⟨RX0, "tear", "()I"⟩
def dkwX0_tear_0 : List UInt8 := [42, 180, 1, 157, 153, 0, 7, 4, 167, 0, 4, 3, 60, 42, 3, 181, 1, 157, 27, 172]
abbrev dktX0_tear_0 : List UInt8 := dkwX0_tear_0 ++ []
theorem dksX0_tear_0 : cX0_tear.data.toList.drop 0 = dktX0_tear_0 := by decide +kernel
theorem dX0_tear_0 : decode cX0_tear 0 = .ok (.aload_n 0, 1) := dk_42 (dk_at dksX0_tear_0 0 rfl rfl)
theorem dX0_tear_1 : decode cX0_tear 1 = .ok (.getfield 413, 3) := dk_180 1 157 (dk_at dksX0_tear_0 1 rfl rfl)
theorem dX0_tear_4 : decode cX0_tear 4 = .ok (.ifCond .eq 7, 3) := dk_153 0 7 (dk_at dksX0_tear_0 4 rfl rfl)
theorem dX0_tear_7 : decode cX0_tear 7 = .ok (.iconst 1, 1) := dk_4 (dk_at dksX0_tear_0 7 rfl rfl)
theorem dX0_tear_8 : decode cX0_tear 8 = .ok (.goto 4, 3) := dk_167 0 4 (dk_at dksX0_tear_0 8 rfl rfl)
theorem dX0_tear_11 : decode cX0_tear 11 = .ok (.iconst 0, 1) := dk_3 (dk_at dksX0_tear_0 11 rfl rfl)
theorem dX0_tear_12 : decode cX0_tear 12 = .ok (.istore_n 1, 1) := dk_60 (dk_at dksX0_tear_0 12 rfl rfl)
theorem dX0_tear_13 : decode cX0_tear 13 = .ok (.aload_n 0, 1) := dk_42 (dk_at dksX0_tear_0 13 rfl rfl)
theorem dX0_tear_14 : decode cX0_tear 14 = .ok (.iconst 0, 1) := dk_3 (dk_at dksX0_tear_0 14 rfl rfl)
theorem dX0_tear_15 : decode cX0_tear 15 = .ok (.putfield 413, 3) := dk_181 1 157 (dk_at dksX0_tear_0 15 rfl rfl)
theorem dX0_tear_18 : decode cX0_tear 18 = .ok (.iload_n 1, 1) := dk_27 (dk_at dksX0_tear_0 18 rfl rfl)
theorem dX0_tear_19 : decode cX0_tear 19 = .ok (.ireturn, 1) := dk_172 (dk_at dksX0_tear_0 19 rfl rfl)
abbrev cX0_count : ByteArray := prog_1_method_104_code
def yX0_count : MethodName := ⟨RX0, "count", "(I)I"⟩
def dkwX0_count_4 : List UInt8 := [180, 0, 71, 180, 1, 87, 172, 42, 182, 1, 164, 172, 42, 3, 182, 0, 124, 172]
abbrev dktX0_count_4 : List UInt8 := dkwX0_count_4 ++ []
def dkwX0_count_3 : List UInt8 := [42, 180, 0, 71, 182, 0, 230, 172, 42, 180, 0, 71, 182, 0, 233, 172, 42, 180, 1, 90, 172, 42]
abbrev dktX0_count_3 : List UInt8 := dkwX0_count_3 ++ dktX0_count_4
def dkwX0_count_2 : List UInt8 := [42, 180, 0, 71, 180, 0, 221, 172, 42, 180, 0, 71, 180, 0, 122, 172, 42, 182, 0, 227, 184, 1, 161, 172]
abbrev dktX0_count_2 : List UInt8 := dkwX0_count_2 ++ dktX0_count_3
def dkwX0_count_1 : List UInt8 := [170, 0, 0, 0, 0, 0, 105, 0, 0, 0, 0, 0, 0, 0, 7, 0, 0, 0, 47, 0, 0, 0, 55, 0, 0, 0, 63, 0, 0, 0, 71, 0, 0, 0, 79, 0, 0, 0, 87, 0, 0, 0, 92, 0, 0, 0, 100]
abbrev dktX0_count_1 : List UInt8 := dkwX0_count_1 ++ dktX0_count_2
def dkwX0_count_0 : List UInt8 := [27]
abbrev dktX0_count_0 : List UInt8 := dkwX0_count_0 ++ dktX0_count_1
theorem dksX0_count_0 : cX0_count.data.toList.drop 0 = dktX0_count_0 := by decide +kernel
theorem dksX0_count_1 : cX0_count.data.toList.drop 1 = dktX0_count_1 := dk_seg dksX0_count_0 1 rfl rfl
theorem dksX0_count_2 : cX0_count.data.toList.drop 48 = dktX0_count_2 := dk_seg dksX0_count_1 47 rfl rfl
theorem dksX0_count_3 : cX0_count.data.toList.drop 72 = dktX0_count_3 := dk_seg dksX0_count_2 24 rfl rfl
theorem dksX0_count_4 : cX0_count.data.toList.drop 94 = dktX0_count_4 := dk_seg dksX0_count_3 22 rfl rfl
theorem dX0_count_0 : decode cX0_count 0 = .ok (.iload_n 1, 1) := dk_27 (dk_at dksX0_count_0 0 rfl rfl)
theorem dX0_count_1 : decode cX0_count 1 = .ok (.tableswitch 105 0 7 #[47, 55, 63, 71, 79, 87, 92, 100], 47) := by decide +kernel
theorem dX0_count_48 : decode cX0_count 48 = .ok (.aload_n 0, 1) := dk_42 (dk_at dksX0_count_2 0 rfl rfl)
theorem dX0_count_49 : decode cX0_count 49 = .ok (.getfield 71, 3) := dk_180 0 71 (dk_at dksX0_count_2 1 rfl rfl)
theorem dX0_count_52 : decode cX0_count 52 = .ok (.getfield 221, 3) := dk_180 0 221 (dk_at dksX0_count_2 4 rfl rfl)
theorem dX0_count_55 : decode cX0_count 55 = .ok (.ireturn, 1) := dk_172 (dk_at dksX0_count_2 7 rfl rfl)
theorem dX0_count_56 : decode cX0_count 56 = .ok (.aload_n 0, 1) := dk_42 (dk_at dksX0_count_2 8 rfl rfl)
theorem dX0_count_57 : decode cX0_count 57 = .ok (.getfield 71, 3) := dk_180 0 71 (dk_at dksX0_count_2 9 rfl rfl)
theorem dX0_count_60 : decode cX0_count 60 = .ok (.getfield 122, 3) := dk_180 0 122 (dk_at dksX0_count_2 12 rfl rfl)
theorem dX0_count_63 : decode cX0_count 63 = .ok (.ireturn, 1) := dk_172 (dk_at dksX0_count_2 15 rfl rfl)
theorem dX0_count_64 : decode cX0_count 64 = .ok (.aload_n 0, 1) := dk_42 (dk_at dksX0_count_2 16 rfl rfl)
theorem dX0_count_65 : decode cX0_count 65 = .ok (.invokevirtual 227, 3) := dk_182 0 227 (dk_at dksX0_count_2 17 rfl rfl)
theorem dX0_count_68 : decode cX0_count 68 = .ok (.invokestatic 417, 3) := dk_184 1 161 (dk_at dksX0_count_2 20 rfl rfl)
theorem dX0_count_71 : decode cX0_count 71 = .ok (.ireturn, 1) := dk_172 (dk_at dksX0_count_2 23 rfl rfl)
theorem dX0_count_72 : decode cX0_count 72 = .ok (.aload_n 0, 1) := dk_42 (dk_at dksX0_count_3 0 rfl rfl)
theorem dX0_count_73 : decode cX0_count 73 = .ok (.getfield 71, 3) := dk_180 0 71 (dk_at dksX0_count_3 1 rfl rfl)
theorem dX0_count_76 : decode cX0_count 76 = .ok (.invokevirtual 230, 3) := dk_182 0 230 (dk_at dksX0_count_3 4 rfl rfl)
theorem dX0_count_79 : decode cX0_count 79 = .ok (.ireturn, 1) := dk_172 (dk_at dksX0_count_3 7 rfl rfl)
theorem dX0_count_80 : decode cX0_count 80 = .ok (.aload_n 0, 1) := dk_42 (dk_at dksX0_count_3 8 rfl rfl)
theorem dX0_count_81 : decode cX0_count 81 = .ok (.getfield 71, 3) := dk_180 0 71 (dk_at dksX0_count_3 9 rfl rfl)
theorem dX0_count_84 : decode cX0_count 84 = .ok (.invokevirtual 233, 3) := dk_182 0 233 (dk_at dksX0_count_3 12 rfl rfl)
theorem dX0_count_87 : decode cX0_count 87 = .ok (.ireturn, 1) := dk_172 (dk_at dksX0_count_3 15 rfl rfl)
theorem dX0_count_88 : decode cX0_count 88 = .ok (.aload_n 0, 1) := dk_42 (dk_at dksX0_count_3 16 rfl rfl)
theorem dX0_count_89 : decode cX0_count 89 = .ok (.getfield 346, 3) := dk_180 1 90 (dk_at dksX0_count_3 17 rfl rfl)
theorem dX0_count_92 : decode cX0_count 92 = .ok (.ireturn, 1) := dk_172 (dk_at dksX0_count_3 20 rfl rfl)
theorem dX0_count_93 : decode cX0_count 93 = .ok (.aload_n 0, 1) := dk_42 (dk_at dksX0_count_3 21 rfl rfl)
theorem dX0_count_94 : decode cX0_count 94 = .ok (.getfield 71, 3) := dk_180 0 71 (dk_at dksX0_count_4 0 rfl rfl)
theorem dX0_count_97 : decode cX0_count 97 = .ok (.getfield 343, 3) := dk_180 1 87 (dk_at dksX0_count_4 3 rfl rfl)
theorem dX0_count_100 : decode cX0_count 100 = .ok (.ireturn, 1) := dk_172 (dk_at dksX0_count_4 6 rfl rfl)
theorem dX0_count_101 : decode cX0_count 101 = .ok (.aload_n 0, 1) := dk_42 (dk_at dksX0_count_4 7 rfl rfl)
theorem dX0_count_102 : decode cX0_count 102 = .ok (.invokevirtual 420, 3) := dk_182 1 164 (dk_at dksX0_count_4 8 rfl rfl)
theorem dX0_count_105 : decode cX0_count 105 = .ok (.ireturn, 1) := dk_172 (dk_at dksX0_count_4 11 rfl rfl)
theorem dX0_count_106 : decode cX0_count 106 = .ok (.aload_n 0, 1) := dk_42 (dk_at dksX0_count_4 12 rfl rfl)
theorem dX0_count_107 : decode cX0_count 107 = .ok (.iconst 0, 1) := dk_3 (dk_at dksX0_count_4 13 rfl rfl)
theorem dX0_count_108 : decode cX0_count 108 = .ok (.invokevirtual 124, 3) := dk_182 0 124 (dk_at dksX0_count_4 14 rfl rfl)
theorem dX0_count_111 : decode cX0_count 111 = .ok (.ireturn, 1) := dk_172 (dk_at dksX0_count_4 17 rfl rfl)
abbrev cX0_ones : ByteArray := prog_1_method_3_code
def yX0_ones : MethodName := ⟨RX0, "ones", "(I)I"⟩
theorem dX0_ones_0 : decode cX0_ones 0 = .ok (.iload_n 0, 1) := by decide +kernel
theorem dX0_ones_1 : decode cX0_ones 1 = .ok (.invokestatic 1, 3) := by decide +kernel
theorem dX0_ones_4 : decode cX0_ones 4 = .ok (.ireturn, 1) := by decide +kernel
abbrev cX0_holding : ByteArray := prog_1_method_84_code
def yX0_holding : MethodName := ⟨RX0, "holding", "()I"⟩
def dkwX0_holding_2 : List UInt8 := [167, 255, 227, 27, 172]
abbrev dktX0_holding_2 : List UInt8 := dkwX0_holding_2 ++ []
def dkwX0_holding_1 : List UInt8 := [21, 4, 46, 54, 5, 27, 21, 5, 2, 160, 0, 7, 3, 167, 0, 4, 4, 96, 60, 132, 4, 1]
abbrev dktX0_holding_1 : List UInt8 := dkwX0_holding_1 ++ dktX0_holding_2
def dkwX0_holding_0 : List UInt8 := [3, 60, 42, 180, 0, 71, 180, 1, 110, 77, 44, 190, 62, 3, 54, 4, 21, 4, 29, 162, 0, 29, 44]
abbrev dktX0_holding_0 : List UInt8 := dkwX0_holding_0 ++ dktX0_holding_1
theorem dksX0_holding_0 : cX0_holding.data.toList.drop 0 = dktX0_holding_0 := by decide +kernel
theorem dksX0_holding_1 : cX0_holding.data.toList.drop 23 = dktX0_holding_1 := dk_seg dksX0_holding_0 23 rfl rfl
theorem dksX0_holding_2 : cX0_holding.data.toList.drop 45 = dktX0_holding_2 := dk_seg dksX0_holding_1 22 rfl rfl
theorem dX0_holding_0 : decode cX0_holding 0 = .ok (.iconst 0, 1) := dk_3 (dk_at dksX0_holding_0 0 rfl rfl)
theorem dX0_holding_1 : decode cX0_holding 1 = .ok (.istore_n 1, 1) := dk_60 (dk_at dksX0_holding_0 1 rfl rfl)
theorem dX0_holding_2 : decode cX0_holding 2 = .ok (.aload_n 0, 1) := dk_42 (dk_at dksX0_holding_0 2 rfl rfl)
theorem dX0_holding_3 : decode cX0_holding 3 = .ok (.getfield 71, 3) := dk_180 0 71 (dk_at dksX0_holding_0 3 rfl rfl)
theorem dX0_holding_6 : decode cX0_holding 6 = .ok (.getfield 366, 3) := dk_180 1 110 (dk_at dksX0_holding_0 6 rfl rfl)
theorem dX0_holding_9 : decode cX0_holding 9 = .ok (.astore_n 2, 1) := dk_77 (dk_at dksX0_holding_0 9 rfl rfl)
theorem dX0_holding_10 : decode cX0_holding 10 = .ok (.aload_n 2, 1) := dk_44 (dk_at dksX0_holding_0 10 rfl rfl)
theorem dX0_holding_11 : decode cX0_holding 11 = .ok (.arraylength, 1) := dk_190 (dk_at dksX0_holding_0 11 rfl rfl)
theorem dX0_holding_12 : decode cX0_holding 12 = .ok (.istore_n 3, 1) := dk_62 (dk_at dksX0_holding_0 12 rfl rfl)
theorem dX0_holding_13 : decode cX0_holding 13 = .ok (.iconst 0, 1) := dk_3 (dk_at dksX0_holding_0 13 rfl rfl)
theorem dX0_holding_14 : decode cX0_holding 14 = .ok (.istore 4, 2) := dk_54 4 (dk_at dksX0_holding_0 14 rfl rfl)
theorem dX0_holding_16 : decode cX0_holding 16 = .ok (.iload 4, 2) := dk_21 4 (dk_at dksX0_holding_0 16 rfl rfl)
theorem dX0_holding_18 : decode cX0_holding 18 = .ok (.iload_n 3, 1) := dk_29 (dk_at dksX0_holding_0 18 rfl rfl)
theorem dX0_holding_19 : decode cX0_holding 19 = .ok (.if_icmp .ge 29, 3) := dk_162 0 29 (dk_at dksX0_holding_0 19 rfl rfl)
theorem dX0_holding_22 : decode cX0_holding 22 = .ok (.aload_n 2, 1) := dk_44 (dk_at dksX0_holding_0 22 rfl rfl)
theorem dX0_holding_23 : decode cX0_holding 23 = .ok (.iload 4, 2) := dk_21 4 (dk_at dksX0_holding_1 0 rfl rfl)
theorem dX0_holding_25 : decode cX0_holding 25 = .ok (.iaload, 1) := dk_46 (dk_at dksX0_holding_1 2 rfl rfl)
theorem dX0_holding_26 : decode cX0_holding 26 = .ok (.istore 5, 2) := dk_54 5 (dk_at dksX0_holding_1 3 rfl rfl)
theorem dX0_holding_28 : decode cX0_holding 28 = .ok (.iload_n 1, 1) := dk_27 (dk_at dksX0_holding_1 5 rfl rfl)
theorem dX0_holding_29 : decode cX0_holding 29 = .ok (.iload 5, 2) := dk_21 5 (dk_at dksX0_holding_1 6 rfl rfl)
theorem dX0_holding_31 : decode cX0_holding 31 = .ok (.iconst (-1), 1) := dk_2 (dk_at dksX0_holding_1 8 rfl rfl)
theorem dX0_holding_32 : decode cX0_holding 32 = .ok (.if_icmp .ne 7, 3) := dk_160 0 7 (dk_at dksX0_holding_1 9 rfl rfl)
theorem dX0_holding_35 : decode cX0_holding 35 = .ok (.iconst 0, 1) := dk_3 (dk_at dksX0_holding_1 12 rfl rfl)
theorem dX0_holding_36 : decode cX0_holding 36 = .ok (.goto 4, 3) := dk_167 0 4 (dk_at dksX0_holding_1 13 rfl rfl)
theorem dX0_holding_39 : decode cX0_holding 39 = .ok (.iconst 1, 1) := dk_4 (dk_at dksX0_holding_1 16 rfl rfl)
theorem dX0_holding_40 : decode cX0_holding 40 = .ok (.iadd, 1) := dk_96 (dk_at dksX0_holding_1 17 rfl rfl)
theorem dX0_holding_41 : decode cX0_holding 41 = .ok (.istore_n 1, 1) := dk_60 (dk_at dksX0_holding_1 18 rfl rfl)
theorem dX0_holding_42 : decode cX0_holding 42 = .ok (.iinc 4 1, 3) := dk_132 4 1 (dk_at dksX0_holding_1 19 rfl rfl)
theorem dX0_holding_45 : decode cX0_holding 45 = .ok (.goto (-29), 3) := dk_167 255 227 (dk_at dksX0_holding_2 0 rfl rfl)
theorem dX0_holding_48 : decode cX0_holding 48 = .ok (.iload_n 1, 1) := dk_27 (dk_at dksX0_holding_2 3 rfl rfl)
theorem dX0_holding_49 : decode cX0_holding 49 = .ok (.ireturn, 1) := dk_172 (dk_at dksX0_holding_2 4 rfl rfl)
abbrev cX0_status : ByteArray := prog_1_method_105_code
def yX0_status : MethodName := ⟨RX0, "status", "(I)I"⟩
def dkwX0_status_2 : List UInt8 := [167, 0, 4, 3, 96, 61, 132, 3, 1, 167, 255, 221, 28, 172]
abbrev dktX0_status_2 : List UInt8 := dkwX0_status_2 ++ []
def dkwX0_status_1 : List UInt8 := [180, 0, 96, 190, 162, 0, 32, 28, 27, 2, 159, 0, 8, 27, 29, 160, 0, 12, 42, 180, 0, 96, 29, 46]
abbrev dktX0_status_1 : List UInt8 := dkwX0_status_1 ++ dktX0_status_2
def dkwX0_status_0 : List UInt8 := [27, 2, 16, 6, 184, 0, 9, 154, 0, 9, 42, 3, 182, 0, 124, 172, 3, 61, 3, 62, 29, 42]
abbrev dktX0_status_0 : List UInt8 := dkwX0_status_0 ++ dktX0_status_1
theorem dksX0_status_0 : cX0_status.data.toList.drop 0 = dktX0_status_0 := by decide +kernel
theorem dksX0_status_1 : cX0_status.data.toList.drop 22 = dktX0_status_1 := dk_seg dksX0_status_0 22 rfl rfl
theorem dksX0_status_2 : cX0_status.data.toList.drop 46 = dktX0_status_2 := dk_seg dksX0_status_1 24 rfl rfl
theorem dX0_status_0 : decode cX0_status 0 = .ok (.iload_n 1, 1) := dk_27 (dk_at dksX0_status_0 0 rfl rfl)
theorem dX0_status_1 : decode cX0_status 1 = .ok (.iconst (-1), 1) := dk_2 (dk_at dksX0_status_0 1 rfl rfl)
theorem dX0_status_2 : decode cX0_status 2 = .ok (.bipush 6, 2) := dk_16 6 (dk_at dksX0_status_0 2 rfl rfl)
theorem dX0_status_4 : decode cX0_status 4 = .ok (.invokestatic 9, 3) := dk_184 0 9 (dk_at dksX0_status_0 4 rfl rfl)
theorem dX0_status_7 : decode cX0_status 7 = .ok (.ifCond .ne 9, 3) := dk_154 0 9 (dk_at dksX0_status_0 7 rfl rfl)
theorem dX0_status_10 : decode cX0_status 10 = .ok (.aload_n 0, 1) := dk_42 (dk_at dksX0_status_0 10 rfl rfl)
theorem dX0_status_11 : decode cX0_status 11 = .ok (.iconst 0, 1) := dk_3 (dk_at dksX0_status_0 11 rfl rfl)
theorem dX0_status_12 : decode cX0_status 12 = .ok (.invokevirtual 124, 3) := dk_182 0 124 (dk_at dksX0_status_0 12 rfl rfl)
theorem dX0_status_15 : decode cX0_status 15 = .ok (.ireturn, 1) := dk_172 (dk_at dksX0_status_0 15 rfl rfl)
theorem dX0_status_16 : decode cX0_status 16 = .ok (.iconst 0, 1) := dk_3 (dk_at dksX0_status_0 16 rfl rfl)
theorem dX0_status_17 : decode cX0_status 17 = .ok (.istore_n 2, 1) := dk_61 (dk_at dksX0_status_0 17 rfl rfl)
theorem dX0_status_18 : decode cX0_status 18 = .ok (.iconst 0, 1) := dk_3 (dk_at dksX0_status_0 18 rfl rfl)
theorem dX0_status_19 : decode cX0_status 19 = .ok (.istore_n 3, 1) := dk_62 (dk_at dksX0_status_0 19 rfl rfl)
theorem dX0_status_20 : decode cX0_status 20 = .ok (.iload_n 3, 1) := dk_29 (dk_at dksX0_status_0 20 rfl rfl)
theorem dX0_status_21 : decode cX0_status 21 = .ok (.aload_n 0, 1) := dk_42 (dk_at dksX0_status_0 21 rfl rfl)
theorem dX0_status_22 : decode cX0_status 22 = .ok (.getfield 96, 3) := dk_180 0 96 (dk_at dksX0_status_1 0 rfl rfl)
theorem dX0_status_25 : decode cX0_status 25 = .ok (.arraylength, 1) := dk_190 (dk_at dksX0_status_1 3 rfl rfl)
theorem dX0_status_26 : decode cX0_status 26 = .ok (.if_icmp .ge 32, 3) := dk_162 0 32 (dk_at dksX0_status_1 4 rfl rfl)
theorem dX0_status_29 : decode cX0_status 29 = .ok (.iload_n 2, 1) := dk_28 (dk_at dksX0_status_1 7 rfl rfl)
theorem dX0_status_30 : decode cX0_status 30 = .ok (.iload_n 1, 1) := dk_27 (dk_at dksX0_status_1 8 rfl rfl)
theorem dX0_status_31 : decode cX0_status 31 = .ok (.iconst (-1), 1) := dk_2 (dk_at dksX0_status_1 9 rfl rfl)
theorem dX0_status_32 : decode cX0_status 32 = .ok (.if_icmp .eq 8, 3) := dk_159 0 8 (dk_at dksX0_status_1 10 rfl rfl)
theorem dX0_status_35 : decode cX0_status 35 = .ok (.iload_n 1, 1) := dk_27 (dk_at dksX0_status_1 13 rfl rfl)
theorem dX0_status_36 : decode cX0_status 36 = .ok (.iload_n 3, 1) := dk_29 (dk_at dksX0_status_1 14 rfl rfl)
theorem dX0_status_37 : decode cX0_status 37 = .ok (.if_icmp .ne 12, 3) := dk_160 0 12 (dk_at dksX0_status_1 15 rfl rfl)
theorem dX0_status_40 : decode cX0_status 40 = .ok (.aload_n 0, 1) := dk_42 (dk_at dksX0_status_1 18 rfl rfl)
theorem dX0_status_41 : decode cX0_status 41 = .ok (.getfield 96, 3) := dk_180 0 96 (dk_at dksX0_status_1 19 rfl rfl)
theorem dX0_status_44 : decode cX0_status 44 = .ok (.iload_n 3, 1) := dk_29 (dk_at dksX0_status_1 22 rfl rfl)
theorem dX0_status_45 : decode cX0_status 45 = .ok (.iaload, 1) := dk_46 (dk_at dksX0_status_1 23 rfl rfl)
theorem dX0_status_46 : decode cX0_status 46 = .ok (.goto 4, 3) := dk_167 0 4 (dk_at dksX0_status_2 0 rfl rfl)
theorem dX0_status_49 : decode cX0_status 49 = .ok (.iconst 0, 1) := dk_3 (dk_at dksX0_status_2 3 rfl rfl)
theorem dX0_status_50 : decode cX0_status 50 = .ok (.iadd, 1) := dk_96 (dk_at dksX0_status_2 4 rfl rfl)
theorem dX0_status_51 : decode cX0_status 51 = .ok (.istore_n 2, 1) := dk_61 (dk_at dksX0_status_2 5 rfl rfl)
theorem dX0_status_52 : decode cX0_status 52 = .ok (.iinc 3 1, 3) := dk_132 3 1 (dk_at dksX0_status_2 6 rfl rfl)
theorem dX0_status_55 : decode cX0_status 55 = .ok (.goto (-35), 3) := dk_167 255 221 (dk_at dksX0_status_2 9 rfl rfl)
theorem dX0_status_58 : decode cX0_status 58 = .ok (.iload_n 2, 1) := dk_28 (dk_at dksX0_status_2 12 rfl rfl)
theorem dX0_status_59 : decode cX0_status 59 = .ok (.ireturn, 1) := dk_172 (dk_at dksX0_status_2 13 rfl rfl)
theorem q108 : (Jvm.Cond.initialized "OwlEars") ∈ lw_all := lw_g (lw_at lw_m1 1 rfl) rfl
theorem q134 : (Jvm.Cond.instantiable "OwlEars" (13 : Nat)) ∈ lw_all := lw_g (lw_at lw_m1 27 rfl) rfl
theorem q136 : (Jvm.Cond.instanceMethod ({ cls := "OwlEars", name := "<init>", desc := "()V" } : Jvm.MethodName)) ∈ lw_all := lw_g (lw_at lw_m1 29 rfl) rfl
theorem q137 : (Jvm.Cond.code ({ cls := "OwlEars", name := "<init>", desc := "()V" } : Jvm.MethodName) prog_1_method_13_code (2 : Nat) (Option.none : Option Jvm.ClassFile.FieldType)) ∈ lw_all := lw_g (lw_at lw_m1 30 rfl) rfl
theorem q138 : (Jvm.Cond.methodLink "OwlEars" (49 : Nat) ({ cls := "java/lang/Object", name := "<init>", desc := "()V" } : Jvm.MethodName)) ∈ lw_all := lw_g (lw_at lw_m1 31 rfl) rfl
theorem q141 : (Jvm.Cond.classLink "OwlEars" (54 : Nat) "OwlEars$Refusal") ∈ lw_all := lw_g (lw_at lw_m1 34 rfl) rfl
theorem q181 : (Jvm.Cond.methodLink "OwlEars" (56 : Nat) ({ cls := "OwlEars$Refusal", name := "<init>", desc := "()V" } : Jvm.MethodName)) ∈ lw_all := lw_g (lw_at lw_m1 74 rfl) rfl
theorem q193 : (Jvm.Cond.fieldLinkNest "OwlEars" (114 : Nat) "OwlEars$Refusal" "finding" "I" "OwlEars") ∈ lw_tbl := lw_at lw_m1 86 rfl
theorem q209 : (Jvm.Cond.classLink "OwlEars" (61 : Nat) "OwlEars$Reader") ∈ lw_all := lw_g (lw_at lw_m1 102 rfl) rfl
theorem q211 : (Jvm.Cond.methodLinkNest "OwlEars" (63 : Nat) ({ cls := "OwlEars$Reader", name := "<init>", desc := "()V" } : Jvm.MethodName) "OwlEars") ∈ lw_tbl := lw_at lw_m1 104 rfl
theorem q240 : (Jvm.Cond.fieldLinkNest "OwlEars" (146 : Nat) "OwlEars$World" "snow" "[I" "OwlEars") ∈ lw_tbl := lw_at lw_m1 133 rfl
theorem q243 : (Jvm.Cond.fieldLinkNest "OwlEars" (171 : Nat) "OwlEars$World" "noise" "[I" "OwlEars") ∈ lw_tbl := lw_at lw_m1 136 rfl
theorem q246 : (Jvm.Cond.fieldLinkNest "OwlEars" (133 : Nat) "OwlEars$World" "mouse" "[I" "OwlEars") ∈ lw_tbl := lw_at lw_m1 139 rfl
theorem q250 : (Jvm.Cond.fieldLinkNest "OwlEars" (184 : Nat) "OwlEars$World" "owl" "[I" "OwlEars") ∈ lw_tbl := lw_at lw_m1 143 rfl
theorem q253 : (Jvm.Cond.fieldLinkNest "OwlEars" (122 : Nat) "OwlEars$World" "strikes" "I" "OwlEars") ∈ lw_tbl := lw_at lw_m1 146 rfl
theorem q257 : (Jvm.Cond.fieldLinkNest "OwlEars" (109 : Nat) "OwlEars$World" "strike" "[[I" "OwlEars") ∈ lw_tbl := lw_at lw_m1 150 rfl
theorem q259 : (Jvm.Cond.fieldLinkNest "OwlEars" (221 : Nat) "OwlEars$World" "tick" "I" "OwlEars") ∈ lw_tbl := lw_at lw_m1 152 rfl
theorem q261 : (Jvm.Cond.fieldLinkNest "OwlEars" (343 : Nat) "OwlEars$World" "z" "I" "OwlEars") ∈ lw_tbl := lw_at lw_m1 154 rfl
theorem q263 : (Jvm.Cond.fieldLinkNest "OwlEars" (366 : Nat) "OwlEars$World" "holds" "[I" "OwlEars") ∈ lw_tbl := lw_at lw_m1 156 rfl
theorem q287 : (Jvm.Cond.fieldLinkNest "OwlEars" (349 : Nat) "OwlEars$Reader" "tape" "[B" "OwlEars") ∈ lw_tbl := lw_at lw_m1 180 rfl
theorem q289 : (Jvm.Cond.fieldLinkNest "OwlEars" (355 : Nat) "OwlEars$Reader" "told" "LOwlEars$World;" "OwlEars") ∈ lw_tbl := lw_at lw_m1 182 rfl
theorem q291 : (Jvm.Cond.fieldLinkNest "OwlEars" (353 : Nat) "OwlEars$Reader" "length" "I" "OwlEars") ∈ lw_tbl := lw_at lw_m1 184 rfl
theorem q294 : (Jvm.Cond.fieldLinkNest "OwlEars" (363 : Nat) "OwlEars$Reader" "begin" "I" "OwlEars") ∈ lw_tbl := lw_at lw_m1 187 rfl
theorem q314 : (Jvm.Cond.classLink "OwlEars" (68 : Nat) "OwlEars$World") ∈ lw_all := lw_g (lw_at lw_m1 207 rfl) rfl
theorem q315 : (Jvm.Cond.methodLink "OwlEars" (70 : Nat) ({ cls := "OwlEars$World", name := "<init>", desc := "()V" } : Jvm.MethodName)) ∈ lw_all := lw_g (lw_at lw_m1 208 rfl) rfl
theorem q316 : (Jvm.Cond.classLink "OwlEars" (84 : Nat) "OwlEars$Slot") ∈ lw_all := lw_g (lw_at lw_m1 209 rfl) rfl
theorem q319 : (Jvm.Cond.methodLinkNest "OwlEars" (100 : Nat) ({ cls := "OwlEars$Slot", name := "<init>", desc := "()V" } : Jvm.MethodName) "OwlEars") ∈ lw_tbl := lw_at lw_m1 212 rfl
theorem q323 : (Jvm.Cond.fieldLinkNest "OwlEars" (105 : Nat) "OwlEars$Slot" "thing" "Ljava/lang/Object;" "OwlEars") ∈ lw_tbl := lw_at lw_m1 216 rfl
theorem q327 : (Jvm.Cond.methodLink "OwlEars" (101 : Nat) ({ cls := "OwlEars", name := "made", desc := "(II)LOwlEars$Strike;" } : Jvm.MethodName)) ∈ lw_all := lw_g (lw_at lw_m1 220 rfl) rfl
theorem q328 : (Jvm.Cond.privateMethod ({ cls := "OwlEars", name := "made", desc := "(II)LOwlEars$Strike;" } : Jvm.MethodName)) ∈ lw_tbl := lw_at lw_m1 221 rfl
theorem q329 : (Jvm.Cond.instanceMethod ({ cls := "OwlEars", name := "made", desc := "(II)LOwlEars$Strike;" } : Jvm.MethodName)) ∈ lw_all := lw_g (lw_at lw_m1 222 rfl) rfl
theorem q330 : (Jvm.Cond.code ({ cls := "OwlEars", name := "made", desc := "(II)LOwlEars$Strike;" } : Jvm.MethodName) prog_1_method_12_code (3 : Nat) (Option.some (Jvm.ClassFile.FieldType.object "OwlEars$Strike"))) ∈ lw_all := lw_g (lw_at lw_m1 223 rfl) rfl
theorem q331 : (Jvm.Cond.classLink "OwlEars" (25 : Nat) "OwlEars$Sure") ∈ lw_all := lw_g (lw_at lw_m1 224 rfl) rfl
theorem q333 : (Jvm.Cond.methodLink "OwlEars" (27 : Nat) ({ cls := "OwlEars$Sure", name := "<init>", desc := "(LOwlEars;I)V" } : Jvm.MethodName)) ∈ lw_all := lw_g (lw_at lw_m1 226 rfl) rfl
theorem q342 : (Jvm.Cond.fieldLink "OwlEars" (382 : Nat) "OwlEars$Strike" "number" "I") ∈ lw_all := lw_g (lw_at lw_m1 235 rfl) rfl
theorem q351 : (Jvm.Cond.classLink "OwlEars" (31 : Nat) "OwlEars$Aslant") ∈ lw_all := lw_g (lw_at lw_m2 4 rfl) rfl
theorem q353 : (Jvm.Cond.methodLink "OwlEars" (33 : Nat) ({ cls := "OwlEars$Aslant", name := "<init>", desc := "(LOwlEars;I)V" } : Jvm.MethodName)) ∈ lw_all := lw_g (lw_at lw_m2 6 rfl) rfl
theorem q363 : (Jvm.Cond.classLink "OwlEars" (34 : Nat) "OwlEars$Late") ∈ lw_all := lw_g (lw_at lw_m2 16 rfl) rfl
theorem q365 : (Jvm.Cond.methodLink "OwlEars" (36 : Nat) ({ cls := "OwlEars$Late", name := "<init>", desc := "(LOwlEars;I)V" } : Jvm.MethodName)) ∈ lw_all := lw_g (lw_at lw_m2 18 rfl) rfl
theorem q376 : (Jvm.Cond.classLink "OwlEars" (37 : Nat) "OwlEars$Waited") ∈ lw_all := lw_g (lw_at lw_m2 29 rfl) rfl
theorem q378 : (Jvm.Cond.methodLink "OwlEars" (39 : Nat) ({ cls := "OwlEars$Waited", name := "<init>", desc := "(LOwlEars;I)V" } : Jvm.MethodName)) ∈ lw_all := lw_g (lw_at lw_m2 31 rfl) rfl
theorem q390 : (Jvm.Cond.classLink "OwlEars" (40 : Nat) "OwlEars$Leafs") ∈ lw_all := lw_g (lw_at lw_m2 43 rfl) rfl
theorem q392 : (Jvm.Cond.methodLink "OwlEars" (42 : Nat) ({ cls := "OwlEars$Leafs", name := "<init>", desc := "(LOwlEars;I)V" } : Jvm.MethodName)) ∈ lw_all := lw_g (lw_at lw_m2 45 rfl) rfl
theorem q402 : (Jvm.Cond.classLink "OwlEars" (43 : Nat) "OwlEars$Crusted") ∈ lw_all := lw_g (lw_at lw_m2 55 rfl) rfl
theorem q404 : (Jvm.Cond.methodLink "OwlEars" (45 : Nat) ({ cls := "OwlEars$Crusted", name := "<init>", desc := "(LOwlEars;I)V" } : Jvm.MethodName)) ∈ lw_all := lw_g (lw_at lw_m2 57 rfl) rfl
theorem q415 : (Jvm.Cond.classLink "OwlEars" (46 : Nat) "OwlEars$Strike") ∈ lw_all := lw_g (lw_at lw_m2 68 rfl) rfl
theorem q417 : (Jvm.Cond.methodLink "OwlEars" (48 : Nat) ({ cls := "OwlEars$Strike", name := "<init>", desc := "(LOwlEars;I)V" } : Jvm.MethodName)) ∈ lw_all := lw_g (lw_at lw_m2 70 rfl) rfl
theorem q421 : (Jvm.Cond.fieldLink "OwlEars" (57 : Nat) "OwlEars" "refusal" "LOwlEars$Refusal;") ∈ lw_all := lw_g (lw_at lw_m2 74 rfl) rfl
theorem q422 : (Jvm.Cond.fieldLink "OwlEars" (64 : Nat) "OwlEars" "reader" "LOwlEars$Reader;") ∈ lw_all := lw_g (lw_at lw_m2 75 rfl) rfl
theorem q423 : (Jvm.Cond.fieldLink "OwlEars" (346 : Nat) "OwlEars" "taped" "I") ∈ lw_all := lw_g (lw_at lw_m2 76 rfl) rfl
theorem q425 : (Jvm.Cond.fieldLink "OwlEars" (71 : Nat) "OwlEars" "d" "LOwlEars$World;") ∈ lw_all := lw_g (lw_at lw_m2 78 rfl) rfl
theorem q426 : (Jvm.Cond.fieldLink "OwlEars" (75 : Nat) "OwlEars" "kept" "LOwlEars$World;") ∈ lw_all := lw_g (lw_at lw_m2 79 rfl) rfl
theorem q427 : (Jvm.Cond.fieldLink "OwlEars" (78 : Nat) "OwlEars" "aside" "LOwlEars$World;") ∈ lw_all := lw_g (lw_at lw_m2 80 rfl) rfl
theorem q428 : (Jvm.Cond.fieldLink "OwlEars" (81 : Nat) "OwlEars" "under" "LOwlEars$World;") ∈ lw_all := lw_g (lw_at lw_m2 81 rfl) rfl
theorem q429 : (Jvm.Cond.fieldLink "OwlEars" (413 : Nat) "OwlEars" "isKept" "Z") ∈ lw_all := lw_g (lw_at lw_m2 82 rfl) rfl
theorem q430 : (Jvm.Cond.fieldLink "OwlEars" (86 : Nat) "OwlEars" "strikes" "[LOwlEars$Slot;") ∈ lw_all := lw_g (lw_at lw_m2 83 rfl) rfl
theorem q431 : (Jvm.Cond.fieldLink "OwlEars" (90 : Nat) "OwlEars" "spots" "[LOwlEars$Slot;") ∈ lw_all := lw_g (lw_at lw_m2 84 rfl) rfl
theorem q432 : (Jvm.Cond.fieldLink "OwlEars" (93 : Nat) "OwlEars" "sheets" "[LOwlEars$Slot;") ∈ lw_all := lw_g (lw_at lw_m2 85 rfl) rfl
theorem q433 : (Jvm.Cond.fieldLink "OwlEars" (96 : Nat) "OwlEars" "findings" "[I") ∈ lw_all := lw_g (lw_at lw_m2 86 rfl) rfl
theorem q434 : (Jvm.Cond.fieldLink "OwlEars" (293 : Nat) "OwlEars" "leastHeard" "I") ∈ lw_all := lw_g (lw_at lw_m2 87 rfl) rfl
theorem q435 : (Jvm.Cond.laysFinal "OwlEars" "OwlEars" "refusal" "LOwlEars$Refusal;") ∈ lw_all := lw_g (lw_at lw_m2 88 rfl) rfl
theorem q436 : (Jvm.Cond.soleField "OwlEars" "refusal") ∈ lw_all := lw_g (lw_at lw_m2 89 rfl) rfl
theorem q437 : (Jvm.Cond.laysFinal "OwlEars" "OwlEars" "reader" "LOwlEars$Reader;") ∈ lw_all := lw_g (lw_at lw_m2 90 rfl) rfl
theorem q438 : (Jvm.Cond.soleField "OwlEars" "reader") ∈ lw_all := lw_g (lw_at lw_m2 91 rfl) rfl
theorem q439 : (Jvm.Cond.lays "OwlEars" "OwlEars" "taped" "I") ∈ lw_all := lw_g (lw_at lw_m2 92 rfl) rfl
theorem q440 : (Jvm.Cond.soleField "OwlEars" "taped") ∈ lw_all := lw_g (lw_at lw_m2 93 rfl) rfl
theorem q441 : (Jvm.Cond.laysFinal "OwlEars" "OwlEars" "d" "LOwlEars$World;") ∈ lw_all := lw_g (lw_at lw_m2 94 rfl) rfl
theorem q442 : (Jvm.Cond.soleField "OwlEars" "d") ∈ lw_all := lw_g (lw_at lw_m2 95 rfl) rfl
theorem q443 : (Jvm.Cond.laysFinal "OwlEars" "OwlEars" "kept" "LOwlEars$World;") ∈ lw_all := lw_g (lw_at lw_m2 96 rfl) rfl
theorem q444 : (Jvm.Cond.soleField "OwlEars" "kept") ∈ lw_all := lw_g (lw_at lw_m2 97 rfl) rfl
theorem q445 : (Jvm.Cond.laysFinal "OwlEars" "OwlEars" "aside" "LOwlEars$World;") ∈ lw_all := lw_g (lw_at lw_m2 98 rfl) rfl
theorem q446 : (Jvm.Cond.soleField "OwlEars" "aside") ∈ lw_all := lw_g (lw_at lw_m2 99 rfl) rfl
theorem q447 : (Jvm.Cond.laysFinal "OwlEars" "OwlEars" "under" "LOwlEars$World;") ∈ lw_all := lw_g (lw_at lw_m2 100 rfl) rfl
theorem q448 : (Jvm.Cond.soleField "OwlEars" "under") ∈ lw_all := lw_g (lw_at lw_m2 101 rfl) rfl
theorem q449 : (Jvm.Cond.lays "OwlEars" "OwlEars" "isKept" "Z") ∈ lw_all := lw_g (lw_at lw_m2 102 rfl) rfl
theorem q450 : (Jvm.Cond.soleField "OwlEars" "isKept") ∈ lw_all := lw_g (lw_at lw_m2 103 rfl) rfl
theorem q451 : (Jvm.Cond.laysFinal "OwlEars" "OwlEars" "strikes" "[LOwlEars$Slot;") ∈ lw_all := lw_g (lw_at lw_m2 104 rfl) rfl
theorem q452 : (Jvm.Cond.soleField "OwlEars" "strikes") ∈ lw_all := lw_g (lw_at lw_m2 105 rfl) rfl
theorem q453 : (Jvm.Cond.laysFinal "OwlEars" "OwlEars" "spots" "[LOwlEars$Slot;") ∈ lw_all := lw_g (lw_at lw_m2 106 rfl) rfl
theorem q454 : (Jvm.Cond.soleField "OwlEars" "spots") ∈ lw_all := lw_g (lw_at lw_m2 107 rfl) rfl
theorem q455 : (Jvm.Cond.laysFinal "OwlEars" "OwlEars" "sheets" "[LOwlEars$Slot;") ∈ lw_all := lw_g (lw_at lw_m2 108 rfl) rfl
theorem q456 : (Jvm.Cond.soleField "OwlEars" "sheets") ∈ lw_all := lw_g (lw_at lw_m2 109 rfl) rfl
theorem q457 : (Jvm.Cond.laysFinal "OwlEars" "OwlEars" "findings" "[I") ∈ lw_all := lw_g (lw_at lw_m2 110 rfl) rfl
theorem q458 : (Jvm.Cond.soleField "OwlEars" "findings") ∈ lw_all := lw_g (lw_at lw_m2 111 rfl) rfl
theorem q459 : (Jvm.Cond.lays "OwlEars" "OwlEars" "leastHeard" "I") ∈ lw_all := lw_g (lw_at lw_m2 112 rfl) rfl
theorem q460 : (Jvm.Cond.soleField "OwlEars" "leastHeard") ∈ lw_all := lw_g (lw_at lw_m2 113 rfl) rfl
theorem q461 : (Jvm.Cond.superclass "OwlEars" "java/lang/Object") ∈ lw_all := lw_g (lw_at lw_m2 114 rfl) rfl
theorem q463 : (Jvm.Cond.instanceMethod ({ cls := "OwlEars", name := "cell", desc := "(III)I" } : Jvm.MethodName)) ∈ lw_all := lw_g (lw_at lw_m2 116 rfl) rfl
theorem q464 : (Jvm.Cond.selects "OwlEars" ({ cls := "OwlEars", name := "cell", desc := "(III)I" } : Jvm.MethodName) ({ cls := "OwlEars", name := "cell", desc := "(III)I" } : Jvm.MethodName)) ∈ lw_all := lw_g (lw_at lw_m2 117 rfl) rfl
theorem q465 : (Jvm.Cond.code ({ cls := "OwlEars", name := "cell", desc := "(III)I" } : Jvm.MethodName) prog_1_method_25_code (6 : Nat) (Option.some Jvm.ClassFile.FieldType.int)) ∈ lw_all := lw_g (lw_at lw_m2 118 rfl) rfl
theorem q466 : (Jvm.Cond.methodLink "OwlEars" (17 : Nat) ({ cls := "OwlEars", name := "isCell", desc := "(I)Z" } : Jvm.MethodName)) ∈ lw_all := lw_g (lw_at lw_m2 119 rfl) rfl
theorem q467 : (Jvm.Cond.static ({ cls := "OwlEars", name := "isCell", desc := "(I)Z" } : Jvm.MethodName)) ∈ lw_all := lw_g (lw_at lw_m2 120 rfl) rfl
theorem q468 : (Jvm.Cond.code ({ cls := "OwlEars", name := "isCell", desc := "(I)Z" } : Jvm.MethodName) prog_1_method_7_code (1 : Nat) (Option.some Jvm.ClassFile.FieldType.boolean)) ∈ lw_all := lw_g (lw_at lw_m2 121 rfl) rfl
theorem q469 : (Jvm.Cond.methodLink "OwlEars" (9 : Nat) ({ cls := "OwlEars", name := "in", desc := "(III)Z" } : Jvm.MethodName)) ∈ lw_all := lw_g (lw_at lw_m2 122 rfl) rfl
theorem q470 : (Jvm.Cond.static ({ cls := "OwlEars", name := "in", desc := "(III)Z" } : Jvm.MethodName)) ∈ lw_all := lw_g (lw_at lw_m2 123 rfl) rfl
theorem q471 : (Jvm.Cond.code ({ cls := "OwlEars", name := "in", desc := "(III)Z" } : Jvm.MethodName) prog_1_method_1_code (3 : Nat) (Option.some Jvm.ClassFile.FieldType.boolean)) ∈ lw_all := lw_g (lw_at lw_m2 124 rfl) rfl
theorem q472 : (Jvm.Cond.methodLink "OwlEars" (124 : Nat) ({ cls := "OwlEars", name := "finding", desc := "(I)I" } : Jvm.MethodName)) ∈ lw_all := lw_g (lw_at lw_m2 125 rfl) rfl
theorem q473 : (Jvm.Cond.privateMethod ({ cls := "OwlEars", name := "finding", desc := "(I)I" } : Jvm.MethodName)) ∈ lw_tbl := lw_at lw_m2 126 rfl
theorem q474 : (Jvm.Cond.instanceMethod ({ cls := "OwlEars", name := "finding", desc := "(I)I" } : Jvm.MethodName)) ∈ lw_all := lw_g (lw_at lw_m2 127 rfl) rfl
theorem q475 : (Jvm.Cond.code ({ cls := "OwlEars", name := "finding", desc := "(I)I" } : Jvm.MethodName) prog_1_method_15_code (2 : Nat) (Option.some Jvm.ClassFile.FieldType.int)) ∈ lw_all := lw_g (lw_at lw_m2 128 rfl) rfl
theorem q476 : (Jvm.Cond.constant "OwlEars" (113 : Nat) (-1000001 : Int32)) ∈ lw_all := lw_g (lw_at lw_m2 129 rfl) rfl
theorem q478 : (Jvm.Cond.instanceMethod ({ cls := "OwlEars", name := "cellOf", desc := "(II)I" } : Jvm.MethodName)) ∈ lw_all := lw_g (lw_at lw_m2 131 rfl) rfl
theorem q479 : (Jvm.Cond.selects "OwlEars" ({ cls := "OwlEars", name := "cellOf", desc := "(II)I" } : Jvm.MethodName) ({ cls := "OwlEars", name := "cellOf", desc := "(II)I" } : Jvm.MethodName)) ∈ lw_all := lw_g (lw_at lw_m2 132 rfl) rfl
theorem q480 : (Jvm.Cond.code ({ cls := "OwlEars", name := "cellOf", desc := "(II)I" } : Jvm.MethodName) prog_1_method_26_code (3 : Nat) (Option.some Jvm.ClassFile.FieldType.int)) ∈ lw_all := lw_g (lw_at lw_m2 133 rfl) rfl
theorem q481 : (Jvm.Cond.methodLink "OwlEars" (174 : Nat) ({ cls := "OwlEars$World", name := "loudAt", desc := "(I)I" } : Jvm.MethodName)) ∈ lw_all := lw_g (lw_at lw_m2 134 rfl) rfl
theorem q497 : (Jvm.Cond.static ({ cls := "OwlEars", name := "apart", desc := "(II)I" } : Jvm.MethodName)) ∈ lw_all := lw_g (lw_at lw_m2 150 rfl) rfl
theorem q498 : (Jvm.Cond.code ({ cls := "OwlEars", name := "apart", desc := "(II)I" } : Jvm.MethodName) prog_1_method_10_code (2 : Nat) (Option.some Jvm.ClassFile.FieldType.int)) ∈ lw_all := lw_g (lw_at lw_m2 151 rfl) rfl
theorem q499 : (Jvm.Cond.methodLink "OwlEars" (20 : Nat) ({ cls := "java/lang/Math", name := "abs", desc := "(I)I" } : Jvm.MethodName)) ∈ lw_all := lw_g (lw_at lw_m2 152 rfl) rfl
theorem q503 : (Jvm.Cond.instanceMethod ({ cls := "OwlEars", name := "mouse", desc := "(II)I" } : Jvm.MethodName)) ∈ lw_all := lw_g (lw_at lw_m2 156 rfl) rfl
theorem q504 : (Jvm.Cond.selects "OwlEars" ({ cls := "OwlEars", name := "mouse", desc := "(II)I" } : Jvm.MethodName) ({ cls := "OwlEars", name := "mouse", desc := "(II)I" } : Jvm.MethodName)) ∈ lw_all := lw_g (lw_at lw_m2 157 rfl) rfl
theorem q505 : (Jvm.Cond.code ({ cls := "OwlEars", name := "mouse", desc := "(II)I" } : Jvm.MethodName) prog_1_method_28_code (4 : Nat) (Option.some Jvm.ClassFile.FieldType.int)) ∈ lw_all := lw_g (lw_at lw_m2 158 rfl) rfl
theorem q506 : (Jvm.Cond.methodLink "OwlEars" (180 : Nat) ({ cls := "OwlEars", name := "isOfMouse", desc := "(II)Z" } : Jvm.MethodName)) ∈ lw_all := lw_g (lw_at lw_m2 159 rfl) rfl
theorem q507 : (Jvm.Cond.privateMethod ({ cls := "OwlEars", name := "isOfMouse", desc := "(II)Z" } : Jvm.MethodName)) ∈ lw_tbl := lw_at lw_m2 160 rfl
theorem q508 : (Jvm.Cond.instanceMethod ({ cls := "OwlEars", name := "isOfMouse", desc := "(II)Z" } : Jvm.MethodName)) ∈ lw_all := lw_g (lw_at lw_m2 161 rfl) rfl
theorem q509 : (Jvm.Cond.code ({ cls := "OwlEars", name := "isOfMouse", desc := "(II)Z" } : Jvm.MethodName) prog_1_method_27_code (3 : Nat) (Option.some Jvm.ClassFile.FieldType.boolean)) ∈ lw_all := lw_g (lw_at lw_m2 162 rfl) rfl
theorem q510 : (Jvm.Cond.methodLink "OwlEars" (177 : Nat) ({ cls := "OwlEars", name := "isHeading", desc := "(I)Z" } : Jvm.MethodName)) ∈ lw_all := lw_g (lw_at lw_m2 163 rfl) rfl
theorem q511 : (Jvm.Cond.static ({ cls := "OwlEars", name := "isHeading", desc := "(I)Z" } : Jvm.MethodName)) ∈ lw_all := lw_g (lw_at lw_m2 164 rfl) rfl
theorem q512 : (Jvm.Cond.code ({ cls := "OwlEars", name := "isHeading", desc := "(I)Z" } : Jvm.MethodName) prog_1_method_8_code (1 : Nat) (Option.some Jvm.ClassFile.FieldType.boolean)) ∈ lw_all := lw_g (lw_at lw_m2 165 rfl) rfl
theorem q514 : (Jvm.Cond.instanceMethod ({ cls := "OwlEars", name := "owl", desc := "(II)I" } : Jvm.MethodName)) ∈ lw_all := lw_g (lw_at lw_m2 167 rfl) rfl
theorem q515 : (Jvm.Cond.selects "OwlEars" ({ cls := "OwlEars", name := "owl", desc := "(II)I" } : Jvm.MethodName) ({ cls := "OwlEars", name := "owl", desc := "(II)I" } : Jvm.MethodName)) ∈ lw_all := lw_g (lw_at lw_m2 168 rfl) rfl
theorem q516 : (Jvm.Cond.code ({ cls := "OwlEars", name := "owl", desc := "(II)I" } : Jvm.MethodName) prog_1_method_29_code (5 : Nat) (Option.some Jvm.ClassFile.FieldType.int)) ∈ lw_all := lw_g (lw_at lw_m2 169 rfl) rfl
theorem q518 : (Jvm.Cond.instanceMethod ({ cls := "OwlEars", name := "told", desc := "(I)I" } : Jvm.MethodName)) ∈ lw_all := lw_g (lw_at lw_m2 171 rfl) rfl
theorem q519 : (Jvm.Cond.selects "OwlEars" ({ cls := "OwlEars", name := "told", desc := "(I)I" } : Jvm.MethodName) ({ cls := "OwlEars", name := "told", desc := "(I)I" } : Jvm.MethodName)) ∈ lw_all := lw_g (lw_at lw_m2 172 rfl) rfl
theorem q520 : (Jvm.Cond.code ({ cls := "OwlEars", name := "told", desc := "(I)I" } : Jvm.MethodName) prog_1_method_30_code (2 : Nat) (Option.some Jvm.ClassFile.FieldType.int)) ∈ lw_all := lw_g (lw_at lw_m2 173 rfl) rfl
theorem q521 : (Jvm.Cond.methodLink "OwlEars" (187 : Nat) ({ cls := "OwlEars$World", name := "isRunning", desc := "()Z" } : Jvm.MethodName)) ∈ lw_all := lw_g (lw_at lw_m2 174 rfl) rfl
theorem q522 : (Jvm.Cond.methodLink "OwlEars" (191 : Nat) ({ cls := "OwlEars$World", name := "loud", desc := "()I" } : Jvm.MethodName)) ∈ lw_all := lw_g (lw_at lw_m2 175 rfl) rfl
theorem q524 : (Jvm.Cond.instanceMethod ({ cls := "OwlEars", name := "strike", desc := "(II)I" } : Jvm.MethodName)) ∈ lw_all := lw_g (lw_at lw_m2 177 rfl) rfl
theorem q525 : (Jvm.Cond.selects "OwlEars" ({ cls := "OwlEars", name := "strike", desc := "(II)I" } : Jvm.MethodName) ({ cls := "OwlEars", name := "strike", desc := "(II)I" } : Jvm.MethodName)) ∈ lw_all := lw_g (lw_at lw_m2 178 rfl) rfl
theorem q526 : (Jvm.Cond.code ({ cls := "OwlEars", name := "strike", desc := "(II)I" } : Jvm.MethodName) prog_1_method_31_code (3 : Nat) (Option.some Jvm.ClassFile.FieldType.int)) ∈ lw_all := lw_g (lw_at lw_m2 179 rfl) rfl
theorem q527 : (Jvm.Cond.methodLink "OwlEars" (13 : Nat) ({ cls := "OwlEars", name := "isKind", desc := "(I)Z" } : Jvm.MethodName)) ∈ lw_all := lw_g (lw_at lw_m2 180 rfl) rfl
theorem q528 : (Jvm.Cond.static ({ cls := "OwlEars", name := "isKind", desc := "(I)Z" } : Jvm.MethodName)) ∈ lw_all := lw_g (lw_at lw_m2 181 rfl) rfl
theorem q529 : (Jvm.Cond.code ({ cls := "OwlEars", name := "isKind", desc := "(I)Z" } : Jvm.MethodName) prog_1_method_6_code (1 : Nat) (Option.some Jvm.ClassFile.FieldType.boolean)) ∈ lw_all := lw_g (lw_at lw_m2 182 rfl) rfl
theorem q530 : (Jvm.Cond.methodLink "OwlEars" (194 : Nat) ({ cls := "OwlEars$World", name := "add", desc := "(II)V" } : Jvm.MethodName)) ∈ lw_all := lw_g (lw_at lw_m2 183 rfl) rfl
theorem q535 : (Jvm.Cond.instanceMethod ({ cls := "OwlEars", name := "of", desc := "(II)I" } : Jvm.MethodName)) ∈ lw_all := lw_g (lw_at lw_m2 188 rfl) rfl
theorem q536 : (Jvm.Cond.selects "OwlEars" ({ cls := "OwlEars", name := "of", desc := "(II)I" } : Jvm.MethodName) ({ cls := "OwlEars", name := "of", desc := "(II)I" } : Jvm.MethodName)) ∈ lw_all := lw_g (lw_at lw_m2 189 rfl) rfl
theorem q537 : (Jvm.Cond.code ({ cls := "OwlEars", name := "of", desc := "(II)I" } : Jvm.MethodName) prog_1_method_32_code (3 : Nat) (Option.some Jvm.ClassFile.FieldType.int)) ∈ lw_all := lw_g (lw_at lw_m2 190 rfl) rfl
theorem q538 : (Jvm.Cond.methodLink "OwlEars" (198 : Nat) ({ cls := "OwlEars", name := "isStrike", desc := "(I)Z" } : Jvm.MethodName)) ∈ lw_all := lw_g (lw_at lw_m2 191 rfl) rfl
theorem q539 : (Jvm.Cond.privateMethod ({ cls := "OwlEars", name := "isStrike", desc := "(I)Z" } : Jvm.MethodName)) ∈ lw_tbl := lw_at lw_m2 192 rfl
theorem q540 : (Jvm.Cond.instanceMethod ({ cls := "OwlEars", name := "isStrike", desc := "(I)Z" } : Jvm.MethodName)) ∈ lw_all := lw_g (lw_at lw_m2 193 rfl) rfl
theorem q541 : (Jvm.Cond.code ({ cls := "OwlEars", name := "isStrike", desc := "(I)Z" } : Jvm.MethodName) prog_1_method_18_code (2 : Nat) (Option.some Jvm.ClassFile.FieldType.boolean)) ∈ lw_all := lw_g (lw_at lw_m2 194 rfl) rfl
theorem q542 : (Jvm.Cond.methodLink "OwlEars" (129 : Nat) ({ cls := "OwlEars", name := "strikeOf", desc := "(I)LOwlEars$Strike;" } : Jvm.MethodName)) ∈ lw_all := lw_g (lw_at lw_m2 195 rfl) rfl
theorem q543 : (Jvm.Cond.privateMethod ({ cls := "OwlEars", name := "strikeOf", desc := "(I)LOwlEars$Strike;" } : Jvm.MethodName)) ∈ lw_tbl := lw_at lw_m2 196 rfl
theorem q544 : (Jvm.Cond.instanceMethod ({ cls := "OwlEars", name := "strikeOf", desc := "(I)LOwlEars$Strike;" } : Jvm.MethodName)) ∈ lw_all := lw_g (lw_at lw_m2 197 rfl) rfl
theorem q545 : (Jvm.Cond.code ({ cls := "OwlEars", name := "strikeOf", desc := "(I)LOwlEars$Strike;" } : Jvm.MethodName) prog_1_method_14_code (2 : Nat) (Option.some (Jvm.ClassFile.FieldType.object "OwlEars$Strike"))) ∈ lw_all := lw_g (lw_at lw_m2 198 rfl) rfl
theorem q546 : (Jvm.Cond.methodLink "OwlEars" (201 : Nat) ({ cls := "OwlEars$Strike", name := "kind", desc := "()I" } : Jvm.MethodName)) ∈ lw_all := lw_g (lw_at lw_m2 199 rfl) rfl
theorem q575 : (Jvm.Cond.methodLink "OwlEars" (159 : Nat) ({ cls := "OwlEars", name := "takesOf", desc := "(I)I" } : Jvm.MethodName)) ∈ lw_all := lw_g (lw_at lw_m2 228 rfl) rfl
theorem q576 : (Jvm.Cond.privateMethod ({ cls := "OwlEars", name := "takesOf", desc := "(I)I" } : Jvm.MethodName)) ∈ lw_tbl := lw_at lw_m2 229 rfl
theorem q577 : (Jvm.Cond.instanceMethod ({ cls := "OwlEars", name := "takesOf", desc := "(I)I" } : Jvm.MethodName)) ∈ lw_all := lw_g (lw_at lw_m2 230 rfl) rfl
theorem q578 : (Jvm.Cond.code ({ cls := "OwlEars", name := "takesOf", desc := "(I)I" } : Jvm.MethodName) prog_1_method_22_code (3 : Nat) (Option.some Jvm.ClassFile.FieldType.int)) ∈ lw_all := lw_g (lw_at lw_m2 231 rfl) rfl
theorem q579 : (Jvm.Cond.interfaceEntry "OwlEars" (152 : Nat)) ∈ lw_tbl := lw_at lw_m2 232 rfl
theorem q580 : (Jvm.Cond.methodLink "OwlEars" (152 : Nat) ({ cls := "OwlEars$Strikes", name := "takes", desc := "()I" } : Jvm.MethodName)) ∈ lw_all := lw_g (lw_at lw_m2 233 rfl) rfl
theorem q652 : (Jvm.Cond.methodLink "OwlEars" (204 : Nat) ({ cls := "OwlEars$Strike", name := "deep", desc := "()I" } : Jvm.MethodName)) ∈ lw_all := lw_g (lw_at lw_m3 65 rfl) rfl
theorem q679 : (Jvm.Cond.methodLink "OwlEars" (205 : Nat) ({ cls := "OwlEars$Strike", name := "wide", desc := "()I" } : Jvm.MethodName)) ∈ lw_all := lw_g (lw_at lw_m3 92 rfl) rfl
theorem q696 : (Jvm.Cond.methodLink "OwlEars" (168 : Nat) ({ cls := "OwlEars", name := "hasIt", desc := "(I)Z" } : Jvm.MethodName)) ∈ lw_all := lw_g (lw_at lw_m3 109 rfl) rfl
theorem q697 : (Jvm.Cond.privateMethod ({ cls := "OwlEars", name := "hasIt", desc := "(I)Z" } : Jvm.MethodName)) ∈ lw_tbl := lw_at lw_m3 110 rfl
theorem q698 : (Jvm.Cond.instanceMethod ({ cls := "OwlEars", name := "hasIt", desc := "(I)Z" } : Jvm.MethodName)) ∈ lw_all := lw_g (lw_at lw_m3 111 rfl) rfl
theorem q699 : (Jvm.Cond.codeWith ({ cls := "OwlEars", name := "hasIt", desc := "(I)Z" } : Jvm.MethodName) prog_1_method_23_code (4 : Nat) (Option.some Jvm.ClassFile.FieldType.boolean) [((11 : Nat), (26 : Nat), (39 : Nat), (0 : Nat))]) ∈ lw_all := lw_g (lw_at lw_m3 112 rfl) rfl
theorem q700 : (Jvm.Cond.methodLink "OwlEars" (155 : Nat) ({ cls := "OwlEars$World", name := "become", desc := "(LOwlEars$World;)V" } : Jvm.MethodName)) ∈ lw_all := lw_g (lw_at lw_m3 113 rfl) rfl
theorem q710 : (Jvm.Cond.methodLink "OwlEars" (162 : Nat) ({ cls := "OwlEars", name := "passes", desc := "(I)V" } : Jvm.MethodName)) ∈ lw_all := lw_g (lw_at lw_m3 123 rfl) rfl
theorem q711 : (Jvm.Cond.privateMethod ({ cls := "OwlEars", name := "passes", desc := "(I)V" } : Jvm.MethodName)) ∈ lw_tbl := lw_at lw_m3 124 rfl
theorem q712 : (Jvm.Cond.instanceMethod ({ cls := "OwlEars", name := "passes", desc := "(I)V" } : Jvm.MethodName)) ∈ lw_all := lw_g (lw_at lw_m3 125 rfl) rfl
theorem q713 : (Jvm.Cond.code ({ cls := "OwlEars", name := "passes", desc := "(I)V" } : Jvm.MethodName) prog_1_method_20_code (3 : Nat) (Option.none : Option Jvm.ClassFile.FieldType)) ∈ lw_all := lw_g (lw_at lw_m3 126 rfl) rfl
theorem q714 : (Jvm.Cond.methodLink "OwlEars" (126 : Nat) ({ cls := "OwlEars$World", name := "passes", desc := "()V" } : Jvm.MethodName)) ∈ lw_all := lw_g (lw_at lw_m3 127 rfl) rfl
theorem q719 : (Jvm.Cond.static ({ cls := "OwlEars", name := "neighbour", desc := "(II)I" } : Jvm.MethodName)) ∈ lw_all := lw_g (lw_at lw_m3 132 rfl) rfl
theorem q720 : (Jvm.Cond.code ({ cls := "OwlEars", name := "neighbour", desc := "(II)I" } : Jvm.MethodName) prog_1_method_11_code (2 : Nat) (Option.some Jvm.ClassFile.FieldType.int)) ∈ lw_all := lw_g (lw_at lw_m3 133 rfl) rfl
theorem q721 : (Jvm.Cond.methodLink "OwlEars" (165 : Nat) ({ cls := "OwlEars", name := "hits", desc := "(I)Z" } : Jvm.MethodName)) ∈ lw_all := lw_g (lw_at lw_m3 134 rfl) rfl
theorem q722 : (Jvm.Cond.privateMethod ({ cls := "OwlEars", name := "hits", desc := "(I)Z" } : Jvm.MethodName)) ∈ lw_tbl := lw_at lw_m3 135 rfl
theorem q723 : (Jvm.Cond.instanceMethod ({ cls := "OwlEars", name := "hits", desc := "(I)Z" } : Jvm.MethodName)) ∈ lw_all := lw_g (lw_at lw_m3 136 rfl) rfl
theorem q724 : (Jvm.Cond.code ({ cls := "OwlEars", name := "hits", desc := "(I)Z" } : Jvm.MethodName) prog_1_method_21_code (4 : Nat) (Option.some Jvm.ClassFile.FieldType.boolean)) ∈ lw_all := lw_g (lw_at lw_m3 137 rfl) rfl
theorem q725 : (Jvm.Cond.methodLink "OwlEars" (136 : Nat) ({ cls := "OwlEars", name := "apart", desc := "(II)I" } : Jvm.MethodName)) ∈ lw_all := lw_g (lw_at lw_m3 138 rfl) rfl
theorem q726 : (Jvm.Cond.interfaceEntry "OwlEars" (140 : Nat)) ∈ lw_tbl := lw_at lw_m3 139 rfl
theorem q727 : (Jvm.Cond.methodLink "OwlEars" (140 : Nat) ({ cls := "OwlEars$Strikes", name := "wide", desc := "()I" } : Jvm.MethodName)) ∈ lw_all := lw_g (lw_at lw_m3 140 rfl) rfl
theorem q747 : (Jvm.Cond.interfaceEntry "OwlEars" (149 : Nat)) ∈ lw_tbl := lw_at lw_m3 160 rfl
theorem q748 : (Jvm.Cond.methodLink "OwlEars" (149 : Nat) ({ cls := "OwlEars$Strikes", name := "deep", desc := "()I" } : Jvm.MethodName)) ∈ lw_all := lw_g (lw_at lw_m3 161 rfl) rfl
theorem q772 : (Jvm.Cond.instanceMethod ({ cls := "OwlEars", name := "change", desc := "(III)I" } : Jvm.MethodName)) ∈ lw_all := lw_g (lw_at lw_m3 185 rfl) rfl
theorem q773 : (Jvm.Cond.selects "OwlEars" ({ cls := "OwlEars", name := "change", desc := "(III)I" } : Jvm.MethodName) ({ cls := "OwlEars", name := "change", desc := "(III)I" } : Jvm.MethodName)) ∈ lw_all := lw_g (lw_at lw_m3 186 rfl) rfl
theorem q774 : (Jvm.Cond.code ({ cls := "OwlEars", name := "change", desc := "(III)I" } : Jvm.MethodName) prog_1_method_33_code (5 : Nat) (Option.some Jvm.ClassFile.FieldType.int)) ∈ lw_all := lw_g (lw_at lw_m3 187 rfl) rfl
theorem q775 : (Jvm.Cond.methodLink "OwlEars" (206 : Nat) ({ cls := "OwlEars", name := "isTold", desc := "(II)Z" } : Jvm.MethodName)) ∈ lw_all := lw_g (lw_at lw_m3 188 rfl) rfl
theorem q776 : (Jvm.Cond.static ({ cls := "OwlEars", name := "isTold", desc := "(II)Z" } : Jvm.MethodName)) ∈ lw_all := lw_g (lw_at lw_m3 189 rfl) rfl
theorem q777 : (Jvm.Cond.code ({ cls := "OwlEars", name := "isTold", desc := "(II)Z" } : Jvm.MethodName) prog_1_method_9_code (2 : Nat) (Option.some Jvm.ClassFile.FieldType.boolean)) ∈ lw_all := lw_g (lw_at lw_m3 190 rfl) rfl
theorem q779 : (Jvm.Cond.instanceMethod ({ cls := "OwlEars", name := "strikes", desc := "(I)I" } : Jvm.MethodName)) ∈ lw_all := lw_g (lw_at lw_m3 192 rfl) rfl
theorem q780 : (Jvm.Cond.selects "OwlEars" ({ cls := "OwlEars", name := "strikes", desc := "(I)I" } : Jvm.MethodName) ({ cls := "OwlEars", name := "strikes", desc := "(I)I" } : Jvm.MethodName)) ∈ lw_all := lw_g (lw_at lw_m3 193 rfl) rfl
theorem q781 : (Jvm.Cond.code ({ cls := "OwlEars", name := "strikes", desc := "(I)I" } : Jvm.MethodName) prog_1_method_35_code (2 : Nat) (Option.some Jvm.ClassFile.FieldType.int)) ∈ lw_all := lw_g (lw_at lw_m3 194 rfl) rfl
theorem q782 : (Jvm.Cond.methodLink "OwlEars" (212 : Nat) ({ cls := "OwlEars$World", name := "isLate", desc := "(I)Z" } : Jvm.MethodName)) ∈ lw_all := lw_g (lw_at lw_m3 195 rfl) rfl
theorem q787 : (Jvm.Cond.methodLink "OwlEars" (215 : Nat) ({ cls := "OwlEars", name := "isMade", desc := "(I)I" } : Jvm.MethodName)) ∈ lw_all := lw_g (lw_at lw_m3 200 rfl) rfl
theorem q788 : (Jvm.Cond.privateMethod ({ cls := "OwlEars", name := "isMade", desc := "(I)I" } : Jvm.MethodName)) ∈ lw_tbl := lw_at lw_m3 201 rfl
theorem q789 : (Jvm.Cond.instanceMethod ({ cls := "OwlEars", name := "isMade", desc := "(I)I" } : Jvm.MethodName)) ∈ lw_all := lw_g (lw_at lw_m3 202 rfl) rfl
theorem q790 : (Jvm.Cond.code ({ cls := "OwlEars", name := "isMade", desc := "(I)I" } : Jvm.MethodName) prog_1_method_34_code (2 : Nat) (Option.some Jvm.ClassFile.FieldType.int)) ∈ lw_all := lw_g (lw_at lw_m3 203 rfl) rfl
theorem q791 : (Jvm.Cond.methodLink "OwlEars" (209 : Nat) ({ cls := "java/lang/Math", name := "min", desc := "(II)I" } : Jvm.MethodName)) ∈ lw_all := lw_g (lw_at lw_m3 204 rfl) rfl
theorem q795 : (Jvm.Cond.instanceMethod ({ cls := "OwlEars", name := "go", desc := "(I)I" } : Jvm.MethodName)) ∈ lw_all := lw_g (lw_at lw_m3 208 rfl) rfl
theorem q796 : (Jvm.Cond.selects "OwlEars" ({ cls := "OwlEars", name := "go", desc := "(I)I" } : Jvm.MethodName) ({ cls := "OwlEars", name := "go", desc := "(I)I" } : Jvm.MethodName)) ∈ lw_all := lw_g (lw_at lw_m3 209 rfl) rfl
theorem q797 : (Jvm.Cond.code ({ cls := "OwlEars", name := "go", desc := "(I)I" } : Jvm.MethodName) prog_1_method_37_code (2 : Nat) (Option.some Jvm.ClassFile.FieldType.int)) ∈ lw_all := lw_g (lw_at lw_m3 210 rfl) rfl
theorem q798 : (Jvm.Cond.methodLink "OwlEars" (218 : Nat) ({ cls := "OwlEars", name := "goesOn", desc := "(I)I" } : Jvm.MethodName)) ∈ lw_all := lw_g (lw_at lw_m3 211 rfl) rfl
theorem q799 : (Jvm.Cond.privateMethod ({ cls := "OwlEars", name := "goesOn", desc := "(I)I" } : Jvm.MethodName)) ∈ lw_tbl := lw_at lw_m3 212 rfl
theorem q800 : (Jvm.Cond.instanceMethod ({ cls := "OwlEars", name := "goesOn", desc := "(I)I" } : Jvm.MethodName)) ∈ lw_all := lw_g (lw_at lw_m3 213 rfl) rfl
theorem q801 : (Jvm.Cond.code ({ cls := "OwlEars", name := "goesOn", desc := "(I)I" } : Jvm.MethodName) prog_1_method_36_code (2 : Nat) (Option.some Jvm.ClassFile.FieldType.int)) ∈ lw_all := lw_g (lw_at lw_m3 214 rfl) rfl
theorem q803 : (Jvm.Cond.instanceMethod ({ cls := "OwlEars", name := "now", desc := "(I)I" } : Jvm.MethodName)) ∈ lw_all := lw_g (lw_at lw_m3 216 rfl) rfl
theorem q804 : (Jvm.Cond.selects "OwlEars" ({ cls := "OwlEars", name := "now", desc := "(I)I" } : Jvm.MethodName) ({ cls := "OwlEars", name := "now", desc := "(I)I" } : Jvm.MethodName)) ∈ lw_all := lw_g (lw_at lw_m3 217 rfl) rfl
theorem q805 : (Jvm.Cond.code ({ cls := "OwlEars", name := "now", desc := "(I)I" } : Jvm.MethodName) prog_1_method_38_code (2 : Nat) (Option.some Jvm.ClassFile.FieldType.int)) ∈ lw_all := lw_g (lw_at lw_m3 218 rfl) rfl
theorem q806 : (Jvm.Cond.methodLink "OwlEars" (224 : Nat) ({ cls := "OwlEars$World", name := "hears", desc := "()Z" } : Jvm.MethodName)) ∈ lw_all := lw_g (lw_at lw_m3 219 rfl) rfl
theorem q826 : (Jvm.Cond.methodLink "OwlEars" (227 : Nat) ({ cls := "OwlEars", name := "havingIt", desc := "()I" } : Jvm.MethodName)) ∈ lw_all := lw_g (lw_at lw_m3 239 rfl) rfl
theorem q827 : (Jvm.Cond.privateMethod ({ cls := "OwlEars", name := "havingIt", desc := "()I" } : Jvm.MethodName)) ∈ lw_tbl := lw_at lw_m4 0 rfl
theorem q828 : (Jvm.Cond.instanceMethod ({ cls := "OwlEars", name := "havingIt", desc := "()I" } : Jvm.MethodName)) ∈ lw_all := lw_g (lw_at lw_m4 1 rfl) rfl
theorem q829 : (Jvm.Cond.code ({ cls := "OwlEars", name := "havingIt", desc := "()I" } : Jvm.MethodName) prog_1_method_24_code (3 : Nat) (Option.some Jvm.ClassFile.FieldType.int)) ∈ lw_all := lw_g (lw_at lw_m4 2 rfl) rfl
theorem q830 : (Jvm.Cond.methodLink "OwlEars" (230 : Nat) ({ cls := "OwlEars$World", name := "had", desc := "()I" } : Jvm.MethodName)) ∈ lw_all := lw_g (lw_at lw_m4 3 rfl) rfl
theorem q834 : (Jvm.Cond.methodLink "OwlEars" (233 : Nat) ({ cls := "OwlEars$World", name := "snows", desc := "()I" } : Jvm.MethodName)) ∈ lw_all := lw_g (lw_at lw_m4 7 rfl) rfl
theorem q839 : (Jvm.Cond.instanceMethod ({ cls := "OwlEars", name := "ear", desc := "(I)I" } : Jvm.MethodName)) ∈ lw_all := lw_g (lw_at lw_m4 12 rfl) rfl
theorem q840 : (Jvm.Cond.selects "OwlEars" ({ cls := "OwlEars", name := "ear", desc := "(I)I" } : Jvm.MethodName) ({ cls := "OwlEars", name := "ear", desc := "(I)I" } : Jvm.MethodName)) ∈ lw_all := lw_g (lw_at lw_m4 13 rfl) rfl
theorem q841 : (Jvm.Cond.code ({ cls := "OwlEars", name := "ear", desc := "(I)I" } : Jvm.MethodName) prog_1_method_39_code (2 : Nat) (Option.some Jvm.ClassFile.FieldType.int)) ∈ lw_all := lw_g (lw_at lw_m4 14 rfl) rfl
theorem q842 : (Jvm.Cond.methodLink "OwlEars" (236 : Nat) ({ cls := "OwlEars$World", name := "side", desc := "()I" } : Jvm.MethodName)) ∈ lw_all := lw_g (lw_at lw_m4 15 rfl) rfl
theorem q843 : (Jvm.Cond.methodLink "OwlEars" (239 : Nat) ({ cls := "OwlEars$World", name := "high", desc := "()I" } : Jvm.MethodName)) ∈ lw_all := lw_g (lw_at lw_m4 16 rfl) rfl
theorem q845 : (Jvm.Cond.instanceMethod ({ cls := "OwlEars", name := "where", desc := "(I)I" } : Jvm.MethodName)) ∈ lw_all := lw_g (lw_at lw_m4 18 rfl) rfl
theorem q846 : (Jvm.Cond.selects "OwlEars" ({ cls := "OwlEars", name := "where", desc := "(I)I" } : Jvm.MethodName) ({ cls := "OwlEars", name := "where", desc := "(I)I" } : Jvm.MethodName)) ∈ lw_all := lw_g (lw_at lw_m4 19 rfl) rfl
theorem q847 : (Jvm.Cond.code ({ cls := "OwlEars", name := "where", desc := "(I)I" } : Jvm.MethodName) prog_1_method_41_code (2 : Nat) (Option.some Jvm.ClassFile.FieldType.int)) ∈ lw_all := lw_g (lw_at lw_m4 20 rfl) rfl
theorem q848 : (Jvm.Cond.methodLink "OwlEars" (242 : Nat) ({ cls := "OwlEars", name := "cellBehind", desc := "(I)I" } : Jvm.MethodName)) ∈ lw_all := lw_g (lw_at lw_m4 21 rfl) rfl
theorem q849 : (Jvm.Cond.privateMethod ({ cls := "OwlEars", name := "cellBehind", desc := "(I)I" } : Jvm.MethodName)) ∈ lw_tbl := lw_at lw_m4 22 rfl
theorem q850 : (Jvm.Cond.instanceMethod ({ cls := "OwlEars", name := "cellBehind", desc := "(I)I" } : Jvm.MethodName)) ∈ lw_all := lw_g (lw_at lw_m4 23 rfl) rfl
theorem q851 : (Jvm.Cond.codeWith ({ cls := "OwlEars", name := "cellBehind", desc := "(I)I" } : Jvm.MethodName) prog_1_method_40_code (4 : Nat) (Option.some Jvm.ClassFile.FieldType.int) [((11 : Nat), (17 : Nat), (30 : Nat), (0 : Nat))]) ∈ lw_all := lw_g (lw_at lw_m4 24 rfl) rfl
theorem q853 : (Jvm.Cond.instanceMethod ({ cls := "OwlEars", name := "heard", desc := "(I)I" } : Jvm.MethodName)) ∈ lw_all := lw_g (lw_at lw_m4 26 rfl) rfl
theorem q854 : (Jvm.Cond.selects "OwlEars" ({ cls := "OwlEars", name := "heard", desc := "(I)I" } : Jvm.MethodName) ({ cls := "OwlEars", name := "heard", desc := "(I)I" } : Jvm.MethodName)) ∈ lw_all := lw_g (lw_at lw_m4 27 rfl) rfl
theorem q855 : (Jvm.Cond.code ({ cls := "OwlEars", name := "heard", desc := "(I)I" } : Jvm.MethodName) prog_1_method_43_code (2 : Nat) (Option.some Jvm.ClassFile.FieldType.int)) ∈ lw_all := lw_g (lw_at lw_m4 28 rfl) rfl
theorem q856 : (Jvm.Cond.methodLink "OwlEars" (245 : Nat) ({ cls := "OwlEars", name := "heardIn", desc := "(I)I" } : Jvm.MethodName)) ∈ lw_all := lw_g (lw_at lw_m4 29 rfl) rfl
theorem q857 : (Jvm.Cond.privateMethod ({ cls := "OwlEars", name := "heardIn", desc := "(I)I" } : Jvm.MethodName)) ∈ lw_tbl := lw_at lw_m4 30 rfl
theorem q858 : (Jvm.Cond.instanceMethod ({ cls := "OwlEars", name := "heardIn", desc := "(I)I" } : Jvm.MethodName)) ∈ lw_all := lw_g (lw_at lw_m4 31 rfl) rfl
theorem q859 : (Jvm.Cond.codeWith ({ cls := "OwlEars", name := "heardIn", desc := "(I)I" } : Jvm.MethodName) prog_1_method_42_code (5 : Nat) (Option.some Jvm.ClassFile.FieldType.int) [((11 : Nat), (53 : Nat), (66 : Nat), (0 : Nat)), ((66 : Nat), (68 : Nat), (66 : Nat), (0 : Nat))]) ∈ lw_all := lw_g (lw_at lw_m4 32 rfl) rfl
theorem q861 : (Jvm.Cond.instanceMethod ({ cls := "OwlEars", name := "when", desc := "(I)I" } : Jvm.MethodName)) ∈ lw_all := lw_g (lw_at lw_m4 34 rfl) rfl
theorem q862 : (Jvm.Cond.selects "OwlEars" ({ cls := "OwlEars", name := "when", desc := "(I)I" } : Jvm.MethodName) ({ cls := "OwlEars", name := "when", desc := "(I)I" } : Jvm.MethodName)) ∈ lw_all := lw_g (lw_at lw_m4 35 rfl) rfl
theorem q863 : (Jvm.Cond.code ({ cls := "OwlEars", name := "when", desc := "(I)I" } : Jvm.MethodName) prog_1_method_45_code (2 : Nat) (Option.some Jvm.ClassFile.FieldType.int)) ∈ lw_all := lw_g (lw_at lw_m4 36 rfl) rfl
theorem q864 : (Jvm.Cond.methodLink "OwlEars" (248 : Nat) ({ cls := "OwlEars", name := "ticksTill", desc := "(I)I" } : Jvm.MethodName)) ∈ lw_all := lw_g (lw_at lw_m4 37 rfl) rfl
theorem q865 : (Jvm.Cond.privateMethod ({ cls := "OwlEars", name := "ticksTill", desc := "(I)I" } : Jvm.MethodName)) ∈ lw_tbl := lw_at lw_m4 38 rfl
theorem q866 : (Jvm.Cond.instanceMethod ({ cls := "OwlEars", name := "ticksTill", desc := "(I)I" } : Jvm.MethodName)) ∈ lw_all := lw_g (lw_at lw_m4 39 rfl) rfl
theorem q867 : (Jvm.Cond.codeWith ({ cls := "OwlEars", name := "ticksTill", desc := "(I)I" } : Jvm.MethodName) prog_1_method_44_code (5 : Nat) (Option.some Jvm.ClassFile.FieldType.int) [((11 : Nat), (77 : Nat), (90 : Nat), (0 : Nat)), ((90 : Nat), (92 : Nat), (90 : Nat), (0 : Nat))]) ∈ lw_all := lw_g (lw_at lw_m4 40 rfl) rfl
theorem q868 : (Jvm.Cond.methodLink "OwlEars" (251 : Nat) ({ cls := "OwlEars", name := "orNone", desc := "(I)I" } : Jvm.MethodName)) ∈ lw_all := lw_g (lw_at lw_m4 41 rfl) rfl
theorem q869 : (Jvm.Cond.privateMethod ({ cls := "OwlEars", name := "orNone", desc := "(I)I" } : Jvm.MethodName)) ∈ lw_tbl := lw_at lw_m4 42 rfl
theorem q870 : (Jvm.Cond.instanceMethod ({ cls := "OwlEars", name := "orNone", desc := "(I)I" } : Jvm.MethodName)) ∈ lw_all := lw_g (lw_at lw_m4 43 rfl) rfl
theorem q871 : (Jvm.Cond.code ({ cls := "OwlEars", name := "orNone", desc := "(I)I" } : Jvm.MethodName) prog_1_method_19_code (2 : Nat) (Option.some Jvm.ClassFile.FieldType.int)) ∈ lw_all := lw_g (lw_at lw_m4 44 rfl) rfl
theorem q873 : (Jvm.Cond.instanceMethod ({ cls := "OwlEars", name := "rustle", desc := "()I" } : Jvm.MethodName)) ∈ lw_all := lw_g (lw_at lw_m4 46 rfl) rfl
theorem q874 : (Jvm.Cond.selects "OwlEars" ({ cls := "OwlEars", name := "rustle", desc := "()I" } : Jvm.MethodName) ({ cls := "OwlEars", name := "rustle", desc := "()I" } : Jvm.MethodName)) ∈ lw_all := lw_g (lw_at lw_m4 47 rfl) rfl
theorem q875 : (Jvm.Cond.code ({ cls := "OwlEars", name := "rustle", desc := "()I" } : Jvm.MethodName) prog_1_method_46_code (1 : Nat) (Option.some Jvm.ClassFile.FieldType.int)) ∈ lw_all := lw_g (lw_at lw_m4 48 rfl) rfl
theorem q877 : (Jvm.Cond.instanceMethod ({ cls := "OwlEars", name := "run", desc := "(I)J" } : Jvm.MethodName)) ∈ lw_all := lw_g (lw_at lw_m4 50 rfl) rfl
theorem q878 : (Jvm.Cond.selects "OwlEars" ({ cls := "OwlEars", name := "run", desc := "(I)J" } : Jvm.MethodName) ({ cls := "OwlEars", name := "run", desc := "(I)J" } : Jvm.MethodName)) ∈ lw_all := lw_g (lw_at lw_m4 51 rfl) rfl
theorem q879 : (Jvm.Cond.code ({ cls := "OwlEars", name := "run", desc := "(I)J" } : Jvm.MethodName) prog_1_method_48_code (2 : Nat) (Option.some Jvm.ClassFile.FieldType.long)) ∈ lw_all := lw_g (lw_at lw_m4 52 rfl) rfl
theorem q880 : (Jvm.Cond.methodLink "OwlEars" (254 : Nat) ({ cls := "OwlEars", name := "cellsIn", desc := "(I)J" } : Jvm.MethodName)) ∈ lw_all := lw_g (lw_at lw_m4 53 rfl) rfl
theorem q881 : (Jvm.Cond.privateMethod ({ cls := "OwlEars", name := "cellsIn", desc := "(I)J" } : Jvm.MethodName)) ∈ lw_tbl := lw_at lw_m4 54 rfl
theorem q882 : (Jvm.Cond.instanceMethod ({ cls := "OwlEars", name := "cellsIn", desc := "(I)J" } : Jvm.MethodName)) ∈ lw_all := lw_g (lw_at lw_m4 55 rfl) rfl
theorem q883 : (Jvm.Cond.codeWith ({ cls := "OwlEars", name := "cellsIn", desc := "(I)J" } : Jvm.MethodName) prog_1_method_47_code (7 : Nat) (Option.some Jvm.ClassFile.FieldType.long) [((11 : Nat), (62 : Nat), (76 : Nat), (0 : Nat)), ((76 : Nat), (78 : Nat), (76 : Nat), (0 : Nat))]) ∈ lw_all := lw_g (lw_at lw_m4 56 rfl) rfl
theorem q885 : (Jvm.Cond.instanceMethod ({ cls := "OwlEars", name := "soonest", desc := "(I)I" } : Jvm.MethodName)) ∈ lw_all := lw_g (lw_at lw_m4 58 rfl) rfl
theorem q886 : (Jvm.Cond.selects "OwlEars" ({ cls := "OwlEars", name := "soonest", desc := "(I)I" } : Jvm.MethodName) ({ cls := "OwlEars", name := "soonest", desc := "(I)I" } : Jvm.MethodName)) ∈ lw_all := lw_g (lw_at lw_m4 59 rfl) rfl
theorem q887 : (Jvm.Cond.code ({ cls := "OwlEars", name := "soonest", desc := "(I)I" } : Jvm.MethodName) prog_1_method_50_code (2 : Nat) (Option.some Jvm.ClassFile.FieldType.int)) ∈ lw_all := lw_g (lw_at lw_m4 60 rfl) rfl
theorem q888 : (Jvm.Cond.methodLink "OwlEars" (258 : Nat) ({ cls := "OwlEars", name := "soonestFor", desc := "(I)I" } : Jvm.MethodName)) ∈ lw_all := lw_g (lw_at lw_m4 61 rfl) rfl
theorem q889 : (Jvm.Cond.privateMethod ({ cls := "OwlEars", name := "soonestFor", desc := "(I)I" } : Jvm.MethodName)) ∈ lw_tbl := lw_at lw_m4 62 rfl
theorem q890 : (Jvm.Cond.instanceMethod ({ cls := "OwlEars", name := "soonestFor", desc := "(I)I" } : Jvm.MethodName)) ∈ lw_all := lw_g (lw_at lw_m4 63 rfl) rfl
theorem q891 : (Jvm.Cond.codeWith ({ cls := "OwlEars", name := "soonestFor", desc := "(I)I" } : Jvm.MethodName) prog_1_method_49_code (5 : Nat) (Option.some Jvm.ClassFile.FieldType.int) [((11 : Nat), (54 : Nat), (67 : Nat), (0 : Nat)), ((67 : Nat), (69 : Nat), (67 : Nat), (0 : Nat))]) ∈ lw_all := lw_g (lw_at lw_m4 64 rfl) rfl
theorem q893 : (Jvm.Cond.instanceMethod ({ cls := "OwlEars", name := "chances", desc := "(II)I" } : Jvm.MethodName)) ∈ lw_all := lw_g (lw_at lw_m4 66 rfl) rfl
theorem q894 : (Jvm.Cond.selects "OwlEars" ({ cls := "OwlEars", name := "chances", desc := "(II)I" } : Jvm.MethodName) ({ cls := "OwlEars", name := "chances", desc := "(II)I" } : Jvm.MethodName)) ∈ lw_all := lw_g (lw_at lw_m4 67 rfl) rfl
theorem q895 : (Jvm.Cond.code ({ cls := "OwlEars", name := "chances", desc := "(II)I" } : Jvm.MethodName) prog_1_method_52_code (3 : Nat) (Option.some Jvm.ClassFile.FieldType.int)) ∈ lw_all := lw_g (lw_at lw_m4 68 rfl) rfl
theorem q896 : (Jvm.Cond.methodLink "OwlEars" (261 : Nat) ({ cls := "OwlEars", name := "chancesOf", desc := "(II)I" } : Jvm.MethodName)) ∈ lw_all := lw_g (lw_at lw_m4 69 rfl) rfl
theorem q897 : (Jvm.Cond.privateMethod ({ cls := "OwlEars", name := "chancesOf", desc := "(II)I" } : Jvm.MethodName)) ∈ lw_tbl := lw_at lw_m4 70 rfl
theorem q898 : (Jvm.Cond.instanceMethod ({ cls := "OwlEars", name := "chancesOf", desc := "(II)I" } : Jvm.MethodName)) ∈ lw_all := lw_g (lw_at lw_m4 71 rfl) rfl
theorem q899 : (Jvm.Cond.codeWith ({ cls := "OwlEars", name := "chancesOf", desc := "(II)I" } : Jvm.MethodName) prog_1_method_51_code (6 : Nat) (Option.some Jvm.ClassFile.FieldType.int) [((11 : Nat), (54 : Nat), (68 : Nat), (0 : Nat)), ((68 : Nat), (70 : Nat), (68 : Nat), (0 : Nat))]) ∈ lw_all := lw_g (lw_at lw_m4 72 rfl) rfl
theorem q901 : (Jvm.Cond.instanceMethod ({ cls := "OwlEars", name := "aim", desc := "(I)I" } : Jvm.MethodName)) ∈ lw_all := lw_g (lw_at lw_m4 74 rfl) rfl
theorem q902 : (Jvm.Cond.selects "OwlEars" ({ cls := "OwlEars", name := "aim", desc := "(I)I" } : Jvm.MethodName) ({ cls := "OwlEars", name := "aim", desc := "(I)I" } : Jvm.MethodName)) ∈ lw_all := lw_g (lw_at lw_m4 75 rfl) rfl
theorem q903 : (Jvm.Cond.code ({ cls := "OwlEars", name := "aim", desc := "(I)I" } : Jvm.MethodName) prog_1_method_55_code (2 : Nat) (Option.some Jvm.ClassFile.FieldType.int)) ∈ lw_all := lw_g (lw_at lw_m4 76 rfl) rfl
theorem q904 : (Jvm.Cond.methodLink "OwlEars" (270 : Nat) ({ cls := "OwlEars", name := "allThatHave", desc := "(III)J" } : Jvm.MethodName)) ∈ lw_all := lw_g (lw_at lw_m4 77 rfl) rfl
theorem q905 : (Jvm.Cond.privateMethod ({ cls := "OwlEars", name := "allThatHave", desc := "(III)J" } : Jvm.MethodName)) ∈ lw_tbl := lw_at lw_m4 78 rfl
theorem q906 : (Jvm.Cond.instanceMethod ({ cls := "OwlEars", name := "allThatHave", desc := "(III)J" } : Jvm.MethodName)) ∈ lw_all := lw_g (lw_at lw_m4 79 rfl) rfl
theorem q907 : (Jvm.Cond.code ({ cls := "OwlEars", name := "allThatHave", desc := "(III)J" } : Jvm.MethodName) prog_1_method_53_code (8 : Nat) (Option.some Jvm.ClassFile.FieldType.long)) ∈ lw_all := lw_g (lw_at lw_m4 80 rfl) rfl
theorem q908 : (Jvm.Cond.methodLink "OwlEars" (274 : Nat) ({ cls := "OwlEars", name := "leastOf", desc := "(J)I" } : Jvm.MethodName)) ∈ lw_all := lw_g (lw_at lw_m4 81 rfl) rfl
theorem q909 : (Jvm.Cond.privateMethod ({ cls := "OwlEars", name := "leastOf", desc := "(J)I" } : Jvm.MethodName)) ∈ lw_tbl := lw_at lw_m4 82 rfl
theorem q910 : (Jvm.Cond.instanceMethod ({ cls := "OwlEars", name := "leastOf", desc := "(J)I" } : Jvm.MethodName)) ∈ lw_all := lw_g (lw_at lw_m4 83 rfl) rfl
theorem q911 : (Jvm.Cond.code ({ cls := "OwlEars", name := "leastOf", desc := "(J)I" } : Jvm.MethodName) prog_1_method_54_code (3 : Nat) (Option.some Jvm.ClassFile.FieldType.int)) ∈ lw_all := lw_g (lw_at lw_m4 84 rfl) rfl
theorem q912 : (Jvm.Cond.methodLink "OwlEars" (264 : Nat) ({ cls := "java/lang/Long", name := "numberOfTrailingZeros", desc := "(J)I" } : Jvm.MethodName)) ∈ lw_all := lw_g (lw_at lw_m4 85 rfl) rfl
theorem q920 : (Jvm.Cond.instanceMethod ({ cls := "OwlEars", name := "aims", desc := "(I)J" } : Jvm.MethodName)) ∈ lw_all := lw_g (lw_at lw_m4 93 rfl) rfl
theorem q921 : (Jvm.Cond.selects "OwlEars" ({ cls := "OwlEars", name := "aims", desc := "(I)J" } : Jvm.MethodName) ({ cls := "OwlEars", name := "aims", desc := "(I)J" } : Jvm.MethodName)) ∈ lw_all := lw_g (lw_at lw_m4 94 rfl) rfl
theorem q922 : (Jvm.Cond.code ({ cls := "OwlEars", name := "aims", desc := "(I)J" } : Jvm.MethodName) prog_1_method_56_code (2 : Nat) (Option.some Jvm.ClassFile.FieldType.long)) ∈ lw_all := lw_g (lw_at lw_m4 95 rfl) rfl
theorem q924 : (Jvm.Cond.instanceMethod ({ cls := "OwlEars", name := "kinds", desc := "(I)I" } : Jvm.MethodName)) ∈ lw_all := lw_g (lw_at lw_m4 97 rfl) rfl
theorem q925 : (Jvm.Cond.selects "OwlEars" ({ cls := "OwlEars", name := "kinds", desc := "(I)I" } : Jvm.MethodName) ({ cls := "OwlEars", name := "kinds", desc := "(I)I" } : Jvm.MethodName)) ∈ lw_all := lw_g (lw_at lw_m4 98 rfl) rfl
theorem q926 : (Jvm.Cond.code ({ cls := "OwlEars", name := "kinds", desc := "(I)I" } : Jvm.MethodName) prog_1_method_57_code (2 : Nat) (Option.some Jvm.ClassFile.FieldType.int)) ∈ lw_all := lw_g (lw_at lw_m4 99 rfl) rfl
theorem q928 : (Jvm.Cond.instanceMethod ({ cls := "OwlEars", name := "waitFor", desc := "(I)I" } : Jvm.MethodName)) ∈ lw_all := lw_g (lw_at lw_m4 101 rfl) rfl
theorem q929 : (Jvm.Cond.selects "OwlEars" ({ cls := "OwlEars", name := "waitFor", desc := "(I)I" } : Jvm.MethodName) ({ cls := "OwlEars", name := "waitFor", desc := "(I)I" } : Jvm.MethodName)) ∈ lw_all := lw_g (lw_at lw_m4 102 rfl) rfl
theorem q930 : (Jvm.Cond.code ({ cls := "OwlEars", name := "waitFor", desc := "(I)I" } : Jvm.MethodName) prog_1_method_58_code (2 : Nat) (Option.some Jvm.ClassFile.FieldType.int)) ∈ lw_all := lw_g (lw_at lw_m4 103 rfl) rfl
theorem q932 : (Jvm.Cond.instanceMethod ({ cls := "OwlEars", name := "best", desc := "(I)I" } : Jvm.MethodName)) ∈ lw_all := lw_g (lw_at lw_m4 105 rfl) rfl
theorem q933 : (Jvm.Cond.selects "OwlEars" ({ cls := "OwlEars", name := "best", desc := "(I)I" } : Jvm.MethodName) ({ cls := "OwlEars", name := "best", desc := "(I)I" } : Jvm.MethodName)) ∈ lw_all := lw_g (lw_at lw_m4 106 rfl) rfl
theorem q934 : (Jvm.Cond.code ({ cls := "OwlEars", name := "best", desc := "(I)I" } : Jvm.MethodName) prog_1_method_60_code (2 : Nat) (Option.some Jvm.ClassFile.FieldType.int)) ∈ lw_all := lw_g (lw_at lw_m4 107 rfl) rfl
theorem q935 : (Jvm.Cond.methodLink "OwlEars" (280 : Nat) ({ cls := "OwlEars", name := "bestIn", desc := "(I)I" } : Jvm.MethodName)) ∈ lw_all := lw_g (lw_at lw_m4 108 rfl) rfl
theorem q936 : (Jvm.Cond.privateMethod ({ cls := "OwlEars", name := "bestIn", desc := "(I)I" } : Jvm.MethodName)) ∈ lw_tbl := lw_at lw_m4 109 rfl
theorem q937 : (Jvm.Cond.instanceMethod ({ cls := "OwlEars", name := "bestIn", desc := "(I)I" } : Jvm.MethodName)) ∈ lw_all := lw_g (lw_at lw_m4 110 rfl) rfl
theorem q938 : (Jvm.Cond.code ({ cls := "OwlEars", name := "bestIn", desc := "(I)I" } : Jvm.MethodName) prog_1_method_59_code (6 : Nat) (Option.some Jvm.ClassFile.FieldType.int)) ∈ lw_all := lw_g (lw_at lw_m4 111 rfl) rfl
theorem q939 : (Jvm.Cond.methodLink "OwlEars" (277 : Nat) ({ cls := "java/lang/Math", name := "max", desc := "(II)I" } : Jvm.MethodName)) ∈ lw_all := lw_g (lw_at lw_m4 112 rfl) rfl
theorem q941 : (Jvm.Cond.instanceMethod ({ cls := "OwlEars", name := "post", desc := "(I)I" } : Jvm.MethodName)) ∈ lw_all := lw_g (lw_at lw_m4 114 rfl) rfl
theorem q942 : (Jvm.Cond.selects "OwlEars" ({ cls := "OwlEars", name := "post", desc := "(I)I" } : Jvm.MethodName) ({ cls := "OwlEars", name := "post", desc := "(I)I" } : Jvm.MethodName)) ∈ lw_all := lw_g (lw_at lw_m4 115 rfl) rfl
theorem q943 : (Jvm.Cond.code ({ cls := "OwlEars", name := "post", desc := "(I)I" } : Jvm.MethodName) prog_1_method_62_code (2 : Nat) (Option.some Jvm.ClassFile.FieldType.int)) ∈ lw_all := lw_g (lw_at lw_m4 116 rfl) rfl
theorem q944 : (Jvm.Cond.methodLink "OwlEars" (283 : Nat) ({ cls := "OwlEars", name := "bestOwl", desc := "(III)I" } : Jvm.MethodName)) ∈ lw_all := lw_g (lw_at lw_m4 117 rfl) rfl
theorem q945 : (Jvm.Cond.privateMethod ({ cls := "OwlEars", name := "bestOwl", desc := "(III)I" } : Jvm.MethodName)) ∈ lw_tbl := lw_at lw_m4 118 rfl
theorem q946 : (Jvm.Cond.instanceMethod ({ cls := "OwlEars", name := "bestOwl", desc := "(III)I" } : Jvm.MethodName)) ∈ lw_all := lw_g (lw_at lw_m4 119 rfl) rfl
theorem q947 : (Jvm.Cond.code ({ cls := "OwlEars", name := "bestOwl", desc := "(III)I" } : Jvm.MethodName) prog_1_method_61_code (9 : Nat) (Option.some Jvm.ClassFile.FieldType.int)) ∈ lw_all := lw_g (lw_at lw_m4 120 rfl) rfl
theorem q949 : (Jvm.Cond.instanceMethod ({ cls := "OwlEars", name := "face", desc := "(I)I" } : Jvm.MethodName)) ∈ lw_all := lw_g (lw_at lw_m4 122 rfl) rfl
theorem q950 : (Jvm.Cond.selects "OwlEars" ({ cls := "OwlEars", name := "face", desc := "(I)I" } : Jvm.MethodName) ({ cls := "OwlEars", name := "face", desc := "(I)I" } : Jvm.MethodName)) ∈ lw_all := lw_g (lw_at lw_m4 123 rfl) rfl
theorem q951 : (Jvm.Cond.code ({ cls := "OwlEars", name := "face", desc := "(I)I" } : Jvm.MethodName) prog_1_method_63_code (2 : Nat) (Option.some Jvm.ClassFile.FieldType.int)) ∈ lw_all := lw_g (lw_at lw_m4 124 rfl) rfl
theorem q953 : (Jvm.Cond.instanceMethod ({ cls := "OwlEars", name := "rhythm", desc := "(II)I" } : Jvm.MethodName)) ∈ lw_all := lw_g (lw_at lw_m4 126 rfl) rfl
theorem q954 : (Jvm.Cond.selects "OwlEars" ({ cls := "OwlEars", name := "rhythm", desc := "(II)I" } : Jvm.MethodName) ({ cls := "OwlEars", name := "rhythm", desc := "(II)I" } : Jvm.MethodName)) ∈ lw_all := lw_g (lw_at lw_m4 127 rfl) rfl
theorem q955 : (Jvm.Cond.code ({ cls := "OwlEars", name := "rhythm", desc := "(II)I" } : Jvm.MethodName) prog_1_method_68_code (3 : Nat) (Option.some Jvm.ClassFile.FieldType.int)) ∈ lw_all := lw_g (lw_at lw_m4 128 rfl) rfl
theorem q956 : (Jvm.Cond.methodLink "OwlEars" (296 : Nat) ({ cls := "OwlEars", name := "areTicks", desc := "(II)Z" } : Jvm.MethodName)) ∈ lw_all := lw_g (lw_at lw_m4 129 rfl) rfl
theorem q957 : (Jvm.Cond.privateMethod ({ cls := "OwlEars", name := "areTicks", desc := "(II)Z" } : Jvm.MethodName)) ∈ lw_tbl := lw_at lw_m4 130 rfl
theorem q958 : (Jvm.Cond.instanceMethod ({ cls := "OwlEars", name := "areTicks", desc := "(II)Z" } : Jvm.MethodName)) ∈ lw_all := lw_g (lw_at lw_m4 131 rfl) rfl
theorem q959 : (Jvm.Cond.code ({ cls := "OwlEars", name := "areTicks", desc := "(II)Z" } : Jvm.MethodName) prog_1_method_67_code (3 : Nat) (Option.some Jvm.ClassFile.FieldType.boolean)) ∈ lw_all := lw_g (lw_at lw_m4 132 rfl) rfl
theorem q960 : (Jvm.Cond.methodLink "OwlEars" (299 : Nat) ({ cls := "OwlEars", name := "quietest", desc := "(II)I" } : Jvm.MethodName)) ∈ lw_all := lw_g (lw_at lw_m4 133 rfl) rfl
theorem q961 : (Jvm.Cond.privateMethod ({ cls := "OwlEars", name := "quietest", desc := "(II)I" } : Jvm.MethodName)) ∈ lw_tbl := lw_at lw_m4 134 rfl
theorem q962 : (Jvm.Cond.instanceMethod ({ cls := "OwlEars", name := "quietest", desc := "(II)I" } : Jvm.MethodName)) ∈ lw_all := lw_g (lw_at lw_m4 135 rfl) rfl
theorem q963 : (Jvm.Cond.code ({ cls := "OwlEars", name := "quietest", desc := "(II)I" } : Jvm.MethodName) prog_1_method_66_code (7 : Nat) (Option.some Jvm.ClassFile.FieldType.int)) ∈ lw_all := lw_g (lw_at lw_m4 136 rfl) rfl
theorem q964 : (Jvm.Cond.methodLink "OwlEars" (290 : Nat) ({ cls := "OwlEars", name := "heardBy", desc := "(III)I" } : Jvm.MethodName)) ∈ lw_all := lw_g (lw_at lw_m4 137 rfl) rfl
theorem q965 : (Jvm.Cond.privateMethod ({ cls := "OwlEars", name := "heardBy", desc := "(III)I" } : Jvm.MethodName)) ∈ lw_tbl := lw_at lw_m4 138 rfl
theorem q966 : (Jvm.Cond.instanceMethod ({ cls := "OwlEars", name := "heardBy", desc := "(III)I" } : Jvm.MethodName)) ∈ lw_all := lw_g (lw_at lw_m4 139 rfl) rfl
theorem q967 : (Jvm.Cond.codeWith ({ cls := "OwlEars", name := "heardBy", desc := "(III)I" } : Jvm.MethodName) prog_1_method_65_code (6 : Nat) (Option.some Jvm.ClassFile.FieldType.int) [((11 : Nat), (67 : Nat), (81 : Nat), (0 : Nat)), ((81 : Nat), (83 : Nat), (81 : Nat), (0 : Nat))]) ∈ lw_all := lw_g (lw_at lw_m4 140 rfl) rfl
theorem q968 : (Jvm.Cond.methodLink "OwlEars" (287 : Nat) ({ cls := "OwlEars", name := "runsIn", desc := "(I)I" } : Jvm.MethodName)) ∈ lw_all := lw_g (lw_at lw_m4 141 rfl) rfl
theorem q969 : (Jvm.Cond.privateMethod ({ cls := "OwlEars", name := "runsIn", desc := "(I)I" } : Jvm.MethodName)) ∈ lw_tbl := lw_at lw_m4 142 rfl
theorem q970 : (Jvm.Cond.instanceMethod ({ cls := "OwlEars", name := "runsIn", desc := "(I)I" } : Jvm.MethodName)) ∈ lw_all := lw_g (lw_at lw_m4 143 rfl) rfl
theorem q971 : (Jvm.Cond.code ({ cls := "OwlEars", name := "runsIn", desc := "(I)I" } : Jvm.MethodName) prog_1_method_64_code (4 : Nat) (Option.some Jvm.ClassFile.FieldType.int)) ∈ lw_all := lw_g (lw_at lw_m4 144 rfl) rfl
theorem q973 : (Jvm.Cond.instanceMethod ({ cls := "OwlEars", name := "least", desc := "(II)I" } : Jvm.MethodName)) ∈ lw_all := lw_g (lw_at lw_m4 146 rfl) rfl
theorem q974 : (Jvm.Cond.selects "OwlEars" ({ cls := "OwlEars", name := "least", desc := "(II)I" } : Jvm.MethodName) ({ cls := "OwlEars", name := "least", desc := "(II)I" } : Jvm.MethodName)) ∈ lw_all := lw_g (lw_at lw_m4 147 rfl) rfl
theorem q975 : (Jvm.Cond.code ({ cls := "OwlEars", name := "least", desc := "(II)I" } : Jvm.MethodName) prog_1_method_69_code (4 : Nat) (Option.some Jvm.ClassFile.FieldType.int)) ∈ lw_all := lw_g (lw_at lw_m4 148 rfl) rfl
theorem q977 : (Jvm.Cond.instanceMethod ({ cls := "OwlEars", name := "fits", desc := "(II)J" } : Jvm.MethodName)) ∈ lw_all := lw_g (lw_at lw_m4 150 rfl) rfl
theorem q978 : (Jvm.Cond.selects "OwlEars" ({ cls := "OwlEars", name := "fits", desc := "(II)J" } : Jvm.MethodName) ({ cls := "OwlEars", name := "fits", desc := "(II)J" } : Jvm.MethodName)) ∈ lw_all := lw_g (lw_at lw_m4 151 rfl) rfl
theorem q979 : (Jvm.Cond.codeWith ({ cls := "OwlEars", name := "fits", desc := "(II)J" } : Jvm.MethodName) prog_1_method_73_code (4 : Nat) (Option.some Jvm.ClassFile.FieldType.long) [((0 : Nat), (9 : Nat), (10 : Nat), (54 : Nat))]) ∈ lw_all := lw_g (lw_at lw_m4 152 rfl) rfl
theorem q980 : (Jvm.Cond.methodLink "OwlEars" (325 : Nat) ({ cls := "OwlEars", name := "allThatFit", desc := "(IIII)J" } : Jvm.MethodName)) ∈ lw_all := lw_g (lw_at lw_m4 153 rfl) rfl
theorem q981 : (Jvm.Cond.privateMethod ({ cls := "OwlEars", name := "allThatFit", desc := "(IIII)J" } : Jvm.MethodName)) ∈ lw_tbl := lw_at lw_m4 154 rfl
theorem q982 : (Jvm.Cond.instanceMethod ({ cls := "OwlEars", name := "allThatFit", desc := "(IIII)J" } : Jvm.MethodName)) ∈ lw_all := lw_g (lw_at lw_m4 155 rfl) rfl
theorem q983 : (Jvm.Cond.code ({ cls := "OwlEars", name := "allThatFit", desc := "(IIII)J" } : Jvm.MethodName) prog_1_method_72_code (10 : Nat) (Option.some Jvm.ClassFile.FieldType.long)) ∈ lw_all := lw_g (lw_at lw_m4 156 rfl) rfl
theorem q984 : (Jvm.Cond.methodLink "OwlEars" (313 : Nat) ({ cls := "OwlEars", name := "rowAt", desc := "(I)Ljava/lang/Object;" } : Jvm.MethodName)) ∈ lw_all := lw_g (lw_at lw_m4 157 rfl) rfl
theorem q985 : (Jvm.Cond.privateMethod ({ cls := "OwlEars", name := "rowAt", desc := "(I)Ljava/lang/Object;" } : Jvm.MethodName)) ∈ lw_tbl := lw_at lw_m4 158 rfl
theorem q986 : (Jvm.Cond.instanceMethod ({ cls := "OwlEars", name := "rowAt", desc := "(I)Ljava/lang/Object;" } : Jvm.MethodName)) ∈ lw_all := lw_g (lw_at lw_m4 159 rfl) rfl
theorem q987 : (Jvm.Cond.code ({ cls := "OwlEars", name := "rowAt", desc := "(I)Ljava/lang/Object;" } : Jvm.MethodName) prog_1_method_89_code (2 : Nat) (Option.some (Jvm.ClassFile.FieldType.object "java/lang/Object"))) ∈ lw_all := lw_g (lw_at lw_m4 160 rfl) rfl
theorem q988 : (Jvm.Cond.methodLink "OwlEars" (384 : Nat) ({ cls := "OwlEars", name := "isSheet", desc := "(I)Z" } : Jvm.MethodName)) ∈ lw_all := lw_g (lw_at lw_m4 161 rfl) rfl
theorem q989 : (Jvm.Cond.static ({ cls := "OwlEars", name := "isSheet", desc := "(I)Z" } : Jvm.MethodName)) ∈ lw_all := lw_g (lw_at lw_m4 162 rfl) rfl
theorem q990 : (Jvm.Cond.code ({ cls := "OwlEars", name := "isSheet", desc := "(I)Z" } : Jvm.MethodName) prog_1_method_4_code (1 : Nat) (Option.some Jvm.ClassFile.FieldType.boolean)) ∈ lw_all := lw_g (lw_at lw_m4 163 rfl) rfl
theorem q991 : (Jvm.Cond.methodLink "OwlEars" (317 : Nat) ({ cls := "OwlEars", name := "need", desc := "(ZI)V" } : Jvm.MethodName)) ∈ lw_all := lw_g (lw_at lw_m4 164 rfl) rfl
theorem q992 : (Jvm.Cond.privateMethod ({ cls := "OwlEars", name := "need", desc := "(ZI)V" } : Jvm.MethodName)) ∈ lw_tbl := lw_at lw_m4 165 rfl
theorem q993 : (Jvm.Cond.instanceMethod ({ cls := "OwlEars", name := "need", desc := "(ZI)V" } : Jvm.MethodName)) ∈ lw_all := lw_g (lw_at lw_m4 166 rfl) rfl
theorem q994 : (Jvm.Cond.code ({ cls := "OwlEars", name := "need", desc := "(ZI)V" } : Jvm.MethodName) prog_1_method_17_code (3 : Nat) (Option.none : Option Jvm.ClassFile.FieldType)) ∈ lw_all := lw_g (lw_at lw_m4 167 rfl) rfl
theorem q995 : (Jvm.Cond.methodLink "OwlEars" (118 : Nat) ({ cls := "OwlEars", name := "refused", desc := "(I)LOwlEars$Refusal;" } : Jvm.MethodName)) ∈ lw_all := lw_g (lw_at lw_m4 168 rfl) rfl
theorem q996 : (Jvm.Cond.privateMethod ({ cls := "OwlEars", name := "refused", desc := "(I)LOwlEars$Refusal;" } : Jvm.MethodName)) ∈ lw_tbl := lw_at lw_m4 169 rfl
theorem q997 : (Jvm.Cond.instanceMethod ({ cls := "OwlEars", name := "refused", desc := "(I)LOwlEars$Refusal;" } : Jvm.MethodName)) ∈ lw_all := lw_g (lw_at lw_m4 170 rfl) rfl
theorem q998 : (Jvm.Cond.code ({ cls := "OwlEars", name := "refused", desc := "(I)LOwlEars$Refusal;" } : Jvm.MethodName) prog_1_method_16_code (2 : Nat) (Option.some (Jvm.ClassFile.FieldType.object "OwlEars$Refusal"))) ∈ lw_all := lw_g (lw_at lw_m4 171 rfl) rfl
theorem q999 : (Jvm.Cond.methodLink "OwlEars" (321 : Nat) ({ cls := "OwlEars", name := "areHeardSo", desc := "(Ljava/lang/Object;I)Z" } : Jvm.MethodName)) ∈ lw_all := lw_g (lw_at lw_m4 172 rfl) rfl
theorem q1000 : (Jvm.Cond.privateMethod ({ cls := "OwlEars", name := "areHeardSo", desc := "(Ljava/lang/Object;I)Z" } : Jvm.MethodName)) ∈ lw_tbl := lw_at lw_m4 173 rfl
theorem q1001 : (Jvm.Cond.instanceMethod ({ cls := "OwlEars", name := "areHeardSo", desc := "(Ljava/lang/Object;I)Z" } : Jvm.MethodName)) ∈ lw_all := lw_g (lw_at lw_m4 174 rfl) rfl
theorem q1002 : (Jvm.Cond.codeWith ({ cls := "OwlEars", name := "areHeardSo", desc := "(Ljava/lang/Object;I)Z" } : Jvm.MethodName) prog_1_method_71_code (6 : Nat) (Option.some Jvm.ClassFile.FieldType.boolean) [((11 : Nat), (57 : Nat), (71 : Nat), (0 : Nat)), ((71 : Nat), (73 : Nat), (71 : Nat), (0 : Nat))]) ∈ lw_all := lw_g (lw_at lw_m4 175 rfl) rfl
theorem q1003 : (Jvm.Cond.methodLink "OwlEars" (302 : Nat) ({ cls := "OwlEars", name := "length", desc := "(Ljava/lang/Object;)I" } : Jvm.MethodName)) ∈ lw_all := lw_g (lw_at lw_m4 176 rfl) rfl
theorem q1004 : (Jvm.Cond.static ({ cls := "OwlEars", name := "length", desc := "(Ljava/lang/Object;)I" } : Jvm.MethodName)) ∈ lw_all := lw_g (lw_at lw_m4 177 rfl) rfl
theorem q1005 : (Jvm.Cond.code ({ cls := "OwlEars", name := "length", desc := "(Ljava/lang/Object;)I" } : Jvm.MethodName) prog_1_method_90_code (1 : Nat) (Option.some Jvm.ClassFile.FieldType.int)) ∈ lw_all := lw_g (lw_at lw_m4 178 rfl) rfl
theorem q1006 : (Jvm.Cond.classLink "OwlEars" (387 : Nat) "[B") ∈ lw_all := lw_g (lw_at lw_m4 179 rfl) rfl
theorem q1007 : (Jvm.Cond.classLink "OwlEars" (388 : Nat) "[S") ∈ lw_all := lw_g (lw_at lw_m4 180 rfl) rfl
theorem q1008 : (Jvm.Cond.classLink "OwlEars" (390 : Nat) "[I") ∈ lw_all := lw_g (lw_at lw_m4 181 rfl) rfl
theorem q1009 : (Jvm.Cond.methodLink "OwlEars" (306 : Nat) ({ cls := "OwlEars", name := "number", desc := "(Ljava/lang/Object;I)I" } : Jvm.MethodName)) ∈ lw_all := lw_g (lw_at lw_m4 182 rfl) rfl
theorem q1010 : (Jvm.Cond.static ({ cls := "OwlEars", name := "number", desc := "(Ljava/lang/Object;I)I" } : Jvm.MethodName)) ∈ lw_all := lw_g (lw_at lw_m4 183 rfl) rfl
theorem q1011 : (Jvm.Cond.code ({ cls := "OwlEars", name := "number", desc := "(Ljava/lang/Object;I)I" } : Jvm.MethodName) prog_1_method_91_code (2 : Nat) (Option.some Jvm.ClassFile.FieldType.int)) ∈ lw_all := lw_g (lw_at lw_m4 184 rfl) rfl
theorem q1012 : (Jvm.Cond.methodLink "OwlEars" (310 : Nat) ({ cls := "OwlEars", name := "isHeardSo", desc := "(II)Z" } : Jvm.MethodName)) ∈ lw_all := lw_g (lw_at lw_m4 185 rfl) rfl
theorem q1013 : (Jvm.Cond.privateMethod ({ cls := "OwlEars", name := "isHeardSo", desc := "(II)Z" } : Jvm.MethodName)) ∈ lw_tbl := lw_at lw_m4 186 rfl
theorem q1014 : (Jvm.Cond.instanceMethod ({ cls := "OwlEars", name := "isHeardSo", desc := "(II)Z" } : Jvm.MethodName)) ∈ lw_all := lw_g (lw_at lw_m4 187 rfl) rfl
theorem q1015 : (Jvm.Cond.code ({ cls := "OwlEars", name := "isHeardSo", desc := "(II)Z" } : Jvm.MethodName) prog_1_method_70_code (5 : Nat) (Option.some Jvm.ClassFile.FieldType.boolean)) ∈ lw_all := lw_g (lw_at lw_m4 188 rfl) rfl
theorem q1017 : (Jvm.Cond.instanceMethod ({ cls := "OwlEars", name := "headings", desc := "(II)I" } : Jvm.MethodName)) ∈ lw_all := lw_g (lw_at lw_m4 190 rfl) rfl
theorem q1018 : (Jvm.Cond.selects "OwlEars" ({ cls := "OwlEars", name := "headings", desc := "(II)I" } : Jvm.MethodName) ({ cls := "OwlEars", name := "headings", desc := "(II)I" } : Jvm.MethodName)) ∈ lw_all := lw_g (lw_at lw_m4 191 rfl) rfl
theorem q1019 : (Jvm.Cond.codeWith ({ cls := "OwlEars", name := "headings", desc := "(II)I" } : Jvm.MethodName) prog_1_method_74_code (4 : Nat) (Option.some Jvm.ClassFile.FieldType.int) [((0 : Nat), (11 : Nat), (12 : Nat), (54 : Nat))]) ∈ lw_all := lw_g (lw_at lw_m4 192 rfl) rfl
theorem q1020 : (Jvm.Cond.methodLink "OwlEars" (329 : Nat) ({ cls := "java/lang/Long", name := "bitCount", desc := "(J)I" } : Jvm.MethodName)) ∈ lw_all := lw_g (lw_at lw_m4 193 rfl) rfl
theorem q1027 : (Jvm.Cond.instanceMethod ({ cls := "OwlEars", name := "leaves", desc := "(I)I" } : Jvm.MethodName)) ∈ lw_all := lw_g (lw_at lw_m4 200 rfl) rfl
theorem q1028 : (Jvm.Cond.selects "OwlEars" ({ cls := "OwlEars", name := "leaves", desc := "(I)I" } : Jvm.MethodName) ({ cls := "OwlEars", name := "leaves", desc := "(I)I" } : Jvm.MethodName)) ∈ lw_all := lw_g (lw_at lw_m4 201 rfl) rfl
theorem q1029 : (Jvm.Cond.code ({ cls := "OwlEars", name := "leaves", desc := "(I)I" } : Jvm.MethodName) prog_1_method_76_code (2 : Nat) (Option.some Jvm.ClassFile.FieldType.int)) ∈ lw_all := lw_g (lw_at lw_m4 202 rfl) rfl
theorem q1030 : (Jvm.Cond.methodLink "OwlEars" (334 : Nat) ({ cls := "OwlEars", name := "rustles", desc := "(I)I" } : Jvm.MethodName)) ∈ lw_all := lw_g (lw_at lw_m4 203 rfl) rfl
theorem q1031 : (Jvm.Cond.privateMethod ({ cls := "OwlEars", name := "rustles", desc := "(I)I" } : Jvm.MethodName)) ∈ lw_tbl := lw_at lw_m4 204 rfl
theorem q1032 : (Jvm.Cond.instanceMethod ({ cls := "OwlEars", name := "rustles", desc := "(I)I" } : Jvm.MethodName)) ∈ lw_all := lw_g (lw_at lw_m4 205 rfl) rfl
theorem q1033 : (Jvm.Cond.code ({ cls := "OwlEars", name := "rustles", desc := "(I)I" } : Jvm.MethodName) prog_1_method_75_code (5 : Nat) (Option.some Jvm.ClassFile.FieldType.int)) ∈ lw_all := lw_g (lw_at lw_m4 206 rfl) rfl
theorem q1034 : (Jvm.Cond.methodLink "OwlEars" (331 : Nat) ({ cls := "OwlEars$World", name := "draw", desc := "()I" } : Jvm.MethodName)) ∈ lw_all := lw_g (lw_at lw_m4 207 rfl) rfl
theorem q1040 : (Jvm.Cond.instanceMethod ({ cls := "OwlEars", name := "odds", desc := "(II)J" } : Jvm.MethodName)) ∈ lw_all := lw_g (lw_at lw_m4 213 rfl) rfl
theorem q1041 : (Jvm.Cond.selects "OwlEars" ({ cls := "OwlEars", name := "odds", desc := "(II)J" } : Jvm.MethodName) ({ cls := "OwlEars", name := "odds", desc := "(II)J" } : Jvm.MethodName)) ∈ lw_all := lw_g (lw_at lw_m4 214 rfl) rfl
theorem q1042 : (Jvm.Cond.code ({ cls := "OwlEars", name := "odds", desc := "(II)J" } : Jvm.MethodName) prog_1_method_78_code (9 : Nat) (Option.some Jvm.ClassFile.FieldType.long)) ∈ lw_all := lw_g (lw_at lw_m4 215 rfl) rfl
theorem q1043 : (Jvm.Cond.methodLink "OwlEars" (337 : Nat) ({ cls := "OwlEars$World", name := "noisy", desc := "()I" } : Jvm.MethodName)) ∈ lw_all := lw_g (lw_at lw_m4 216 rfl) rfl
theorem q1047 : (Jvm.Cond.methodLink "OwlEars" (340 : Nat) ({ cls := "OwlEars", name := "divisor", desc := "(II)I" } : Jvm.MethodName)) ∈ lw_all := lw_g (lw_at lw_m4 220 rfl) rfl
theorem q1048 : (Jvm.Cond.static ({ cls := "OwlEars", name := "divisor", desc := "(II)I" } : Jvm.MethodName)) ∈ lw_all := lw_g (lw_at lw_m4 221 rfl) rfl
theorem q1049 : (Jvm.Cond.code ({ cls := "OwlEars", name := "divisor", desc := "(II)I" } : Jvm.MethodName) prog_1_method_77_code (5 : Nat) (Option.some Jvm.ClassFile.FieldType.int)) ∈ lw_all := lw_g (lw_at lw_m4 222 rfl) rfl
theorem q1051 : (Jvm.Cond.instanceMethod ({ cls := "OwlEars", name := "seed", desc := "(I)I" } : Jvm.MethodName)) ∈ lw_all := lw_g (lw_at lw_m4 224 rfl) rfl
theorem q1052 : (Jvm.Cond.selects "OwlEars" ({ cls := "OwlEars", name := "seed", desc := "(I)I" } : Jvm.MethodName) ({ cls := "OwlEars", name := "seed", desc := "(I)I" } : Jvm.MethodName)) ∈ lw_all := lw_g (lw_at lw_m4 225 rfl) rfl
theorem q1053 : (Jvm.Cond.code ({ cls := "OwlEars", name := "seed", desc := "(I)I" } : Jvm.MethodName) prog_1_method_79_code (3 : Nat) (Option.some Jvm.ClassFile.FieldType.int)) ∈ lw_all := lw_g (lw_at lw_m4 226 rfl) rfl
theorem q1055 : (Jvm.Cond.instanceMethod ({ cls := "OwlEars", name := "feed", desc := "(II)I" } : Jvm.MethodName)) ∈ lw_all := lw_g (lw_at lw_m4 228 rfl) rfl
theorem q1056 : (Jvm.Cond.selects "OwlEars" ({ cls := "OwlEars", name := "feed", desc := "(II)I" } : Jvm.MethodName) ({ cls := "OwlEars", name := "feed", desc := "(II)I" } : Jvm.MethodName)) ∈ lw_all := lw_g (lw_at lw_m4 229 rfl) rfl
theorem q1057 : (Jvm.Cond.code ({ cls := "OwlEars", name := "feed", desc := "(II)I" } : Jvm.MethodName) prog_1_method_80_code (4 : Nat) (Option.some Jvm.ClassFile.FieldType.int)) ∈ lw_all := lw_g (lw_at lw_m4 230 rfl) rfl
theorem q1059 : (Jvm.Cond.instanceMethod ({ cls := "OwlEars", name := "wipe", desc := "()I" } : Jvm.MethodName)) ∈ lw_all := lw_g (lw_at lw_m4 232 rfl) rfl
theorem q1060 : (Jvm.Cond.selects "OwlEars" ({ cls := "OwlEars", name := "wipe", desc := "()I" } : Jvm.MethodName) ({ cls := "OwlEars", name := "wipe", desc := "()I" } : Jvm.MethodName)) ∈ lw_all := lw_g (lw_at lw_m4 233 rfl) rfl
theorem q1061 : (Jvm.Cond.code ({ cls := "OwlEars", name := "wipe", desc := "()I" } : Jvm.MethodName) prog_1_method_81_code (2 : Nat) (Option.some Jvm.ClassFile.FieldType.int)) ∈ lw_all := lw_g (lw_at lw_m4 234 rfl) rfl
theorem q1063 : (Jvm.Cond.instanceMethod ({ cls := "OwlEars", name := "text", desc := "()I" } : Jvm.MethodName)) ∈ lw_all := lw_g (lw_at lw_m4 236 rfl) rfl
theorem q1064 : (Jvm.Cond.selects "OwlEars" ({ cls := "OwlEars", name := "text", desc := "()I" } : Jvm.MethodName) ({ cls := "OwlEars", name := "text", desc := "()I" } : Jvm.MethodName)) ∈ lw_all := lw_g (lw_at lw_m4 237 rfl) rfl
theorem q1065 : (Jvm.Cond.codeWith ({ cls := "OwlEars", name := "text", desc := "()I" } : Jvm.MethodName) prog_1_method_82_code (2 : Nat) (Option.some Jvm.ClassFile.FieldType.int) [((30 : Nat), (53 : Nat), (54 : Nat), (361 : Nat))]) ∈ lw_all := lw_g (lw_at lw_m4 238 rfl) rfl
theorem q1066 : (Jvm.Cond.classLink "OwlEars" (361 : Nat) "OwlEars$Wrong") ∈ lw_all := lw_g (lw_at lw_m4 239 rfl) rfl
theorem q1067 : (Jvm.Cond.methodLink "OwlEars" (358 : Nat) ({ cls := "OwlEars$Reader", name := "whole", desc := "()I" } : Jvm.MethodName)) ∈ lw_all := lw_g (lw_at lw_m5 0 rfl) rfl
theorem q1181 : (Jvm.Cond.instanceMethod ({ cls := "OwlEars", name := "hold", desc := "(II)I" } : Jvm.MethodName)) ∈ lw_all := lw_g (lw_at lw_m5 114 rfl) rfl
theorem q1182 : (Jvm.Cond.selects "OwlEars" ({ cls := "OwlEars", name := "hold", desc := "(II)I" } : Jvm.MethodName) ({ cls := "OwlEars", name := "hold", desc := "(II)I" } : Jvm.MethodName)) ∈ lw_all := lw_g (lw_at lw_m5 115 rfl) rfl
theorem q1183 : (Jvm.Cond.code ({ cls := "OwlEars", name := "hold", desc := "(II)I" } : Jvm.MethodName) prog_1_method_85_code (3 : Nat) (Option.some Jvm.ClassFile.FieldType.int)) ∈ lw_all := lw_g (lw_at lw_m5 116 rfl) rfl
theorem q1184 : (Jvm.Cond.methodLink "OwlEars" (369 : Nat) ({ cls := "OwlEars", name := "isSpot", desc := "(I)Z" } : Jvm.MethodName)) ∈ lw_all := lw_g (lw_at lw_m5 117 rfl) rfl
theorem q1185 : (Jvm.Cond.static ({ cls := "OwlEars", name := "isSpot", desc := "(I)Z" } : Jvm.MethodName)) ∈ lw_all := lw_g (lw_at lw_m5 118 rfl) rfl
theorem q1186 : (Jvm.Cond.code ({ cls := "OwlEars", name := "isSpot", desc := "(I)Z" } : Jvm.MethodName) prog_1_method_5_code (1 : Nat) (Option.some Jvm.ClassFile.FieldType.boolean)) ∈ lw_all := lw_g (lw_at lw_m5 119 rfl) rfl
theorem q1188 : (Jvm.Cond.instanceMethod ({ cls := "OwlEars", name := "as", desc := "(II)I" } : Jvm.MethodName)) ∈ lw_all := lw_g (lw_at lw_m5 121 rfl) rfl
theorem q1189 : (Jvm.Cond.selects "OwlEars" ({ cls := "OwlEars", name := "as", desc := "(II)I" } : Jvm.MethodName) ({ cls := "OwlEars", name := "as", desc := "(II)I" } : Jvm.MethodName)) ∈ lw_all := lw_g (lw_at lw_m5 122 rfl) rfl
theorem q1190 : (Jvm.Cond.code ({ cls := "OwlEars", name := "as", desc := "(II)I" } : Jvm.MethodName) prog_1_method_87_code (5 : Nat) (Option.some Jvm.ClassFile.FieldType.int)) ∈ lw_all := lw_g (lw_at lw_m5 123 rfl) rfl
theorem q1191 : (Jvm.Cond.methodLink "OwlEars" (372 : Nat) ({ cls := "OwlEars", name := "thingAt", desc := "(I)Ljava/lang/Object;" } : Jvm.MethodName)) ∈ lw_all := lw_g (lw_at lw_m5 124 rfl) rfl
theorem q1192 : (Jvm.Cond.privateMethod ({ cls := "OwlEars", name := "thingAt", desc := "(I)Ljava/lang/Object;" } : Jvm.MethodName)) ∈ lw_tbl := lw_at lw_m5 125 rfl
theorem q1193 : (Jvm.Cond.instanceMethod ({ cls := "OwlEars", name := "thingAt", desc := "(I)Ljava/lang/Object;" } : Jvm.MethodName)) ∈ lw_all := lw_g (lw_at lw_m5 126 rfl) rfl
theorem q1194 : (Jvm.Cond.code ({ cls := "OwlEars", name := "thingAt", desc := "(I)Ljava/lang/Object;" } : Jvm.MethodName) prog_1_method_83_code (3 : Nat) (Option.some (Jvm.ClassFile.FieldType.object "java/lang/Object"))) ∈ lw_all := lw_g (lw_at lw_m5 127 rfl) rfl
theorem q1195 : (Jvm.Cond.methodLink "OwlEars" (375 : Nat) ({ cls := "OwlEars$Strike", name := "isUnder", desc := "(I)Z" } : Jvm.MethodName)) ∈ lw_all := lw_g (lw_at lw_m5 128 rfl) rfl
theorem q1216 : (Jvm.Cond.methodLink "OwlEars" (378 : Nat) ({ cls := "OwlEars", name := "cast", desc := "(Ljava/lang/Object;I)LOwlEars$Strike;" } : Jvm.MethodName)) ∈ lw_all := lw_g (lw_at lw_m5 149 rfl) rfl
theorem q1217 : (Jvm.Cond.static ({ cls := "OwlEars", name := "cast", desc := "(Ljava/lang/Object;I)LOwlEars$Strike;" } : Jvm.MethodName)) ∈ lw_all := lw_g (lw_at lw_m5 150 rfl) rfl
theorem q1218 : (Jvm.Cond.code ({ cls := "OwlEars", name := "cast", desc := "(Ljava/lang/Object;I)LOwlEars$Strike;" } : Jvm.MethodName) prog_1_method_86_code (2 : Nat) (Option.some (Jvm.ClassFile.FieldType.object "OwlEars$Strike"))) ∈ lw_all := lw_g (lw_at lw_m5 151 rfl) rfl
theorem q1220 : (Jvm.Cond.instanceMethod ({ cls := "OwlEars", name := "sheet", desc := "(III)I" } : Jvm.MethodName)) ∈ lw_all := lw_g (lw_at lw_m5 153 rfl) rfl
theorem q1221 : (Jvm.Cond.selects "OwlEars" ({ cls := "OwlEars", name := "sheet", desc := "(III)I" } : Jvm.MethodName) ({ cls := "OwlEars", name := "sheet", desc := "(III)I" } : Jvm.MethodName)) ∈ lw_all := lw_g (lw_at lw_m5 154 rfl) rfl
theorem q1222 : (Jvm.Cond.code ({ cls := "OwlEars", name := "sheet", desc := "(III)I" } : Jvm.MethodName) prog_1_method_88_code (4 : Nat) (Option.some Jvm.ClassFile.FieldType.int)) ∈ lw_all := lw_g (lw_at lw_m5 155 rfl) rfl
theorem q1225 : (Jvm.Cond.instanceMethod ({ cls := "OwlEars", name := "write", desc := "(III)I" } : Jvm.MethodName)) ∈ lw_all := lw_g (lw_at lw_m5 158 rfl) rfl
theorem q1226 : (Jvm.Cond.selects "OwlEars" ({ cls := "OwlEars", name := "write", desc := "(III)I" } : Jvm.MethodName) ({ cls := "OwlEars", name := "write", desc := "(III)I" } : Jvm.MethodName)) ∈ lw_all := lw_g (lw_at lw_m5 159 rfl) rfl
theorem q1227 : (Jvm.Cond.codeWith ({ cls := "OwlEars", name := "write", desc := "(III)I" } : Jvm.MethodName) prog_1_method_94_code (5 : Nat) (Option.some Jvm.ClassFile.FieldType.int) [((0 : Nat), (47 : Nat), (48 : Nat), (54 : Nat))]) ∈ lw_all := lw_g (lw_at lw_m5 160 rfl) rfl
theorem q1228 : (Jvm.Cond.methodLink "OwlEars" (391 : Nat) ({ cls := "OwlEars", name := "lay", desc := "(Ljava/lang/Object;II)V" } : Jvm.MethodName)) ∈ lw_all := lw_g (lw_at lw_m5 161 rfl) rfl
theorem q1229 : (Jvm.Cond.static ({ cls := "OwlEars", name := "lay", desc := "(Ljava/lang/Object;II)V" } : Jvm.MethodName)) ∈ lw_all := lw_g (lw_at lw_m5 162 rfl) rfl
theorem q1230 : (Jvm.Cond.code ({ cls := "OwlEars", name := "lay", desc := "(Ljava/lang/Object;II)V" } : Jvm.MethodName) prog_1_method_93_code (3 : Nat) (Option.none : Option Jvm.ClassFile.FieldType)) ∈ lw_all := lw_g (lw_at lw_m5 163 rfl) rfl
theorem q1232 : (Jvm.Cond.instanceMethod ({ cls := "OwlEars", name := "copy", desc := "(IIIII)I" } : Jvm.MethodName)) ∈ lw_all := lw_g (lw_at lw_m5 165 rfl) rfl
theorem q1233 : (Jvm.Cond.selects "OwlEars" ({ cls := "OwlEars", name := "copy", desc := "(IIIII)I" } : Jvm.MethodName) ({ cls := "OwlEars", name := "copy", desc := "(IIIII)I" } : Jvm.MethodName)) ∈ lw_all := lw_g (lw_at lw_m5 166 rfl) rfl
theorem q1234 : (Jvm.Cond.codeWith ({ cls := "OwlEars", name := "copy", desc := "(IIIII)I" } : Jvm.MethodName) prog_1_method_96_code (8 : Nat) (Option.some Jvm.ClassFile.FieldType.int) [((0 : Nat), (120 : Nat), (121 : Nat), (54 : Nat))]) ∈ lw_all := lw_g (lw_at lw_m5 167 rfl) rfl
theorem q1235 : (Jvm.Cond.methodLink "OwlEars" (401 : Nat) ({ cls := "OwlEars", name := "widthOf", desc := "(Ljava/lang/Object;)I" } : Jvm.MethodName)) ∈ lw_all := lw_g (lw_at lw_m5 168 rfl) rfl
theorem q1236 : (Jvm.Cond.static ({ cls := "OwlEars", name := "widthOf", desc := "(Ljava/lang/Object;)I" } : Jvm.MethodName)) ∈ lw_all := lw_g (lw_at lw_m5 169 rfl) rfl
theorem q1237 : (Jvm.Cond.code ({ cls := "OwlEars", name := "widthOf", desc := "(Ljava/lang/Object;)I" } : Jvm.MethodName) prog_1_method_92_code (1 : Nat) (Option.some Jvm.ClassFile.FieldType.int)) ∈ lw_all := lw_g (lw_at lw_m5 170 rfl) rfl
theorem q1238 : (Jvm.Cond.methodLink "OwlEars" (404 : Nat) ({ cls := "OwlEars", name := "slide", desc := "(Ljava/lang/Object;ILjava/lang/Object;II)V" } : Jvm.MethodName)) ∈ lw_all := lw_g (lw_at lw_m5 171 rfl) rfl
theorem q1239 : (Jvm.Cond.static ({ cls := "OwlEars", name := "slide", desc := "(Ljava/lang/Object;ILjava/lang/Object;II)V" } : Jvm.MethodName)) ∈ lw_all := lw_g (lw_at lw_m5 172 rfl) rfl
theorem q1240 : (Jvm.Cond.code ({ cls := "OwlEars", name := "slide", desc := "(Ljava/lang/Object;ILjava/lang/Object;II)V" } : Jvm.MethodName) prog_1_method_95_code (5 : Nat) (Option.none : Option Jvm.ClassFile.FieldType)) ∈ lw_all := lw_g (lw_at lw_m5 173 rfl) rfl
theorem q1241 : (Jvm.Cond.methodLink "OwlEars" (395 : Nat) ({ cls := "java/lang/System", name := "arraycopy", desc := "(Ljava/lang/Object;ILjava/lang/Object;II)V" } : Jvm.MethodName)) ∈ lw_all := lw_g (lw_at lw_m5 174 rfl) rfl
theorem q1243 : (Jvm.Cond.instanceMethod ({ cls := "OwlEars", name := "load", desc := "(I)I" } : Jvm.MethodName)) ∈ lw_all := lw_g (lw_at lw_m5 176 rfl) rfl
theorem q1244 : (Jvm.Cond.selects "OwlEars" ({ cls := "OwlEars", name := "load", desc := "(I)I" } : Jvm.MethodName) ({ cls := "OwlEars", name := "load", desc := "(I)I" } : Jvm.MethodName)) ∈ lw_all := lw_g (lw_at lw_m5 177 rfl) rfl
theorem q1245 : (Jvm.Cond.codeWith ({ cls := "OwlEars", name := "load", desc := "(I)I" } : Jvm.MethodName) prog_1_method_98_code (3 : Nat) (Option.some Jvm.ClassFile.FieldType.int) [((0 : Nat), (25 : Nat), (26 : Nat), (54 : Nat))]) ∈ lw_all := lw_g (lw_at lw_m5 178 rfl) rfl
theorem q1246 : (Jvm.Cond.methodLink "OwlEars" (407 : Nat) ({ cls := "OwlEars", name := "loads", desc := "(Ljava/lang/Object;)I" } : Jvm.MethodName)) ∈ lw_all := lw_g (lw_at lw_m5 179 rfl) rfl
theorem q1247 : (Jvm.Cond.privateMethod ({ cls := "OwlEars", name := "loads", desc := "(Ljava/lang/Object;)I" } : Jvm.MethodName)) ∈ lw_tbl := lw_at lw_m5 180 rfl
theorem q1248 : (Jvm.Cond.instanceMethod ({ cls := "OwlEars", name := "loads", desc := "(Ljava/lang/Object;)I" } : Jvm.MethodName)) ∈ lw_all := lw_g (lw_at lw_m5 181 rfl) rfl
theorem q1249 : (Jvm.Cond.code ({ cls := "OwlEars", name := "loads", desc := "(Ljava/lang/Object;)I" } : Jvm.MethodName) prog_1_method_97_code (3 : Nat) (Option.some Jvm.ClassFile.FieldType.int)) ∈ lw_all := lw_g (lw_at lw_m5 182 rfl) rfl
theorem q1251 : (Jvm.Cond.instanceMethod ({ cls := "OwlEars", name := "judge", desc := "(I)I" } : Jvm.MethodName)) ∈ lw_all := lw_g (lw_at lw_m5 184 rfl) rfl
theorem q1252 : (Jvm.Cond.selects "OwlEars" ({ cls := "OwlEars", name := "judge", desc := "(I)I" } : Jvm.MethodName) ({ cls := "OwlEars", name := "judge", desc := "(I)I" } : Jvm.MethodName)) ∈ lw_all := lw_g (lw_at lw_m5 185 rfl) rfl
theorem q1253 : (Jvm.Cond.codeWith ({ cls := "OwlEars", name := "judge", desc := "(I)I" } : Jvm.MethodName) prog_1_method_100_code (4 : Nat) (Option.some Jvm.ClassFile.FieldType.int) [((0 : Nat), (41 : Nat), (42 : Nat), (54 : Nat))]) ∈ lw_all := lw_g (lw_at lw_m5 186 rfl) rfl
theorem q1254 : (Jvm.Cond.methodLink "OwlEars" (410 : Nat) ({ cls := "OwlEars", name := "rightOnes", desc := "(Ljava/lang/Object;)I" } : Jvm.MethodName)) ∈ lw_all := lw_g (lw_at lw_m5 187 rfl) rfl
theorem q1255 : (Jvm.Cond.privateMethod ({ cls := "OwlEars", name := "rightOnes", desc := "(Ljava/lang/Object;)I" } : Jvm.MethodName)) ∈ lw_tbl := lw_at lw_m5 188 rfl
theorem q1256 : (Jvm.Cond.instanceMethod ({ cls := "OwlEars", name := "rightOnes", desc := "(Ljava/lang/Object;)I" } : Jvm.MethodName)) ∈ lw_all := lw_g (lw_at lw_m5 189 rfl) rfl
theorem q1257 : (Jvm.Cond.codeWith ({ cls := "OwlEars", name := "rightOnes", desc := "(Ljava/lang/Object;)I" } : Jvm.MethodName) prog_1_method_99_code (5 : Nat) (Option.some Jvm.ClassFile.FieldType.int) [((11 : Nat), (53 : Nat), (66 : Nat), (0 : Nat)), ((66 : Nat), (68 : Nat), (66 : Nat), (0 : Nat))]) ∈ lw_all := lw_g (lw_at lw_m5 190 rfl) rfl
theorem q1259 : (Jvm.Cond.instanceMethod ({ cls := "OwlEars", name := "image", desc := "()I" } : Jvm.MethodName)) ∈ lw_all := lw_g (lw_at lw_m5 192 rfl) rfl
theorem q1260 : (Jvm.Cond.selects "OwlEars" ({ cls := "OwlEars", name := "image", desc := "()I" } : Jvm.MethodName) ({ cls := "OwlEars", name := "image", desc := "()I" } : Jvm.MethodName)) ∈ lw_all := lw_g (lw_at lw_m5 193 rfl) rfl
theorem q1261 : (Jvm.Cond.code ({ cls := "OwlEars", name := "image", desc := "()I" } : Jvm.MethodName) prog_1_method_101_code (1 : Nat) (Option.some Jvm.ClassFile.FieldType.int)) ∈ lw_all := lw_g (lw_at lw_m5 194 rfl) rfl
theorem q1263 : (Jvm.Cond.instanceMethod ({ cls := "OwlEars", name := "undo", desc := "()I" } : Jvm.MethodName)) ∈ lw_all := lw_g (lw_at lw_m5 196 rfl) rfl
theorem q1264 : (Jvm.Cond.selects "OwlEars" ({ cls := "OwlEars", name := "undo", desc := "()I" } : Jvm.MethodName) ({ cls := "OwlEars", name := "undo", desc := "()I" } : Jvm.MethodName)) ∈ lw_all := lw_g (lw_at lw_m5 197 rfl) rfl
theorem q1265 : (Jvm.Cond.code ({ cls := "OwlEars", name := "undo", desc := "()I" } : Jvm.MethodName) prog_1_method_102_code (1 : Nat) (Option.some Jvm.ClassFile.FieldType.int)) ∈ lw_all := lw_g (lw_at lw_m5 198 rfl) rfl
theorem q1267 : (Jvm.Cond.instanceMethod ({ cls := "OwlEars", name := "tear", desc := "()I" } : Jvm.MethodName)) ∈ lw_all := lw_g (lw_at lw_m5 200 rfl) rfl
theorem q1268 : (Jvm.Cond.selects "OwlEars" ({ cls := "OwlEars", name := "tear", desc := "()I" } : Jvm.MethodName) ({ cls := "OwlEars", name := "tear", desc := "()I" } : Jvm.MethodName)) ∈ lw_all := lw_g (lw_at lw_m5 201 rfl) rfl
theorem q1269 : (Jvm.Cond.code ({ cls := "OwlEars", name := "tear", desc := "()I" } : Jvm.MethodName) prog_1_method_103_code (2 : Nat) (Option.some Jvm.ClassFile.FieldType.int)) ∈ lw_all := lw_g (lw_at lw_m5 202 rfl) rfl
theorem q1271 : (Jvm.Cond.instanceMethod ({ cls := "OwlEars", name := "count", desc := "(I)I" } : Jvm.MethodName)) ∈ lw_all := lw_g (lw_at lw_m5 204 rfl) rfl
theorem q1272 : (Jvm.Cond.selects "OwlEars" ({ cls := "OwlEars", name := "count", desc := "(I)I" } : Jvm.MethodName) ({ cls := "OwlEars", name := "count", desc := "(I)I" } : Jvm.MethodName)) ∈ lw_all := lw_g (lw_at lw_m5 205 rfl) rfl
theorem q1273 : (Jvm.Cond.code ({ cls := "OwlEars", name := "count", desc := "(I)I" } : Jvm.MethodName) prog_1_method_104_code (2 : Nat) (Option.some Jvm.ClassFile.FieldType.int)) ∈ lw_all := lw_g (lw_at lw_m5 206 rfl) rfl
theorem q1274 : (Jvm.Cond.methodLink "OwlEars" (417 : Nat) ({ cls := "OwlEars", name := "ones", desc := "(I)I" } : Jvm.MethodName)) ∈ lw_all := lw_g (lw_at lw_m5 207 rfl) rfl
theorem q1275 : (Jvm.Cond.static ({ cls := "OwlEars", name := "ones", desc := "(I)I" } : Jvm.MethodName)) ∈ lw_all := lw_g (lw_at lw_m5 208 rfl) rfl
theorem q1276 : (Jvm.Cond.code ({ cls := "OwlEars", name := "ones", desc := "(I)I" } : Jvm.MethodName) prog_1_method_3_code (1 : Nat) (Option.some Jvm.ClassFile.FieldType.int)) ∈ lw_all := lw_g (lw_at lw_m5 209 rfl) rfl
theorem q1277 : (Jvm.Cond.methodLink "OwlEars" (1 : Nat) ({ cls := "java/lang/Integer", name := "bitCount", desc := "(I)I" } : Jvm.MethodName)) ∈ lw_all := lw_g (lw_at lw_m5 210 rfl) rfl
theorem q1283 : (Jvm.Cond.methodLink "OwlEars" (420 : Nat) ({ cls := "OwlEars", name := "holding", desc := "()I" } : Jvm.MethodName)) ∈ lw_all := lw_g (lw_at lw_m5 216 rfl) rfl
theorem q1284 : (Jvm.Cond.privateMethod ({ cls := "OwlEars", name := "holding", desc := "()I" } : Jvm.MethodName)) ∈ lw_tbl := lw_at lw_m5 217 rfl
theorem q1285 : (Jvm.Cond.instanceMethod ({ cls := "OwlEars", name := "holding", desc := "()I" } : Jvm.MethodName)) ∈ lw_all := lw_g (lw_at lw_m5 218 rfl) rfl
theorem q1286 : (Jvm.Cond.code ({ cls := "OwlEars", name := "holding", desc := "()I" } : Jvm.MethodName) prog_1_method_84_code (6 : Nat) (Option.some Jvm.ClassFile.FieldType.int)) ∈ lw_all := lw_g (lw_at lw_m5 219 rfl) rfl
theorem q1288 : (Jvm.Cond.instanceMethod ({ cls := "OwlEars", name := "status", desc := "(I)I" } : Jvm.MethodName)) ∈ lw_all := lw_g (lw_at lw_m5 221 rfl) rfl
theorem q1289 : (Jvm.Cond.selects "OwlEars" ({ cls := "OwlEars", name := "status", desc := "(I)I" } : Jvm.MethodName) ({ cls := "OwlEars", name := "status", desc := "(I)I" } : Jvm.MethodName)) ∈ lw_all := lw_g (lw_at lw_m5 222 rfl) rfl
theorem q1290 : (Jvm.Cond.code ({ cls := "OwlEars", name := "status", desc := "(I)I" } : Jvm.MethodName) prog_1_method_105_code (4 : Nat) (Option.some Jvm.ClassFile.FieldType.int)) ∈ lw_all := lw_g (lw_at lw_m5 223 rfl) rfl
theorem in_X0 : ∀ w ∈ wsX00, w ∈ lw_all := lw_in wsX00 [435, 437, 439, 441, 443, 445, 447, 449, 451, 453, 455, 457, 459] (by decide +kernel) (by decide +kernel)
