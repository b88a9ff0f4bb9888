/-! OwlEarsModel -/
set_option maxRecDepth 100000
def RX13 : String := "OwlEarsModel"
def TX13 : u_T := fun k => match k with
  | 0 => ("OwlEarsModel", "now", "[I", true)
  | 1 => ("OwlEarsModel", "kept", "[I", true)
  | 2 => ("OwlEarsModel", "aside", "[I", true)
  | 3 => ("OwlEarsModel", "before", "[I", true)
  | 4 => ("OwlEarsModel", "isKept", "Z", false)
  | 5 => ("OwlEarsModel", "found", "[I", true)
  | 6 => ("OwlEarsModel", "ranMany", "I", false)
  | 7 => ("OwlEarsModel", "leastHeard", "I", false)
  | 8 => ("OwlEarsModel", "tape", "[I", true)
  | 9 => ("OwlEarsModel", "taped", "I", false)
  | 10 => ("OwlEarsModel", "begins", "I", false)
  | 11 => ("OwlEarsModel", "ends", "I", false)
  | 12 => ("OwlEarsModel", "sort", "I", false)
  | 13 => ("OwlEarsModel", "value", "I", false)
  | 14 => ("OwlEarsModel", "isWrong", "Z", false)
  | 15 => ("OwlEarsModel", "kindNames", "[Ljava/lang/String;", true)
  | 16 => ("OwlEarsModel", "headingNames", "[Ljava/lang/String;", true)
  | 17 => ("OwlEarsModel", "items", "[I", true)
  | 18 => ("OwlEarsModel", "itemMany", "I", false)
  | 19 => ("OwlEarsModel", "strikeThen", "I", false)
  | 20 => ("OwlEarsModel", "widths", "[I", true)
  | 21 => ("OwlEarsModel", "sizes", "[I", true)
  | 22 => ("OwlEarsModel", "numbers", "[I", true)
  | _ => ("OwlEarsModel", "moved", "[I", true)
def tyX13 : Nat → FieldType := fun k => match k with
  | 0 => .array .int
  | 1 => .array .int
  | 2 => .array .int
  | 3 => .array .int
  | 4 => .boolean
  | 5 => .array .int
  | 6 => .int
  | 7 => .int
  | 8 => .array .int
  | 9 => .int
  | 10 => .int
  | 11 => .int
  | 12 => .int
  | 13 => .int
  | 14 => .boolean
  | 15 => .array (.object "java/lang/String")
  | 16 => .array (.object "java/lang/String")
  | 17 => .array .int
  | 18 => .int
  | 19 => .int
  | 20 => .array .int
  | 21 => .array .int
  | 22 => .array .int
  | _ => .array .int
abbrev wsX130 : List Cond := u_ws RX13 TX13 24
set_option maxRecDepth 100000 in
theorem nmX13 : ∀ a, a < 24 → ∀ b, b < 24 → a ≠ b → (TX13 a).2.1 ≠ (TX13 b).2.1 := by decide +kernel
set_option maxRecDepth 100000 in
theorem tyX13_ok : ∀ k, k < 24 → parseFieldDescriptor (TX13 k).2.2.1 = some (tyX13 k) := by decide +kernel
abbrev cX13_init : ByteArray := prog_16_method_1_code
def yX13_init : MethodName := ⟨RX13, "<init>", "()V"⟩
def dkwX13_init_9 : List UInt8 := [180, 0, 9, 16, 10, 27, 96, 2, 79, 132, 1, 1, 167, 255, 237, 177]
abbrev dktX13_init_9 : List UInt8 := dkwX13_init_9 ++ []
def dkwX13_init_8 : List UInt8 := [16, 6, 5, 79, 42, 180, 0, 9, 16, 8, 16, 14, 79, 3, 60, 27, 16, 10, 162, 0, 19, 42]
abbrev dktX13_init_8 : List UInt8 := dkwX13_init_8 ++ dktX13_init_9
def dkwX13_init_7 : List UInt8 := [180, 0, 9, 5, 4, 79, 42, 180, 0, 9, 7, 4, 79, 42, 180, 0, 9, 8, 6, 79, 42, 180, 0, 9]
abbrev dktX13_init_7 : List UInt8 := dkwX13_init_7 ++ dktX13_init_8
def dkwX13_init_6 : List UInt8 := [7, 188, 10, 181, 0, 65, 42, 17, 0, 160, 188, 10, 181, 0, 68, 42, 16, 40, 188, 10, 181, 0, 71, 42]
abbrev dktX13_init_6 : List UInt8 := dkwX13_init_6 ++ dktX13_init_7
def dkwX13_init_5 : List UInt8 := [6, 18, 54, 83, 181, 0, 56, 42, 17, 2, 88, 188, 10, 181, 0, 59, 42, 7, 188, 10, 181, 0, 62, 42]
abbrev dktX13_init_5 : List UInt8 := dkwX13_init_5 ++ dktX13_init_6
def dkwX13_init_4 : List UInt8 := [181, 0, 44, 42, 7, 189, 0, 28, 89, 3, 18, 48, 83, 89, 4, 18, 50, 83, 89, 5, 18, 52, 83, 89]
abbrev dktX13_init_4 : List UInt8 := dkwX13_init_4 ++ dktX13_init_5
def dkwX13_init_3 : List UInt8 := [18, 34, 83, 89, 6, 18, 36, 83, 89, 7, 18, 38, 83, 89, 8, 18, 40, 83, 89, 16, 6, 18, 42, 83]
abbrev dktX13_init_3 : List UInt8 := dkwX13_init_3 ++ dktX13_init_4
def dkwX13_init_2 : List UInt8 := [188, 10, 181, 0, 25, 42, 16, 7, 189, 0, 28, 89, 3, 18, 30, 83, 89, 4, 18, 32, 83, 89, 5]
abbrev dktX13_init_2 : List UInt8 := dkwX13_init_2 ++ dktX13_init_3
def dkwX13_init_1 : List UInt8 := [188, 10, 181, 0, 16, 42, 16, 124, 188, 10, 181, 0, 19, 42, 16, 8, 188, 10, 181, 0, 22, 42, 16, 120]
abbrev dktX13_init_1 : List UInt8 := dkwX13_init_1 ++ dktX13_init_2
def dkwX13_init_0 : List UInt8 := [42, 183, 0, 1, 42, 16, 124, 188, 10, 181, 0, 9, 42, 16, 124, 188, 10, 181, 0, 13, 42, 16, 124]
abbrev dktX13_init_0 : List UInt8 := dkwX13_init_0 ++ dktX13_init_1
theorem dksX13_init_0 : cX13_init.data.toList.drop 0 = dktX13_init_0 := by decide +kernel
theorem dksX13_init_1 : cX13_init.data.toList.drop 23 = dktX13_init_1 := dk_seg dksX13_init_0 23 rfl rfl
theorem dksX13_init_2 : cX13_init.data.toList.drop 47 = dktX13_init_2 := dk_seg dksX13_init_1 24 rfl rfl
theorem dksX13_init_3 : cX13_init.data.toList.drop 70 = dktX13_init_3 := dk_seg dksX13_init_2 23 rfl rfl
theorem dksX13_init_4 : cX13_init.data.toList.drop 94 = dktX13_init_4 := dk_seg dksX13_init_3 24 rfl rfl
theorem dksX13_init_5 : cX13_init.data.toList.drop 118 = dktX13_init_5 := dk_seg dksX13_init_4 24 rfl rfl
theorem dksX13_init_6 : cX13_init.data.toList.drop 142 = dktX13_init_6 := dk_seg dksX13_init_5 24 rfl rfl
theorem dksX13_init_7 : cX13_init.data.toList.drop 166 = dktX13_init_7 := dk_seg dksX13_init_6 24 rfl rfl
theorem dksX13_init_8 : cX13_init.data.toList.drop 190 = dktX13_init_8 := dk_seg dksX13_init_7 24 rfl rfl
theorem dksX13_init_9 : cX13_init.data.toList.drop 212 = dktX13_init_9 := dk_seg dksX13_init_8 22 rfl rfl
theorem dX13_init_0 : decode cX13_init 0 = .ok (.aload_n 0, 1) := dk_42 (dk_at dksX13_init_0 0 rfl rfl)
theorem dX13_init_1 : decode cX13_init 1 = .ok (.invokespecial 1, 3) := dk_183 0 1 (dk_at dksX13_init_0 1 rfl rfl)
theorem dX13_init_4 : decode cX13_init 4 = .ok (.aload_n 0, 1) := dk_42 (dk_at dksX13_init_0 4 rfl rfl)
theorem dX13_init_5 : decode cX13_init 5 = .ok (.bipush 124, 2) := dk_16 124 (dk_at dksX13_init_0 5 rfl rfl)
theorem dX13_init_7 : decode cX13_init 7 = .ok (.newarray .int, 2) := dk_188_10 (dk_at dksX13_init_0 7 rfl rfl)
theorem dX13_init_9 : decode cX13_init 9 = .ok (.putfield 9, 3) := dk_181 0 9 (dk_at dksX13_init_0 9 rfl rfl)
theorem dX13_init_12 : decode cX13_init 12 = .ok (.aload_n 0, 1) := dk_42 (dk_at dksX13_init_0 12 rfl rfl)
theorem dX13_init_13 : decode cX13_init 13 = .ok (.bipush 124, 2) := dk_16 124 (dk_at dksX13_init_0 13 rfl rfl)
theorem dX13_init_15 : decode cX13_init 15 = .ok (.newarray .int, 2) := dk_188_10 (dk_at dksX13_init_0 15 rfl rfl)
theorem dX13_init_17 : decode cX13_init 17 = .ok (.putfield 13, 3) := dk_181 0 13 (dk_at dksX13_init_0 17 rfl rfl)
theorem dX13_init_20 : decode cX13_init 20 = .ok (.aload_n 0, 1) := dk_42 (dk_at dksX13_init_0 20 rfl rfl)
theorem dX13_init_21 : decode cX13_init 21 = .ok (.bipush 124, 2) := dk_16 124 (dk_at dksX13_init_0 21 rfl rfl)
theorem dX13_init_23 : decode cX13_init 23 = .ok (.newarray .int, 2) := dk_188_10 (dk_at dksX13_init_1 0 rfl rfl)
theorem dX13_init_25 : decode cX13_init 25 = .ok (.putfield 16, 3) := dk_181 0 16 (dk_at dksX13_init_1 2 rfl rfl)
theorem dX13_init_28 : decode cX13_init 28 = .ok (.aload_n 0, 1) := dk_42 (dk_at dksX13_init_1 5 rfl rfl)
theorem dX13_init_29 : decode cX13_init 29 = .ok (.bipush 124, 2) := dk_16 124 (dk_at dksX13_init_1 6 rfl rfl)
theorem dX13_init_31 : decode cX13_init 31 = .ok (.newarray .int, 2) := dk_188_10 (dk_at dksX13_init_1 8 rfl rfl)
theorem dX13_init_33 : decode cX13_init 33 = .ok (.putfield 19, 3) := dk_181 0 19 (dk_at dksX13_init_1 10 rfl rfl)
theorem dX13_init_36 : decode cX13_init 36 = .ok (.aload_n 0, 1) := dk_42 (dk_at dksX13_init_1 13 rfl rfl)
theorem dX13_init_37 : decode cX13_init 37 = .ok (.bipush 8, 2) := dk_16 8 (dk_at dksX13_init_1 14 rfl rfl)
theorem dX13_init_39 : decode cX13_init 39 = .ok (.newarray .int, 2) := dk_188_10 (dk_at dksX13_init_1 16 rfl rfl)
theorem dX13_init_41 : decode cX13_init 41 = .ok (.putfield 22, 3) := dk_181 0 22 (dk_at dksX13_init_1 18 rfl rfl)
theorem dX13_init_44 : decode cX13_init 44 = .ok (.aload_n 0, 1) := dk_42 (dk_at dksX13_init_1 21 rfl rfl)
theorem dX13_init_45 : decode cX13_init 45 = .ok (.bipush 120, 2) := dk_16 120 (dk_at dksX13_init_1 22 rfl rfl)
theorem dX13_init_47 : decode cX13_init 47 = .ok (.newarray .int, 2) := dk_188_10 (dk_at dksX13_init_2 0 rfl rfl)
theorem dX13_init_49 : decode cX13_init 49 = .ok (.putfield 25, 3) := dk_181 0 25 (dk_at dksX13_init_2 2 rfl rfl)
theorem dX13_init_52 : decode cX13_init 52 = .ok (.aload_n 0, 1) := dk_42 (dk_at dksX13_init_2 5 rfl rfl)
theorem dX13_init_53 : decode cX13_init 53 = .ok (.bipush 7, 2) := dk_16 7 (dk_at dksX13_init_2 6 rfl rfl)
theorem dX13_init_55 : decode cX13_init 55 = .ok (.anewarray 28, 3) := dk_189 0 28 (dk_at dksX13_init_2 8 rfl rfl)
theorem dX13_init_58 : decode cX13_init 58 = .ok (.dup, 1) := dk_89 (dk_at dksX13_init_2 11 rfl rfl)
theorem dX13_init_59 : decode cX13_init 59 = .ok (.iconst 0, 1) := dk_3 (dk_at dksX13_init_2 12 rfl rfl)
theorem dX13_init_60 : decode cX13_init 60 = .ok (.ldc 30, 2) := dk_18 30 (dk_at dksX13_init_2 13 rfl rfl)
theorem dX13_init_62 : decode cX13_init 62 = .ok (.aastore, 1) := dk_83 (dk_at dksX13_init_2 15 rfl rfl)
theorem dX13_init_63 : decode cX13_init 63 = .ok (.dup, 1) := dk_89 (dk_at dksX13_init_2 16 rfl rfl)
theorem dX13_init_64 : decode cX13_init 64 = .ok (.iconst 1, 1) := dk_4 (dk_at dksX13_init_2 17 rfl rfl)
theorem dX13_init_65 : decode cX13_init 65 = .ok (.ldc 32, 2) := dk_18 32 (dk_at dksX13_init_2 18 rfl rfl)
theorem dX13_init_67 : decode cX13_init 67 = .ok (.aastore, 1) := dk_83 (dk_at dksX13_init_2 20 rfl rfl)
theorem dX13_init_68 : decode cX13_init 68 = .ok (.dup, 1) := dk_89 (dk_at dksX13_init_2 21 rfl rfl)
theorem dX13_init_69 : decode cX13_init 69 = .ok (.iconst 2, 1) := dk_5 (dk_at dksX13_init_2 22 rfl rfl)
theorem dX13_init_70 : decode cX13_init 70 = .ok (.ldc 34, 2) := dk_18 34 (dk_at dksX13_init_3 0 rfl rfl)
theorem dX13_init_72 : decode cX13_init 72 = .ok (.aastore, 1) := dk_83 (dk_at dksX13_init_3 2 rfl rfl)
theorem dX13_init_73 : decode cX13_init 73 = .ok (.dup, 1) := dk_89 (dk_at dksX13_init_3 3 rfl rfl)
theorem dX13_init_74 : decode cX13_init 74 = .ok (.iconst 3, 1) := dk_6 (dk_at dksX13_init_3 4 rfl rfl)
theorem dX13_init_75 : decode cX13_init 75 = .ok (.ldc 36, 2) := dk_18 36 (dk_at dksX13_init_3 5 rfl rfl)
theorem dX13_init_77 : decode cX13_init 77 = .ok (.aastore, 1) := dk_83 (dk_at dksX13_init_3 7 rfl rfl)
theorem dX13_init_78 : decode cX13_init 78 = .ok (.dup, 1) := dk_89 (dk_at dksX13_init_3 8 rfl rfl)
theorem dX13_init_79 : decode cX13_init 79 = .ok (.iconst 4, 1) := dk_7 (dk_at dksX13_init_3 9 rfl rfl)
theorem dX13_init_80 : decode cX13_init 80 = .ok (.ldc 38, 2) := dk_18 38 (dk_at dksX13_init_3 10 rfl rfl)
theorem dX13_init_82 : decode cX13_init 82 = .ok (.aastore, 1) := dk_83 (dk_at dksX13_init_3 12 rfl rfl)
theorem dX13_init_83 : decode cX13_init 83 = .ok (.dup, 1) := dk_89 (dk_at dksX13_init_3 13 rfl rfl)
theorem dX13_init_84 : decode cX13_init 84 = .ok (.iconst 5, 1) := dk_8 (dk_at dksX13_init_3 14 rfl rfl)
theorem dX13_init_85 : decode cX13_init 85 = .ok (.ldc 40, 2) := dk_18 40 (dk_at dksX13_init_3 15 rfl rfl)
theorem dX13_init_87 : decode cX13_init 87 = .ok (.aastore, 1) := dk_83 (dk_at dksX13_init_3 17 rfl rfl)
theorem dX13_init_88 : decode cX13_init 88 = .ok (.dup, 1) := dk_89 (dk_at dksX13_init_3 18 rfl rfl)
theorem dX13_init_89 : decode cX13_init 89 = .ok (.bipush 6, 2) := dk_16 6 (dk_at dksX13_init_3 19 rfl rfl)
theorem dX13_init_91 : decode cX13_init 91 = .ok (.ldc 42, 2) := dk_18 42 (dk_at dksX13_init_3 21 rfl rfl)
theorem dX13_init_93 : decode cX13_init 93 = .ok (.aastore, 1) := dk_83 (dk_at dksX13_init_3 23 rfl rfl)
theorem dX13_init_94 : decode cX13_init 94 = .ok (.putfield 44, 3) := dk_181 0 44 (dk_at dksX13_init_4 0 rfl rfl)
theorem dX13_init_97 : decode cX13_init 97 = .ok (.aload_n 0, 1) := dk_42 (dk_at dksX13_init_4 3 rfl rfl)
theorem dX13_init_98 : decode cX13_init 98 = .ok (.iconst 4, 1) := dk_7 (dk_at dksX13_init_4 4 rfl rfl)
theorem dX13_init_99 : decode cX13_init 99 = .ok (.anewarray 28, 3) := dk_189 0 28 (dk_at dksX13_init_4 5 rfl rfl)
theorem dX13_init_102 : decode cX13_init 102 = .ok (.dup, 1) := dk_89 (dk_at dksX13_init_4 8 rfl rfl)
theorem dX13_init_103 : decode cX13_init 103 = .ok (.iconst 0, 1) := dk_3 (dk_at dksX13_init_4 9 rfl rfl)
theorem dX13_init_104 : decode cX13_init 104 = .ok (.ldc 48, 2) := dk_18 48 (dk_at dksX13_init_4 10 rfl rfl)
theorem dX13_init_106 : decode cX13_init 106 = .ok (.aastore, 1) := dk_83 (dk_at dksX13_init_4 12 rfl rfl)
theorem dX13_init_107 : decode cX13_init 107 = .ok (.dup, 1) := dk_89 (dk_at dksX13_init_4 13 rfl rfl)
theorem dX13_init_108 : decode cX13_init 108 = .ok (.iconst 1, 1) := dk_4 (dk_at dksX13_init_4 14 rfl rfl)
theorem dX13_init_109 : decode cX13_init 109 = .ok (.ldc 50, 2) := dk_18 50 (dk_at dksX13_init_4 15 rfl rfl)
theorem dX13_init_111 : decode cX13_init 111 = .ok (.aastore, 1) := dk_83 (dk_at dksX13_init_4 17 rfl rfl)
theorem dX13_init_112 : decode cX13_init 112 = .ok (.dup, 1) := dk_89 (dk_at dksX13_init_4 18 rfl rfl)
theorem dX13_init_113 : decode cX13_init 113 = .ok (.iconst 2, 1) := dk_5 (dk_at dksX13_init_4 19 rfl rfl)
theorem dX13_init_114 : decode cX13_init 114 = .ok (.ldc 52, 2) := dk_18 52 (dk_at dksX13_init_4 20 rfl rfl)
theorem dX13_init_116 : decode cX13_init 116 = .ok (.aastore, 1) := dk_83 (dk_at dksX13_init_4 22 rfl rfl)
theorem dX13_init_117 : decode cX13_init 117 = .ok (.dup, 1) := dk_89 (dk_at dksX13_init_4 23 rfl rfl)
theorem dX13_init_118 : decode cX13_init 118 = .ok (.iconst 3, 1) := dk_6 (dk_at dksX13_init_5 0 rfl rfl)
theorem dX13_init_119 : decode cX13_init 119 = .ok (.ldc 54, 2) := dk_18 54 (dk_at dksX13_init_5 1 rfl rfl)
theorem dX13_init_121 : decode cX13_init 121 = .ok (.aastore, 1) := dk_83 (dk_at dksX13_init_5 3 rfl rfl)
theorem dX13_init_122 : decode cX13_init 122 = .ok (.putfield 56, 3) := dk_181 0 56 (dk_at dksX13_init_5 4 rfl rfl)
theorem dX13_init_125 : decode cX13_init 125 = .ok (.aload_n 0, 1) := dk_42 (dk_at dksX13_init_5 7 rfl rfl)
theorem dX13_init_126 : decode cX13_init 126 = .ok (.sipush 600, 3) := dk_17 2 88 (dk_at dksX13_init_5 8 rfl rfl)
theorem dX13_init_129 : decode cX13_init 129 = .ok (.newarray .int, 2) := dk_188_10 (dk_at dksX13_init_5 11 rfl rfl)
theorem dX13_init_131 : decode cX13_init 131 = .ok (.putfield 59, 3) := dk_181 0 59 (dk_at dksX13_init_5 13 rfl rfl)
theorem dX13_init_134 : decode cX13_init 134 = .ok (.aload_n 0, 1) := dk_42 (dk_at dksX13_init_5 16 rfl rfl)
theorem dX13_init_135 : decode cX13_init 135 = .ok (.iconst 4, 1) := dk_7 (dk_at dksX13_init_5 17 rfl rfl)
theorem dX13_init_136 : decode cX13_init 136 = .ok (.newarray .int, 2) := dk_188_10 (dk_at dksX13_init_5 18 rfl rfl)
theorem dX13_init_138 : decode cX13_init 138 = .ok (.putfield 62, 3) := dk_181 0 62 (dk_at dksX13_init_5 20 rfl rfl)
theorem dX13_init_141 : decode cX13_init 141 = .ok (.aload_n 0, 1) := dk_42 (dk_at dksX13_init_5 23 rfl rfl)
theorem dX13_init_142 : decode cX13_init 142 = .ok (.iconst 4, 1) := dk_7 (dk_at dksX13_init_6 0 rfl rfl)
theorem dX13_init_143 : decode cX13_init 143 = .ok (.newarray .int, 2) := dk_188_10 (dk_at dksX13_init_6 1 rfl rfl)
theorem dX13_init_145 : decode cX13_init 145 = .ok (.putfield 65, 3) := dk_181 0 65 (dk_at dksX13_init_6 3 rfl rfl)
theorem dX13_init_148 : decode cX13_init 148 = .ok (.aload_n 0, 1) := dk_42 (dk_at dksX13_init_6 6 rfl rfl)
theorem dX13_init_149 : decode cX13_init 149 = .ok (.sipush 160, 3) := dk_17 0 160 (dk_at dksX13_init_6 7 rfl rfl)
theorem dX13_init_152 : decode cX13_init 152 = .ok (.newarray .int, 2) := dk_188_10 (dk_at dksX13_init_6 10 rfl rfl)
theorem dX13_init_154 : decode cX13_init 154 = .ok (.putfield 68, 3) := dk_181 0 68 (dk_at dksX13_init_6 12 rfl rfl)
theorem dX13_init_157 : decode cX13_init 157 = .ok (.aload_n 0, 1) := dk_42 (dk_at dksX13_init_6 15 rfl rfl)
theorem dX13_init_158 : decode cX13_init 158 = .ok (.bipush 40, 2) := dk_16 40 (dk_at dksX13_init_6 16 rfl rfl)
theorem dX13_init_160 : decode cX13_init 160 = .ok (.newarray .int, 2) := dk_188_10 (dk_at dksX13_init_6 18 rfl rfl)
theorem dX13_init_162 : decode cX13_init 162 = .ok (.putfield 71, 3) := dk_181 0 71 (dk_at dksX13_init_6 20 rfl rfl)
theorem dX13_init_165 : decode cX13_init 165 = .ok (.aload_n 0, 1) := dk_42 (dk_at dksX13_init_6 23 rfl rfl)
theorem dX13_init_166 : decode cX13_init 166 = .ok (.getfield 9, 3) := dk_180 0 9 (dk_at dksX13_init_7 0 rfl rfl)
theorem dX13_init_169 : decode cX13_init 169 = .ok (.iconst 2, 1) := dk_5 (dk_at dksX13_init_7 3 rfl rfl)
theorem dX13_init_170 : decode cX13_init 170 = .ok (.iconst 1, 1) := dk_4 (dk_at dksX13_init_7 4 rfl rfl)
theorem dX13_init_171 : decode cX13_init 171 = .ok (.iastore, 1) := dk_79 (dk_at dksX13_init_7 5 rfl rfl)
theorem dX13_init_172 : decode cX13_init 172 = .ok (.aload_n 0, 1) := dk_42 (dk_at dksX13_init_7 6 rfl rfl)
theorem dX13_init_173 : decode cX13_init 173 = .ok (.getfield 9, 3) := dk_180 0 9 (dk_at dksX13_init_7 7 rfl rfl)
theorem dX13_init_176 : decode cX13_init 176 = .ok (.iconst 4, 1) := dk_7 (dk_at dksX13_init_7 10 rfl rfl)
theorem dX13_init_177 : decode cX13_init 177 = .ok (.iconst 1, 1) := dk_4 (dk_at dksX13_init_7 11 rfl rfl)
theorem dX13_init_178 : decode cX13_init 178 = .ok (.iastore, 1) := dk_79 (dk_at dksX13_init_7 12 rfl rfl)
theorem dX13_init_179 : decode cX13_init 179 = .ok (.aload_n 0, 1) := dk_42 (dk_at dksX13_init_7 13 rfl rfl)
theorem dX13_init_180 : decode cX13_init 180 = .ok (.getfield 9, 3) := dk_180 0 9 (dk_at dksX13_init_7 14 rfl rfl)
theorem dX13_init_183 : decode cX13_init 183 = .ok (.iconst 5, 1) := dk_8 (dk_at dksX13_init_7 17 rfl rfl)
theorem dX13_init_184 : decode cX13_init 184 = .ok (.iconst 3, 1) := dk_6 (dk_at dksX13_init_7 18 rfl rfl)
theorem dX13_init_185 : decode cX13_init 185 = .ok (.iastore, 1) := dk_79 (dk_at dksX13_init_7 19 rfl rfl)
theorem dX13_init_186 : decode cX13_init 186 = .ok (.aload_n 0, 1) := dk_42 (dk_at dksX13_init_7 20 rfl rfl)
theorem dX13_init_187 : decode cX13_init 187 = .ok (.getfield 9, 3) := dk_180 0 9 (dk_at dksX13_init_7 21 rfl rfl)
theorem dX13_init_190 : decode cX13_init 190 = .ok (.bipush 6, 2) := dk_16 6 (dk_at dksX13_init_8 0 rfl rfl)
theorem dX13_init_192 : decode cX13_init 192 = .ok (.iconst 2, 1) := dk_5 (dk_at dksX13_init_8 2 rfl rfl)
theorem dX13_init_193 : decode cX13_init 193 = .ok (.iastore, 1) := dk_79 (dk_at dksX13_init_8 3 rfl rfl)
theorem dX13_init_194 : decode cX13_init 194 = .ok (.aload_n 0, 1) := dk_42 (dk_at dksX13_init_8 4 rfl rfl)
theorem dX13_init_195 : decode cX13_init 195 = .ok (.getfield 9, 3) := dk_180 0 9 (dk_at dksX13_init_8 5 rfl rfl)
theorem dX13_init_198 : decode cX13_init 198 = .ok (.bipush 8, 2) := dk_16 8 (dk_at dksX13_init_8 8 rfl rfl)
theorem dX13_init_200 : decode cX13_init 200 = .ok (.bipush 14, 2) := dk_16 14 (dk_at dksX13_init_8 10 rfl rfl)
theorem dX13_init_202 : decode cX13_init 202 = .ok (.iastore, 1) := dk_79 (dk_at dksX13_init_8 12 rfl rfl)
theorem dX13_init_203 : decode cX13_init 203 = .ok (.iconst 0, 1) := dk_3 (dk_at dksX13_init_8 13 rfl rfl)
theorem dX13_init_204 : decode cX13_init 204 = .ok (.istore_n 1, 1) := dk_60 (dk_at dksX13_init_8 14 rfl rfl)
theorem dX13_init_205 : decode cX13_init 205 = .ok (.iload_n 1, 1) := dk_27 (dk_at dksX13_init_8 15 rfl rfl)
theorem dX13_init_206 : decode cX13_init 206 = .ok (.bipush 10, 2) := dk_16 10 (dk_at dksX13_init_8 16 rfl rfl)
theorem dX13_init_208 : decode cX13_init 208 = .ok (.if_icmp .ge 19, 3) := dk_162 0 19 (dk_at dksX13_init_8 18 rfl rfl)
theorem dX13_init_211 : decode cX13_init 211 = .ok (.aload_n 0, 1) := dk_42 (dk_at dksX13_init_8 21 rfl rfl)
theorem dX13_init_212 : decode cX13_init 212 = .ok (.getfield 9, 3) := dk_180 0 9 (dk_at dksX13_init_9 0 rfl rfl)
theorem dX13_init_215 : decode cX13_init 215 = .ok (.bipush 10, 2) := dk_16 10 (dk_at dksX13_init_9 3 rfl rfl)
theorem dX13_init_217 : decode cX13_init 217 = .ok (.iload_n 1, 1) := dk_27 (dk_at dksX13_init_9 5 rfl rfl)
theorem dX13_init_218 : decode cX13_init 218 = .ok (.iadd, 1) := dk_96 (dk_at dksX13_init_9 6 rfl rfl)
theorem dX13_init_219 : decode cX13_init 219 = .ok (.iconst (-1), 1) := dk_2 (dk_at dksX13_init_9 7 rfl rfl)
theorem dX13_init_220 : decode cX13_init 220 = .ok (.iastore, 1) := dk_79 (dk_at dksX13_init_9 8 rfl rfl)
theorem dX13_init_221 : decode cX13_init 221 = .ok (.iinc 1 1, 3) := dk_132 1 1 (dk_at dksX13_init_9 9 rfl rfl)
theorem dX13_init_224 : decode cX13_init 224 = .ok (.goto (-19), 3) := dk_167 255 237 (dk_at dksX13_init_9 12 rfl rfl)
theorem dX13_init_227 : decode cX13_init 227 = .ok (.return_, 1) := dk_177 (dk_at dksX13_init_9 15 rfl rfl)
abbrev cX13_cell : ByteArray := prog_16_method_14_code
def yX13_cell : MethodName := ⟨RX13, "cell", "(III)I"⟩
def dkwX13_cell_1 : List UInt8 := [182, 0, 105, 167, 0, 9, 42, 18, 74, 182, 0, 80, 172]
abbrev dktX13_cell_1 : List UInt8 := dkwX13_cell_1 ++ []
def dkwX13_cell_0 : List UInt8 := [27, 184, 0, 93, 153, 0, 24, 28, 29, 184, 0, 97, 153, 0, 16, 42, 27, 28, 184, 0, 101, 29]
abbrev dktX13_cell_0 : List UInt8 := dkwX13_cell_0 ++ dktX13_cell_1
theorem dksX13_cell_0 : cX13_cell.data.toList.drop 0 = dktX13_cell_0 := by decide +kernel
theorem dksX13_cell_1 : cX13_cell.data.toList.drop 22 = dktX13_cell_1 := dk_seg dksX13_cell_0 22 rfl rfl
theorem dX13_cell_0 : decode cX13_cell 0 = .ok (.iload_n 1, 1) := dk_27 (dk_at dksX13_cell_0 0 rfl rfl)
theorem dX13_cell_1 : decode cX13_cell 1 = .ok (.invokestatic 93, 3) := dk_184 0 93 (dk_at dksX13_cell_0 1 rfl rfl)
theorem dX13_cell_4 : decode cX13_cell 4 = .ok (.ifCond .eq 24, 3) := dk_153 0 24 (dk_at dksX13_cell_0 4 rfl rfl)
theorem dX13_cell_7 : decode cX13_cell 7 = .ok (.iload_n 2, 1) := dk_28 (dk_at dksX13_cell_0 7 rfl rfl)
theorem dX13_cell_8 : decode cX13_cell 8 = .ok (.iload_n 3, 1) := dk_29 (dk_at dksX13_cell_0 8 rfl rfl)
theorem dX13_cell_9 : decode cX13_cell 9 = .ok (.invokestatic 97, 3) := dk_184 0 97 (dk_at dksX13_cell_0 9 rfl rfl)
theorem dX13_cell_12 : decode cX13_cell 12 = .ok (.ifCond .eq 16, 3) := dk_153 0 16 (dk_at dksX13_cell_0 12 rfl rfl)
theorem dX13_cell_15 : decode cX13_cell 15 = .ok (.aload_n 0, 1) := dk_42 (dk_at dksX13_cell_0 15 rfl rfl)
theorem dX13_cell_16 : decode cX13_cell 16 = .ok (.iload_n 1, 1) := dk_27 (dk_at dksX13_cell_0 16 rfl rfl)
theorem dX13_cell_17 : decode cX13_cell 17 = .ok (.iload_n 2, 1) := dk_28 (dk_at dksX13_cell_0 17 rfl rfl)
theorem dX13_cell_18 : decode cX13_cell 18 = .ok (.invokestatic 101, 3) := dk_184 0 101 (dk_at dksX13_cell_0 18 rfl rfl)
theorem dX13_cell_21 : decode cX13_cell 21 = .ok (.iload_n 3, 1) := dk_29 (dk_at dksX13_cell_0 21 rfl rfl)
theorem dX13_cell_22 : decode cX13_cell 22 = .ok (.invokevirtual 105, 3) := dk_182 0 105 (dk_at dksX13_cell_1 0 rfl rfl)
theorem dX13_cell_25 : decode cX13_cell 25 = .ok (.goto 9, 3) := dk_167 0 9 (dk_at dksX13_cell_1 3 rfl rfl)
theorem dX13_cell_28 : decode cX13_cell 28 = .ok (.aload_n 0, 1) := dk_42 (dk_at dksX13_cell_1 6 rfl rfl)
theorem dX13_cell_29 : decode cX13_cell 29 = .ok (.ldc 74, 2) := dk_18 74 (dk_at dksX13_cell_1 7 rfl rfl)
theorem dX13_cell_31 : decode cX13_cell 31 = .ok (.invokevirtual 80, 3) := dk_182 0 80 (dk_at dksX13_cell_1 9 rfl rfl)
theorem dX13_cell_34 : decode cX13_cell 34 = .ok (.ireturn, 1) := dk_172 (dk_at dksX13_cell_1 12 rfl rfl)
abbrev cX13_isCell : ByteArray := prog_16_method_8_code
def yX13_isCell : MethodName := ⟨RX13, "isCell", "(I)Z"⟩
def dkwX13_isCell_0 : List UInt8 := [26, 3, 16, 35, 184, 0, 84, 172]
abbrev dktX13_isCell_0 : List UInt8 := dkwX13_isCell_0 ++ []
theorem dksX13_isCell_0 : cX13_isCell.data.toList.drop 0 = dktX13_isCell_0 := by decide +kernel
theorem dX13_isCell_0 : decode cX13_isCell 0 = .ok (.iload_n 0, 1) := dk_26 (dk_at dksX13_isCell_0 0 rfl rfl)
theorem dX13_isCell_1 : decode cX13_isCell 1 = .ok (.iconst 0, 1) := dk_3 (dk_at dksX13_isCell_0 1 rfl rfl)
theorem dX13_isCell_2 : decode cX13_isCell 2 = .ok (.bipush 35, 2) := dk_16 35 (dk_at dksX13_isCell_0 2 rfl rfl)
theorem dX13_isCell_4 : decode cX13_isCell 4 = .ok (.invokestatic 84, 3) := dk_184 0 84 (dk_at dksX13_isCell_0 4 rfl rfl)
theorem dX13_isCell_7 : decode cX13_isCell 7 = .ok (.ireturn, 1) := dk_172 (dk_at dksX13_isCell_0 7 rfl rfl)
abbrev cX13_within : ByteArray := prog_16_method_3_code
def yX13_within : MethodName := ⟨RX13, "within", "(III)Z"⟩
def dkwX13_within_0 : List UInt8 := [26, 27, 161, 0, 12, 26, 28, 163, 0, 7, 4, 167, 0, 4, 3, 172]
abbrev dktX13_within_0 : List UInt8 := dkwX13_within_0 ++ []
theorem dksX13_within_0 : cX13_within.data.toList.drop 0 = dktX13_within_0 := by decide +kernel
theorem dX13_within_0 : decode cX13_within 0 = .ok (.iload_n 0, 1) := dk_26 (dk_at dksX13_within_0 0 rfl rfl)
theorem dX13_within_1 : decode cX13_within 1 = .ok (.iload_n 1, 1) := dk_27 (dk_at dksX13_within_0 1 rfl rfl)
theorem dX13_within_2 : decode cX13_within 2 = .ok (.if_icmp .lt 12, 3) := dk_161 0 12 (dk_at dksX13_within_0 2 rfl rfl)
theorem dX13_within_5 : decode cX13_within 5 = .ok (.iload_n 0, 1) := dk_26 (dk_at dksX13_within_0 5 rfl rfl)
theorem dX13_within_6 : decode cX13_within 6 = .ok (.iload_n 2, 1) := dk_28 (dk_at dksX13_within_0 6 rfl rfl)
theorem dX13_within_7 : decode cX13_within 7 = .ok (.if_icmp .gt 7, 3) := dk_163 0 7 (dk_at dksX13_within_0 7 rfl rfl)
theorem dX13_within_10 : decode cX13_within 10 = .ok (.iconst 1, 1) := dk_4 (dk_at dksX13_within_0 10 rfl rfl)
theorem dX13_within_11 : decode cX13_within 11 = .ok (.goto 4, 3) := dk_167 0 4 (dk_at dksX13_within_0 11 rfl rfl)
theorem dX13_within_14 : decode cX13_within 14 = .ok (.iconst 0, 1) := dk_3 (dk_at dksX13_within_0 14 rfl rfl)
theorem dX13_within_15 : decode cX13_within 15 = .ok (.ireturn, 1) := dk_172 (dk_at dksX13_within_0 15 rfl rfl)
abbrev cX13_mayLie : ByteArray := prog_16_method_12_code
def yX13_mayLie : MethodName := ⟨RX13, "mayLie", "(II)Z"⟩
def dkwX13_mayLie_1 : List UInt8 := [184, 0, 84, 153, 0, 7, 4, 167, 0, 4, 3, 172]
abbrev dktX13_mayLie_1 : List UInt8 := dkwX13_mayLie_1 ++ []
def dkwX13_mayLie_0 : List UInt8 := [26, 154, 0, 13, 27, 3, 16, 30, 184, 0, 84, 167, 0, 23, 26, 4, 160, 0, 17, 27, 3, 16, 99]
abbrev dktX13_mayLie_0 : List UInt8 := dkwX13_mayLie_0 ++ dktX13_mayLie_1
theorem dksX13_mayLie_0 : cX13_mayLie.data.toList.drop 0 = dktX13_mayLie_0 := by decide +kernel
theorem dksX13_mayLie_1 : cX13_mayLie.data.toList.drop 23 = dktX13_mayLie_1 := dk_seg dksX13_mayLie_0 23 rfl rfl
theorem dX13_mayLie_0 : decode cX13_mayLie 0 = .ok (.iload_n 0, 1) := dk_26 (dk_at dksX13_mayLie_0 0 rfl rfl)
theorem dX13_mayLie_1 : decode cX13_mayLie 1 = .ok (.ifCond .ne 13, 3) := dk_154 0 13 (dk_at dksX13_mayLie_0 1 rfl rfl)
theorem dX13_mayLie_4 : decode cX13_mayLie 4 = .ok (.iload_n 1, 1) := dk_27 (dk_at dksX13_mayLie_0 4 rfl rfl)
theorem dX13_mayLie_5 : decode cX13_mayLie 5 = .ok (.iconst 0, 1) := dk_3 (dk_at dksX13_mayLie_0 5 rfl rfl)
theorem dX13_mayLie_6 : decode cX13_mayLie 6 = .ok (.bipush 30, 2) := dk_16 30 (dk_at dksX13_mayLie_0 6 rfl rfl)
theorem dX13_mayLie_8 : decode cX13_mayLie 8 = .ok (.invokestatic 84, 3) := dk_184 0 84 (dk_at dksX13_mayLie_0 8 rfl rfl)
theorem dX13_mayLie_11 : decode cX13_mayLie 11 = .ok (.goto 23, 3) := dk_167 0 23 (dk_at dksX13_mayLie_0 11 rfl rfl)
theorem dX13_mayLie_14 : decode cX13_mayLie 14 = .ok (.iload_n 0, 1) := dk_26 (dk_at dksX13_mayLie_0 14 rfl rfl)
theorem dX13_mayLie_15 : decode cX13_mayLie 15 = .ok (.iconst 1, 1) := dk_4 (dk_at dksX13_mayLie_0 15 rfl rfl)
theorem dX13_mayLie_16 : decode cX13_mayLie 16 = .ok (.if_icmp .ne 17, 3) := dk_160 0 17 (dk_at dksX13_mayLie_0 16 rfl rfl)
theorem dX13_mayLie_19 : decode cX13_mayLie 19 = .ok (.iload_n 1, 1) := dk_27 (dk_at dksX13_mayLie_0 19 rfl rfl)
theorem dX13_mayLie_20 : decode cX13_mayLie 20 = .ok (.iconst 0, 1) := dk_3 (dk_at dksX13_mayLie_0 20 rfl rfl)
theorem dX13_mayLie_21 : decode cX13_mayLie 21 = .ok (.bipush 99, 2) := dk_16 99 (dk_at dksX13_mayLie_0 21 rfl rfl)
theorem dX13_mayLie_23 : decode cX13_mayLie 23 = .ok (.invokestatic 84, 3) := dk_184 0 84 (dk_at dksX13_mayLie_1 0 rfl rfl)
theorem dX13_mayLie_26 : decode cX13_mayLie 26 = .ok (.ifCond .eq 7, 3) := dk_153 0 7 (dk_at dksX13_mayLie_1 3 rfl rfl)
theorem dX13_mayLie_29 : decode cX13_mayLie 29 = .ok (.iconst 1, 1) := dk_4 (dk_at dksX13_mayLie_1 6 rfl rfl)
theorem dX13_mayLie_30 : decode cX13_mayLie 30 = .ok (.goto 4, 3) := dk_167 0 4 (dk_at dksX13_mayLie_1 7 rfl rfl)
theorem dX13_mayLie_33 : decode cX13_mayLie 33 = .ok (.iconst 0, 1) := dk_3 (dk_at dksX13_mayLie_1 10 rfl rfl)
theorem dX13_mayLie_34 : decode cX13_mayLie 34 = .ok (.ireturn, 1) := dk_172 (dk_at dksX13_mayLie_1 11 rfl rfl)
abbrev cX13_lies : ByteArray := prog_16_method_13_code
def yX13_lies : MethodName := ⟨RX13, "lies", "(II)I"⟩
def dkwX13_lies_0 : List UInt8 := [27, 154, 0, 8, 16, 20, 167, 0, 5, 16, 56, 26, 96, 172]
abbrev dktX13_lies_0 : List UInt8 := dkwX13_lies_0 ++ []
theorem dksX13_lies_0 : cX13_lies.data.toList.drop 0 = dktX13_lies_0 := by decide +kernel
theorem dX13_lies_0 : decode cX13_lies 0 = .ok (.iload_n 1, 1) := dk_27 (dk_at dksX13_lies_0 0 rfl rfl)
theorem dX13_lies_1 : decode cX13_lies 1 = .ok (.ifCond .ne 8, 3) := dk_154 0 8 (dk_at dksX13_lies_0 1 rfl rfl)
theorem dX13_lies_4 : decode cX13_lies 4 = .ok (.bipush 20, 2) := dk_16 20 (dk_at dksX13_lies_0 4 rfl rfl)
theorem dX13_lies_6 : decode cX13_lies 6 = .ok (.goto 5, 3) := dk_167 0 5 (dk_at dksX13_lies_0 6 rfl rfl)
theorem dX13_lies_9 : decode cX13_lies 9 = .ok (.bipush 56, 2) := dk_16 56 (dk_at dksX13_lies_0 9 rfl rfl)
theorem dX13_lies_11 : decode cX13_lies 11 = .ok (.iload_n 0, 1) := dk_26 (dk_at dksX13_lies_0 11 rfl rfl)
theorem dX13_lies_12 : decode cX13_lies 12 = .ok (.iadd, 1) := dk_96 (dk_at dksX13_lies_0 12 rfl rfl)
theorem dX13_lies_13 : decode cX13_lies 13 = .ok (.ireturn, 1) := dk_172 (dk_at dksX13_lies_0 13 rfl rfl)
abbrev cX13_become : ByteArray := prog_16_method_4_code
def yX13_become : MethodName := ⟨RX13, "become", "(II)I"⟩
def dkwX13_become_0 : List UInt8 := [42, 180, 0, 9, 27, 46, 62, 42, 180, 0, 9, 27, 28, 79, 29, 172]
abbrev dktX13_become_0 : List UInt8 := dkwX13_become_0 ++ []
theorem dksX13_become_0 : cX13_become.data.toList.drop 0 = dktX13_become_0 := by decide +kernel
theorem dX13_become_0 : decode cX13_become 0 = .ok (.aload_n 0, 1) := dk_42 (dk_at dksX13_become_0 0 rfl rfl)
theorem dX13_become_1 : decode cX13_become 1 = .ok (.getfield 9, 3) := dk_180 0 9 (dk_at dksX13_become_0 1 rfl rfl)
theorem dX13_become_4 : decode cX13_become 4 = .ok (.iload_n 1, 1) := dk_27 (dk_at dksX13_become_0 4 rfl rfl)
theorem dX13_become_5 : decode cX13_become 5 = .ok (.iaload, 1) := dk_46 (dk_at dksX13_become_0 5 rfl rfl)
theorem dX13_become_6 : decode cX13_become 6 = .ok (.istore_n 3, 1) := dk_62 (dk_at dksX13_become_0 6 rfl rfl)
theorem dX13_become_7 : decode cX13_become 7 = .ok (.aload_n 0, 1) := dk_42 (dk_at dksX13_become_0 7 rfl rfl)
theorem dX13_become_8 : decode cX13_become 8 = .ok (.getfield 9, 3) := dk_180 0 9 (dk_at dksX13_become_0 8 rfl rfl)
theorem dX13_become_11 : decode cX13_become 11 = .ok (.iload_n 1, 1) := dk_27 (dk_at dksX13_become_0 11 rfl rfl)
theorem dX13_become_12 : decode cX13_become 12 = .ok (.iload_n 2, 1) := dk_28 (dk_at dksX13_become_0 12 rfl rfl)
theorem dX13_become_13 : decode cX13_become 13 = .ok (.iastore, 1) := dk_79 (dk_at dksX13_become_0 13 rfl rfl)
theorem dX13_become_14 : decode cX13_become 14 = .ok (.iload_n 3, 1) := dk_29 (dk_at dksX13_become_0 14 rfl rfl)
theorem dX13_become_15 : decode cX13_become 15 = .ok (.ireturn, 1) := dk_172 (dk_at dksX13_become_0 15 rfl rfl)
abbrev cX13_finding : ByteArray := prog_16_method_2_code
def yX13_finding : MethodName := ⟨RX13, "finding", "(I)I"⟩
def dkwX13_finding_1 : List UInt8 := [79, 27, 172]
abbrev dktX13_finding_1 : List UInt8 := dkwX13_finding_1 ++ []
def dkwX13_finding_0 : List UInt8 := [42, 180, 0, 22, 18, 74, 27, 100, 4, 96, 92, 46, 4, 96, 79, 42, 180, 0, 22, 3, 92, 46, 4, 96]
abbrev dktX13_finding_0 : List UInt8 := dkwX13_finding_0 ++ dktX13_finding_1
theorem dksX13_finding_0 : cX13_finding.data.toList.drop 0 = dktX13_finding_0 := by decide +kernel
theorem dksX13_finding_1 : cX13_finding.data.toList.drop 24 = dktX13_finding_1 := dk_seg dksX13_finding_0 24 rfl rfl
theorem dX13_finding_0 : decode cX13_finding 0 = .ok (.aload_n 0, 1) := dk_42 (dk_at dksX13_finding_0 0 rfl rfl)
theorem dX13_finding_1 : decode cX13_finding 1 = .ok (.getfield 22, 3) := dk_180 0 22 (dk_at dksX13_finding_0 1 rfl rfl)
theorem dX13_finding_4 : decode cX13_finding 4 = .ok (.ldc 74, 2) := dk_18 74 (dk_at dksX13_finding_0 4 rfl rfl)
theorem dX13_finding_6 : decode cX13_finding 6 = .ok (.iload_n 1, 1) := dk_27 (dk_at dksX13_finding_0 6 rfl rfl)
theorem dX13_finding_7 : decode cX13_finding 7 = .ok (.isub, 1) := dk_100 (dk_at dksX13_finding_0 7 rfl rfl)
theorem dX13_finding_8 : decode cX13_finding 8 = .ok (.iconst 1, 1) := dk_4 (dk_at dksX13_finding_0 8 rfl rfl)
theorem dX13_finding_9 : decode cX13_finding 9 = .ok (.iadd, 1) := dk_96 (dk_at dksX13_finding_0 9 rfl rfl)
theorem dX13_finding_10 : decode cX13_finding 10 = .ok (.dup2, 1) := dk_92 (dk_at dksX13_finding_0 10 rfl rfl)
theorem dX13_finding_11 : decode cX13_finding 11 = .ok (.iaload, 1) := dk_46 (dk_at dksX13_finding_0 11 rfl rfl)
theorem dX13_finding_12 : decode cX13_finding 12 = .ok (.iconst 1, 1) := dk_4 (dk_at dksX13_finding_0 12 rfl rfl)
theorem dX13_finding_13 : decode cX13_finding 13 = .ok (.iadd, 1) := dk_96 (dk_at dksX13_finding_0 13 rfl rfl)
theorem dX13_finding_14 : decode cX13_finding 14 = .ok (.iastore, 1) := dk_79 (dk_at dksX13_finding_0 14 rfl rfl)
theorem dX13_finding_15 : decode cX13_finding 15 = .ok (.aload_n 0, 1) := dk_42 (dk_at dksX13_finding_0 15 rfl rfl)
theorem dX13_finding_16 : decode cX13_finding 16 = .ok (.getfield 22, 3) := dk_180 0 22 (dk_at dksX13_finding_0 16 rfl rfl)
theorem dX13_finding_19 : decode cX13_finding 19 = .ok (.iconst 0, 1) := dk_3 (dk_at dksX13_finding_0 19 rfl rfl)
theorem dX13_finding_20 : decode cX13_finding 20 = .ok (.dup2, 1) := dk_92 (dk_at dksX13_finding_0 20 rfl rfl)
theorem dX13_finding_21 : decode cX13_finding 21 = .ok (.iaload, 1) := dk_46 (dk_at dksX13_finding_0 21 rfl rfl)
theorem dX13_finding_22 : decode cX13_finding 22 = .ok (.iconst 1, 1) := dk_4 (dk_at dksX13_finding_0 22 rfl rfl)
theorem dX13_finding_23 : decode cX13_finding 23 = .ok (.iadd, 1) := dk_96 (dk_at dksX13_finding_0 23 rfl rfl)
theorem dX13_finding_24 : decode cX13_finding 24 = .ok (.iastore, 1) := dk_79 (dk_at dksX13_finding_1 0 rfl rfl)
theorem dX13_finding_25 : decode cX13_finding 25 = .ok (.iload_n 1, 1) := dk_27 (dk_at dksX13_finding_1 1 rfl rfl)
theorem dX13_finding_26 : decode cX13_finding 26 = .ok (.ireturn, 1) := dk_172 (dk_at dksX13_finding_1 2 rfl rfl)
abbrev cX13_cellOf : ByteArray := prog_16_method_23_code
def yX13_cellOf : MethodName := ⟨RX13, "cellOf", "(II)I"⟩
def dkwX13_cellOf_1 : List UInt8 := [5, 160, 0, 11, 42, 27, 182, 0, 131, 167, 0, 13, 42, 180, 0, 9, 27, 28, 184, 0, 101, 46, 172]
abbrev dktX13_cellOf_1 : List UInt8 := dkwX13_cellOf_1 ++ []
def dkwX13_cellOf_0 : List UInt8 := [27, 184, 0, 93, 153, 0, 12, 28, 3, 5, 184, 0, 84, 154, 0, 10, 42, 18, 74, 182, 0, 80, 172, 28]
abbrev dktX13_cellOf_0 : List UInt8 := dkwX13_cellOf_0 ++ dktX13_cellOf_1
theorem dksX13_cellOf_0 : cX13_cellOf.data.toList.drop 0 = dktX13_cellOf_0 := by decide +kernel
theorem dksX13_cellOf_1 : cX13_cellOf.data.toList.drop 24 = dktX13_cellOf_1 := dk_seg dksX13_cellOf_0 24 rfl rfl
theorem dX13_cellOf_0 : decode cX13_cellOf 0 = .ok (.iload_n 1, 1) := dk_27 (dk_at dksX13_cellOf_0 0 rfl rfl)
theorem dX13_cellOf_1 : decode cX13_cellOf 1 = .ok (.invokestatic 93, 3) := dk_184 0 93 (dk_at dksX13_cellOf_0 1 rfl rfl)
theorem dX13_cellOf_4 : decode cX13_cellOf 4 = .ok (.ifCond .eq 12, 3) := dk_153 0 12 (dk_at dksX13_cellOf_0 4 rfl rfl)
theorem dX13_cellOf_7 : decode cX13_cellOf 7 = .ok (.iload_n 2, 1) := dk_28 (dk_at dksX13_cellOf_0 7 rfl rfl)
theorem dX13_cellOf_8 : decode cX13_cellOf 8 = .ok (.iconst 0, 1) := dk_3 (dk_at dksX13_cellOf_0 8 rfl rfl)
theorem dX13_cellOf_9 : decode cX13_cellOf 9 = .ok (.iconst 2, 1) := dk_5 (dk_at dksX13_cellOf_0 9 rfl rfl)
theorem dX13_cellOf_10 : decode cX13_cellOf 10 = .ok (.invokestatic 84, 3) := dk_184 0 84 (dk_at dksX13_cellOf_0 10 rfl rfl)
theorem dX13_cellOf_13 : decode cX13_cellOf 13 = .ok (.ifCond .ne 10, 3) := dk_154 0 10 (dk_at dksX13_cellOf_0 13 rfl rfl)
theorem dX13_cellOf_16 : decode cX13_cellOf 16 = .ok (.aload_n 0, 1) := dk_42 (dk_at dksX13_cellOf_0 16 rfl rfl)
theorem dX13_cellOf_17 : decode cX13_cellOf 17 = .ok (.ldc 74, 2) := dk_18 74 (dk_at dksX13_cellOf_0 17 rfl rfl)
theorem dX13_cellOf_19 : decode cX13_cellOf 19 = .ok (.invokevirtual 80, 3) := dk_182 0 80 (dk_at dksX13_cellOf_0 19 rfl rfl)
theorem dX13_cellOf_22 : decode cX13_cellOf 22 = .ok (.ireturn, 1) := dk_172 (dk_at dksX13_cellOf_0 22 rfl rfl)
theorem dX13_cellOf_23 : decode cX13_cellOf 23 = .ok (.iload_n 2, 1) := dk_28 (dk_at dksX13_cellOf_0 23 rfl rfl)
theorem dX13_cellOf_24 : decode cX13_cellOf 24 = .ok (.iconst 2, 1) := dk_5 (dk_at dksX13_cellOf_1 0 rfl rfl)
theorem dX13_cellOf_25 : decode cX13_cellOf 25 = .ok (.if_icmp .ne 11, 3) := dk_160 0 11 (dk_at dksX13_cellOf_1 1 rfl rfl)
theorem dX13_cellOf_28 : decode cX13_cellOf 28 = .ok (.aload_n 0, 1) := dk_42 (dk_at dksX13_cellOf_1 4 rfl rfl)
theorem dX13_cellOf_29 : decode cX13_cellOf 29 = .ok (.iload_n 1, 1) := dk_27 (dk_at dksX13_cellOf_1 5 rfl rfl)
theorem dX13_cellOf_30 : decode cX13_cellOf 30 = .ok (.invokevirtual 131, 3) := dk_182 0 131 (dk_at dksX13_cellOf_1 6 rfl rfl)
theorem dX13_cellOf_33 : decode cX13_cellOf 33 = .ok (.goto 13, 3) := dk_167 0 13 (dk_at dksX13_cellOf_1 9 rfl rfl)
theorem dX13_cellOf_36 : decode cX13_cellOf 36 = .ok (.aload_n 0, 1) := dk_42 (dk_at dksX13_cellOf_1 12 rfl rfl)
theorem dX13_cellOf_37 : decode cX13_cellOf 37 = .ok (.getfield 9, 3) := dk_180 0 9 (dk_at dksX13_cellOf_1 13 rfl rfl)
theorem dX13_cellOf_40 : decode cX13_cellOf 40 = .ok (.iload_n 1, 1) := dk_27 (dk_at dksX13_cellOf_1 16 rfl rfl)
theorem dX13_cellOf_41 : decode cX13_cellOf 41 = .ok (.iload_n 2, 1) := dk_28 (dk_at dksX13_cellOf_1 17 rfl rfl)
theorem dX13_cellOf_42 : decode cX13_cellOf 42 = .ok (.invokestatic 101, 3) := dk_184 0 101 (dk_at dksX13_cellOf_1 18 rfl rfl)
theorem dX13_cellOf_45 : decode cX13_cellOf 45 = .ok (.iaload, 1) := dk_46 (dk_at dksX13_cellOf_1 21 rfl rfl)
theorem dX13_cellOf_46 : decode cX13_cellOf 46 = .ok (.ireturn, 1) := dk_172 (dk_at dksX13_cellOf_1 22 rfl rfl)
abbrev cX13_loudAt : ByteArray := prog_16_method_17_code
def yX13_loudAt : MethodName := ⟨RX13, "loudAt", "(I)I"⟩
def dkwX13_loudAt_0 : List UInt8 := [42, 182, 0, 115, 6, 42, 180, 0, 9, 6, 46, 27, 184, 0, 119, 104, 100, 172]
abbrev dktX13_loudAt_0 : List UInt8 := dkwX13_loudAt_0 ++ []
theorem dksX13_loudAt_0 : cX13_loudAt.data.toList.drop 0 = dktX13_loudAt_0 := by decide +kernel
theorem dX13_loudAt_0 : decode cX13_loudAt 0 = .ok (.aload_n 0, 1) := dk_42 (dk_at dksX13_loudAt_0 0 rfl rfl)
theorem dX13_loudAt_1 : decode cX13_loudAt 1 = .ok (.invokevirtual 115, 3) := dk_182 0 115 (dk_at dksX13_loudAt_0 1 rfl rfl)
theorem dX13_loudAt_4 : decode cX13_loudAt 4 = .ok (.iconst 3, 1) := dk_6 (dk_at dksX13_loudAt_0 4 rfl rfl)
theorem dX13_loudAt_5 : decode cX13_loudAt 5 = .ok (.aload_n 0, 1) := dk_42 (dk_at dksX13_loudAt_0 5 rfl rfl)
theorem dX13_loudAt_6 : decode cX13_loudAt 6 = .ok (.getfield 9, 3) := dk_180 0 9 (dk_at dksX13_loudAt_0 6 rfl rfl)
theorem dX13_loudAt_9 : decode cX13_loudAt 9 = .ok (.iconst 3, 1) := dk_6 (dk_at dksX13_loudAt_0 9 rfl rfl)
theorem dX13_loudAt_10 : decode cX13_loudAt 10 = .ok (.iaload, 1) := dk_46 (dk_at dksX13_loudAt_0 10 rfl rfl)
theorem dX13_loudAt_11 : decode cX13_loudAt 11 = .ok (.iload_n 1, 1) := dk_27 (dk_at dksX13_loudAt_0 11 rfl rfl)
theorem dX13_loudAt_12 : decode cX13_loudAt 12 = .ok (.invokestatic 119, 3) := dk_184 0 119 (dk_at dksX13_loudAt_0 12 rfl rfl)
theorem dX13_loudAt_15 : decode cX13_loudAt 15 = .ok (.imul, 1) := dk_104 (dk_at dksX13_loudAt_0 15 rfl rfl)
theorem dX13_loudAt_16 : decode cX13_loudAt 16 = .ok (.isub, 1) := dk_100 (dk_at dksX13_loudAt_0 16 rfl rfl)
theorem dX13_loudAt_17 : decode cX13_loudAt 17 = .ok (.ireturn, 1) := dk_172 (dk_at dksX13_loudAt_0 17 rfl rfl)
abbrev cX13_loud : ByteArray := prog_16_method_16_code
def yX13_loud : MethodName := ⟨RX13, "loud", "()I"⟩
def dkwX13_loud_1 : List UInt8 := [6, 46, 96, 46, 100, 184, 0, 112, 172]
abbrev dktX13_loud_1 : List UInt8 := dkwX13_loud_1 ++ []
def dkwX13_loud_0 : List UInt8 := [3, 42, 182, 0, 108, 153, 0, 8, 16, 30, 167, 0, 4, 5, 42, 180, 0, 9, 16, 20, 42, 180, 0, 9]
abbrev dktX13_loud_0 : List UInt8 := dkwX13_loud_0 ++ dktX13_loud_1
theorem dksX13_loud_0 : cX13_loud.data.toList.drop 0 = dktX13_loud_0 := by decide +kernel
theorem dksX13_loud_1 : cX13_loud.data.toList.drop 24 = dktX13_loud_1 := dk_seg dksX13_loud_0 24 rfl rfl
theorem dX13_loud_0 : decode cX13_loud 0 = .ok (.iconst 0, 1) := dk_3 (dk_at dksX13_loud_0 0 rfl rfl)
theorem dX13_loud_1 : decode cX13_loud 1 = .ok (.aload_n 0, 1) := dk_42 (dk_at dksX13_loud_0 1 rfl rfl)
theorem dX13_loud_2 : decode cX13_loud 2 = .ok (.invokevirtual 108, 3) := dk_182 0 108 (dk_at dksX13_loud_0 2 rfl rfl)
theorem dX13_loud_5 : decode cX13_loud 5 = .ok (.ifCond .eq 8, 3) := dk_153 0 8 (dk_at dksX13_loud_0 5 rfl rfl)
theorem dX13_loud_8 : decode cX13_loud 8 = .ok (.bipush 30, 2) := dk_16 30 (dk_at dksX13_loud_0 8 rfl rfl)
theorem dX13_loud_10 : decode cX13_loud 10 = .ok (.goto 4, 3) := dk_167 0 4 (dk_at dksX13_loud_0 10 rfl rfl)
theorem dX13_loud_13 : decode cX13_loud 13 = .ok (.iconst 2, 1) := dk_5 (dk_at dksX13_loud_0 13 rfl rfl)
theorem dX13_loud_14 : decode cX13_loud 14 = .ok (.aload_n 0, 1) := dk_42 (dk_at dksX13_loud_0 14 rfl rfl)
theorem dX13_loud_15 : decode cX13_loud 15 = .ok (.getfield 9, 3) := dk_180 0 9 (dk_at dksX13_loud_0 15 rfl rfl)
theorem dX13_loud_18 : decode cX13_loud 18 = .ok (.bipush 20, 2) := dk_16 20 (dk_at dksX13_loud_0 18 rfl rfl)
theorem dX13_loud_20 : decode cX13_loud 20 = .ok (.aload_n 0, 1) := dk_42 (dk_at dksX13_loud_0 20 rfl rfl)
theorem dX13_loud_21 : decode cX13_loud 21 = .ok (.getfield 9, 3) := dk_180 0 9 (dk_at dksX13_loud_0 21 rfl rfl)
theorem dX13_loud_24 : decode cX13_loud 24 = .ok (.iconst 3, 1) := dk_6 (dk_at dksX13_loud_1 0 rfl rfl)
theorem dX13_loud_25 : decode cX13_loud 25 = .ok (.iaload, 1) := dk_46 (dk_at dksX13_loud_1 1 rfl rfl)
theorem dX13_loud_26 : decode cX13_loud 26 = .ok (.iadd, 1) := dk_96 (dk_at dksX13_loud_1 2 rfl rfl)
theorem dX13_loud_27 : decode cX13_loud 27 = .ok (.iaload, 1) := dk_46 (dk_at dksX13_loud_1 3 rfl rfl)
theorem dX13_loud_28 : decode cX13_loud 28 = .ok (.isub, 1) := dk_100 (dk_at dksX13_loud_1 4 rfl rfl)
theorem dX13_loud_29 : decode cX13_loud 29 = .ok (.invokestatic 112, 3) := dk_184 0 112 (dk_at dksX13_loud_1 5 rfl rfl)
theorem dX13_loud_32 : decode cX13_loud 32 = .ok (.ireturn, 1) := dk_172 (dk_at dksX13_loud_1 8 rfl rfl)
abbrev cX13_isRunning : ByteArray := prog_16_method_15_code
def yX13_isRunning : MethodName := ⟨RX13, "isRunning", "()Z"⟩
def dkwX13_isRunning_0 : List UInt8 := [42, 180, 0, 9, 16, 7, 46, 42, 180, 0, 9, 8, 46, 162, 0, 7, 4, 167, 0, 4, 3, 172]
abbrev dktX13_isRunning_0 : List UInt8 := dkwX13_isRunning_0 ++ []
theorem dksX13_isRunning_0 : cX13_isRunning.data.toList.drop 0 = dktX13_isRunning_0 := by decide +kernel
theorem dX13_isRunning_0 : decode cX13_isRunning 0 = .ok (.aload_n 0, 1) := dk_42 (dk_at dksX13_isRunning_0 0 rfl rfl)
theorem dX13_isRunning_1 : decode cX13_isRunning 1 = .ok (.getfield 9, 3) := dk_180 0 9 (dk_at dksX13_isRunning_0 1 rfl rfl)
theorem dX13_isRunning_4 : decode cX13_isRunning 4 = .ok (.bipush 7, 2) := dk_16 7 (dk_at dksX13_isRunning_0 4 rfl rfl)
theorem dX13_isRunning_6 : decode cX13_isRunning 6 = .ok (.iaload, 1) := dk_46 (dk_at dksX13_isRunning_0 6 rfl rfl)
theorem dX13_isRunning_7 : decode cX13_isRunning 7 = .ok (.aload_n 0, 1) := dk_42 (dk_at dksX13_isRunning_0 7 rfl rfl)
theorem dX13_isRunning_8 : decode cX13_isRunning 8 = .ok (.getfield 9, 3) := dk_180 0 9 (dk_at dksX13_isRunning_0 8 rfl rfl)
theorem dX13_isRunning_11 : decode cX13_isRunning 11 = .ok (.iconst 5, 1) := dk_8 (dk_at dksX13_isRunning_0 11 rfl rfl)
theorem dX13_isRunning_12 : decode cX13_isRunning 12 = .ok (.iaload, 1) := dk_46 (dk_at dksX13_isRunning_0 12 rfl rfl)
theorem dX13_isRunning_13 : decode cX13_isRunning 13 = .ok (.if_icmp .ge 7, 3) := dk_162 0 7 (dk_at dksX13_isRunning_0 13 rfl rfl)
theorem dX13_isRunning_16 : decode cX13_isRunning 16 = .ok (.iconst 1, 1) := dk_4 (dk_at dksX13_isRunning_0 16 rfl rfl)
theorem dX13_isRunning_17 : decode cX13_isRunning 17 = .ok (.goto 4, 3) := dk_167 0 4 (dk_at dksX13_isRunning_0 17 rfl rfl)
theorem dX13_isRunning_20 : decode cX13_isRunning 20 = .ok (.iconst 0, 1) := dk_3 (dk_at dksX13_isRunning_0 20 rfl rfl)
theorem dX13_isRunning_21 : decode cX13_isRunning 21 = .ok (.ireturn, 1) := dk_172 (dk_at dksX13_isRunning_0 21 rfl rfl)
abbrev cX13_apart : ByteArray := prog_16_method_10_code
def yX13_apart : MethodName := ⟨RX13, "apart", "(II)I"⟩
def dkwX13_apart_1 : List UInt8 := [96, 172]
abbrev dktX13_apart_1 : List UInt8 := dkwX13_apart_1 ++ []
def dkwX13_apart_0 : List UInt8 := [26, 16, 6, 108, 27, 16, 6, 108, 100, 184, 0, 88, 26, 16, 6, 112, 27, 16, 6, 112, 100, 184, 0, 88]
abbrev dktX13_apart_0 : List UInt8 := dkwX13_apart_0 ++ dktX13_apart_1
theorem dksX13_apart_0 : cX13_apart.data.toList.drop 0 = dktX13_apart_0 := by decide +kernel
theorem dksX13_apart_1 : cX13_apart.data.toList.drop 24 = dktX13_apart_1 := dk_seg dksX13_apart_0 24 rfl rfl
theorem dX13_apart_0 : decode cX13_apart 0 = .ok (.iload_n 0, 1) := dk_26 (dk_at dksX13_apart_0 0 rfl rfl)
theorem dX13_apart_1 : decode cX13_apart 1 = .ok (.bipush 6, 2) := dk_16 6 (dk_at dksX13_apart_0 1 rfl rfl)
theorem dX13_apart_3 : decode cX13_apart 3 = .ok (.idiv, 1) := dk_108 (dk_at dksX13_apart_0 3 rfl rfl)
theorem dX13_apart_4 : decode cX13_apart 4 = .ok (.iload_n 1, 1) := dk_27 (dk_at dksX13_apart_0 4 rfl rfl)
theorem dX13_apart_5 : decode cX13_apart 5 = .ok (.bipush 6, 2) := dk_16 6 (dk_at dksX13_apart_0 5 rfl rfl)
theorem dX13_apart_7 : decode cX13_apart 7 = .ok (.idiv, 1) := dk_108 (dk_at dksX13_apart_0 7 rfl rfl)
theorem dX13_apart_8 : decode cX13_apart 8 = .ok (.isub, 1) := dk_100 (dk_at dksX13_apart_0 8 rfl rfl)
theorem dX13_apart_9 : decode cX13_apart 9 = .ok (.invokestatic 88, 3) := dk_184 0 88 (dk_at dksX13_apart_0 9 rfl rfl)
theorem dX13_apart_12 : decode cX13_apart 12 = .ok (.iload_n 0, 1) := dk_26 (dk_at dksX13_apart_0 12 rfl rfl)
theorem dX13_apart_13 : decode cX13_apart 13 = .ok (.bipush 6, 2) := dk_16 6 (dk_at dksX13_apart_0 13 rfl rfl)
theorem dX13_apart_15 : decode cX13_apart 15 = .ok (.irem, 1) := dk_112 (dk_at dksX13_apart_0 15 rfl rfl)
theorem dX13_apart_16 : decode cX13_apart 16 = .ok (.iload_n 1, 1) := dk_27 (dk_at dksX13_apart_0 16 rfl rfl)
theorem dX13_apart_17 : decode cX13_apart 17 = .ok (.bipush 6, 2) := dk_16 6 (dk_at dksX13_apart_0 17 rfl rfl)
theorem dX13_apart_19 : decode cX13_apart 19 = .ok (.irem, 1) := dk_112 (dk_at dksX13_apart_0 19 rfl rfl)
theorem dX13_apart_20 : decode cX13_apart 20 = .ok (.isub, 1) := dk_100 (dk_at dksX13_apart_0 20 rfl rfl)
theorem dX13_apart_21 : decode cX13_apart 21 = .ok (.invokestatic 88, 3) := dk_184 0 88 (dk_at dksX13_apart_0 21 rfl rfl)
theorem dX13_apart_24 : decode cX13_apart 24 = .ok (.iadd, 1) := dk_96 (dk_at dksX13_apart_1 0 rfl rfl)
theorem dX13_apart_25 : decode cX13_apart 25 = .ok (.ireturn, 1) := dk_172 (dk_at dksX13_apart_1 1 rfl rfl)
abbrev cX13_mouse : ByteArray := prog_16_method_25_code
def yX13_mouse : MethodName := ⟨RX13, "mouse", "(II)I"⟩
def dkwX13_mouse_1 : List UInt8 := [182, 0, 80, 172]
abbrev dktX13_mouse_1 : List UInt8 := dkwX13_mouse_1 ++ []
def dkwX13_mouse_0 : List UInt8 := [42, 27, 28, 182, 0, 140, 153, 0, 14, 42, 6, 27, 96, 28, 182, 0, 105, 167, 0, 9, 42, 18, 74]
abbrev dktX13_mouse_0 : List UInt8 := dkwX13_mouse_0 ++ dktX13_mouse_1
theorem dksX13_mouse_0 : cX13_mouse.data.toList.drop 0 = dktX13_mouse_0 := by decide +kernel
theorem dksX13_mouse_1 : cX13_mouse.data.toList.drop 23 = dktX13_mouse_1 := dk_seg dksX13_mouse_0 23 rfl rfl
theorem dX13_mouse_0 : decode cX13_mouse 0 = .ok (.aload_n 0, 1) := dk_42 (dk_at dksX13_mouse_0 0 rfl rfl)
theorem dX13_mouse_1 : decode cX13_mouse 1 = .ok (.iload_n 1, 1) := dk_27 (dk_at dksX13_mouse_0 1 rfl rfl)
theorem dX13_mouse_2 : decode cX13_mouse 2 = .ok (.iload_n 2, 1) := dk_28 (dk_at dksX13_mouse_0 2 rfl rfl)
theorem dX13_mouse_3 : decode cX13_mouse 3 = .ok (.invokevirtual 140, 3) := dk_182 0 140 (dk_at dksX13_mouse_0 3 rfl rfl)
theorem dX13_mouse_6 : decode cX13_mouse 6 = .ok (.ifCond .eq 14, 3) := dk_153 0 14 (dk_at dksX13_mouse_0 6 rfl rfl)
theorem dX13_mouse_9 : decode cX13_mouse 9 = .ok (.aload_n 0, 1) := dk_42 (dk_at dksX13_mouse_0 9 rfl rfl)
theorem dX13_mouse_10 : decode cX13_mouse 10 = .ok (.iconst 3, 1) := dk_6 (dk_at dksX13_mouse_0 10 rfl rfl)
theorem dX13_mouse_11 : decode cX13_mouse 11 = .ok (.iload_n 1, 1) := dk_27 (dk_at dksX13_mouse_0 11 rfl rfl)
theorem dX13_mouse_12 : decode cX13_mouse 12 = .ok (.iadd, 1) := dk_96 (dk_at dksX13_mouse_0 12 rfl rfl)
theorem dX13_mouse_13 : decode cX13_mouse 13 = .ok (.iload_n 2, 1) := dk_28 (dk_at dksX13_mouse_0 13 rfl rfl)
theorem dX13_mouse_14 : decode cX13_mouse 14 = .ok (.invokevirtual 105, 3) := dk_182 0 105 (dk_at dksX13_mouse_0 14 rfl rfl)
theorem dX13_mouse_17 : decode cX13_mouse 17 = .ok (.goto 9, 3) := dk_167 0 9 (dk_at dksX13_mouse_0 17 rfl rfl)
theorem dX13_mouse_20 : decode cX13_mouse 20 = .ok (.aload_n 0, 1) := dk_42 (dk_at dksX13_mouse_0 20 rfl rfl)
theorem dX13_mouse_21 : decode cX13_mouse 21 = .ok (.ldc 74, 2) := dk_18 74 (dk_at dksX13_mouse_0 21 rfl rfl)
theorem dX13_mouse_23 : decode cX13_mouse 23 = .ok (.invokevirtual 80, 3) := dk_182 0 80 (dk_at dksX13_mouse_1 0 rfl rfl)
theorem dX13_mouse_26 : decode cX13_mouse 26 = .ok (.ireturn, 1) := dk_172 (dk_at dksX13_mouse_1 3 rfl rfl)
abbrev cX13_mayBeMouse : ByteArray := prog_16_method_24_code
def yX13_mayBeMouse : MethodName := ⟨RX13, "mayBeMouse", "(II)Z"⟩
def dkwX13_mayBeMouse_6 : List UInt8 := [96, 4, 100, 184, 0, 84, 172, 3, 172]
abbrev dktX13_mayBeMouse_6 : List UInt8 := dkwX13_mayBeMouse_6 ++ []
def dkwX13_mayBeMouse_5 : List UInt8 := [162, 0, 7, 4, 167, 0, 4, 3, 172, 28, 3, 42, 180, 0, 9, 8, 46, 42, 180, 0, 9, 16, 6, 46]
abbrev dktX13_mayBeMouse_5 : List UInt8 := dkwX13_mayBeMouse_5 ++ dktX13_mayBeMouse_6
def dkwX13_mayBeMouse_4 : List UInt8 := [16, 9, 184, 0, 84, 153, 0, 25, 42, 180, 0, 9, 16, 7, 46, 42, 180, 0, 9, 8, 46, 28, 96]
abbrev dktX13_mayBeMouse_4 : List UInt8 := dkwX13_mayBeMouse_4 ++ dktX13_mayBeMouse_5
def dkwX13_mayBeMouse_3 : List UInt8 := [16, 7, 46, 28, 42, 180, 0, 9, 16, 6, 46, 96, 162, 0, 7, 4, 167, 0, 4, 3, 172, 28, 3]
abbrev dktX13_mayBeMouse_3 : List UInt8 := dkwX13_mayBeMouse_3 ++ dktX13_mayBeMouse_4
def dkwX13_mayBeMouse_2 : List UInt8 := [28, 184, 0, 93, 172, 28, 184, 0, 137, 172, 28, 4, 16, 9, 184, 0, 84, 153, 0, 26, 42, 180, 0, 9]
abbrev dktX13_mayBeMouse_2 : List UInt8 := dkwX13_mayBeMouse_2 ++ dktX13_mayBeMouse_3
def dkwX13_mayBeMouse_1 : List UInt8 := [170, 0, 0, 0, 0, 0, 136, 0, 0, 0, 0, 0, 0, 0, 4, 0, 0, 0, 35, 0, 0, 0, 40, 0, 0, 0, 45, 0, 0, 0, 80, 0, 0, 0, 114]
abbrev dktX13_mayBeMouse_1 : List UInt8 := dkwX13_mayBeMouse_1 ++ dktX13_mayBeMouse_2
def dkwX13_mayBeMouse_0 : List UInt8 := [27]
abbrev dktX13_mayBeMouse_0 : List UInt8 := dkwX13_mayBeMouse_0 ++ dktX13_mayBeMouse_1
theorem dksX13_mayBeMouse_0 : cX13_mayBeMouse.data.toList.drop 0 = dktX13_mayBeMouse_0 := by decide +kernel
theorem dksX13_mayBeMouse_1 : cX13_mayBeMouse.data.toList.drop 1 = dktX13_mayBeMouse_1 := dk_seg dksX13_mayBeMouse_0 1 rfl rfl
theorem dksX13_mayBeMouse_2 : cX13_mayBeMouse.data.toList.drop 36 = dktX13_mayBeMouse_2 := dk_seg dksX13_mayBeMouse_1 35 rfl rfl
theorem dksX13_mayBeMouse_3 : cX13_mayBeMouse.data.toList.drop 60 = dktX13_mayBeMouse_3 := dk_seg dksX13_mayBeMouse_2 24 rfl rfl
theorem dksX13_mayBeMouse_4 : cX13_mayBeMouse.data.toList.drop 83 = dktX13_mayBeMouse_4 := dk_seg dksX13_mayBeMouse_3 23 rfl rfl
theorem dksX13_mayBeMouse_5 : cX13_mayBeMouse.data.toList.drop 106 = dktX13_mayBeMouse_5 := dk_seg dksX13_mayBeMouse_4 23 rfl rfl
theorem dksX13_mayBeMouse_6 : cX13_mayBeMouse.data.toList.drop 130 = dktX13_mayBeMouse_6 := dk_seg dksX13_mayBeMouse_5 24 rfl rfl
theorem dX13_mayBeMouse_0 : decode cX13_mayBeMouse 0 = .ok (.iload_n 1, 1) := dk_27 (dk_at dksX13_mayBeMouse_0 0 rfl rfl)
theorem dX13_mayBeMouse_1 : decode cX13_mayBeMouse 1 = .ok (.tableswitch 136 0 4 #[35, 40, 45, 80, 114], 35) := by decide +kernel
theorem dX13_mayBeMouse_36 : decode cX13_mayBeMouse 36 = .ok (.iload_n 2, 1) := dk_28 (dk_at dksX13_mayBeMouse_2 0 rfl rfl)
theorem dX13_mayBeMouse_37 : decode cX13_mayBeMouse 37 = .ok (.invokestatic 93, 3) := dk_184 0 93 (dk_at dksX13_mayBeMouse_2 1 rfl rfl)
theorem dX13_mayBeMouse_40 : decode cX13_mayBeMouse 40 = .ok (.ireturn, 1) := dk_172 (dk_at dksX13_mayBeMouse_2 4 rfl rfl)
theorem dX13_mayBeMouse_41 : decode cX13_mayBeMouse 41 = .ok (.iload_n 2, 1) := dk_28 (dk_at dksX13_mayBeMouse_2 5 rfl rfl)
theorem dX13_mayBeMouse_42 : decode cX13_mayBeMouse 42 = .ok (.invokestatic 137, 3) := dk_184 0 137 (dk_at dksX13_mayBeMouse_2 6 rfl rfl)
theorem dX13_mayBeMouse_45 : decode cX13_mayBeMouse 45 = .ok (.ireturn, 1) := dk_172 (dk_at dksX13_mayBeMouse_2 9 rfl rfl)
theorem dX13_mayBeMouse_46 : decode cX13_mayBeMouse 46 = .ok (.iload_n 2, 1) := dk_28 (dk_at dksX13_mayBeMouse_2 10 rfl rfl)
theorem dX13_mayBeMouse_47 : decode cX13_mayBeMouse 47 = .ok (.iconst 1, 1) := dk_4 (dk_at dksX13_mayBeMouse_2 11 rfl rfl)
theorem dX13_mayBeMouse_48 : decode cX13_mayBeMouse 48 = .ok (.bipush 9, 2) := dk_16 9 (dk_at dksX13_mayBeMouse_2 12 rfl rfl)
theorem dX13_mayBeMouse_50 : decode cX13_mayBeMouse 50 = .ok (.invokestatic 84, 3) := dk_184 0 84 (dk_at dksX13_mayBeMouse_2 14 rfl rfl)
theorem dX13_mayBeMouse_53 : decode cX13_mayBeMouse 53 = .ok (.ifCond .eq 26, 3) := dk_153 0 26 (dk_at dksX13_mayBeMouse_2 17 rfl rfl)
theorem dX13_mayBeMouse_56 : decode cX13_mayBeMouse 56 = .ok (.aload_n 0, 1) := dk_42 (dk_at dksX13_mayBeMouse_2 20 rfl rfl)
theorem dX13_mayBeMouse_57 : decode cX13_mayBeMouse 57 = .ok (.getfield 9, 3) := dk_180 0 9 (dk_at dksX13_mayBeMouse_2 21 rfl rfl)
theorem dX13_mayBeMouse_60 : decode cX13_mayBeMouse 60 = .ok (.bipush 7, 2) := dk_16 7 (dk_at dksX13_mayBeMouse_3 0 rfl rfl)
theorem dX13_mayBeMouse_62 : decode cX13_mayBeMouse 62 = .ok (.iaload, 1) := dk_46 (dk_at dksX13_mayBeMouse_3 2 rfl rfl)
theorem dX13_mayBeMouse_63 : decode cX13_mayBeMouse 63 = .ok (.iload_n 2, 1) := dk_28 (dk_at dksX13_mayBeMouse_3 3 rfl rfl)
theorem dX13_mayBeMouse_64 : decode cX13_mayBeMouse 64 = .ok (.aload_n 0, 1) := dk_42 (dk_at dksX13_mayBeMouse_3 4 rfl rfl)
theorem dX13_mayBeMouse_65 : decode cX13_mayBeMouse 65 = .ok (.getfield 9, 3) := dk_180 0 9 (dk_at dksX13_mayBeMouse_3 5 rfl rfl)
theorem dX13_mayBeMouse_68 : decode cX13_mayBeMouse 68 = .ok (.bipush 6, 2) := dk_16 6 (dk_at dksX13_mayBeMouse_3 8 rfl rfl)
theorem dX13_mayBeMouse_70 : decode cX13_mayBeMouse 70 = .ok (.iaload, 1) := dk_46 (dk_at dksX13_mayBeMouse_3 10 rfl rfl)
theorem dX13_mayBeMouse_71 : decode cX13_mayBeMouse 71 = .ok (.iadd, 1) := dk_96 (dk_at dksX13_mayBeMouse_3 11 rfl rfl)
theorem dX13_mayBeMouse_72 : decode cX13_mayBeMouse 72 = .ok (.if_icmp .ge 7, 3) := dk_162 0 7 (dk_at dksX13_mayBeMouse_3 12 rfl rfl)
theorem dX13_mayBeMouse_75 : decode cX13_mayBeMouse 75 = .ok (.iconst 1, 1) := dk_4 (dk_at dksX13_mayBeMouse_3 15 rfl rfl)
theorem dX13_mayBeMouse_76 : decode cX13_mayBeMouse 76 = .ok (.goto 4, 3) := dk_167 0 4 (dk_at dksX13_mayBeMouse_3 16 rfl rfl)
theorem dX13_mayBeMouse_79 : decode cX13_mayBeMouse 79 = .ok (.iconst 0, 1) := dk_3 (dk_at dksX13_mayBeMouse_3 19 rfl rfl)
theorem dX13_mayBeMouse_80 : decode cX13_mayBeMouse 80 = .ok (.ireturn, 1) := dk_172 (dk_at dksX13_mayBeMouse_3 20 rfl rfl)
theorem dX13_mayBeMouse_81 : decode cX13_mayBeMouse 81 = .ok (.iload_n 2, 1) := dk_28 (dk_at dksX13_mayBeMouse_3 21 rfl rfl)
theorem dX13_mayBeMouse_82 : decode cX13_mayBeMouse 82 = .ok (.iconst 0, 1) := dk_3 (dk_at dksX13_mayBeMouse_3 22 rfl rfl)
theorem dX13_mayBeMouse_83 : decode cX13_mayBeMouse 83 = .ok (.bipush 9, 2) := dk_16 9 (dk_at dksX13_mayBeMouse_4 0 rfl rfl)
theorem dX13_mayBeMouse_85 : decode cX13_mayBeMouse 85 = .ok (.invokestatic 84, 3) := dk_184 0 84 (dk_at dksX13_mayBeMouse_4 2 rfl rfl)
theorem dX13_mayBeMouse_88 : decode cX13_mayBeMouse 88 = .ok (.ifCond .eq 25, 3) := dk_153 0 25 (dk_at dksX13_mayBeMouse_4 5 rfl rfl)
theorem dX13_mayBeMouse_91 : decode cX13_mayBeMouse 91 = .ok (.aload_n 0, 1) := dk_42 (dk_at dksX13_mayBeMouse_4 8 rfl rfl)
theorem dX13_mayBeMouse_92 : decode cX13_mayBeMouse 92 = .ok (.getfield 9, 3) := dk_180 0 9 (dk_at dksX13_mayBeMouse_4 9 rfl rfl)
theorem dX13_mayBeMouse_95 : decode cX13_mayBeMouse 95 = .ok (.bipush 7, 2) := dk_16 7 (dk_at dksX13_mayBeMouse_4 12 rfl rfl)
theorem dX13_mayBeMouse_97 : decode cX13_mayBeMouse 97 = .ok (.iaload, 1) := dk_46 (dk_at dksX13_mayBeMouse_4 14 rfl rfl)
theorem dX13_mayBeMouse_98 : decode cX13_mayBeMouse 98 = .ok (.aload_n 0, 1) := dk_42 (dk_at dksX13_mayBeMouse_4 15 rfl rfl)
theorem dX13_mayBeMouse_99 : decode cX13_mayBeMouse 99 = .ok (.getfield 9, 3) := dk_180 0 9 (dk_at dksX13_mayBeMouse_4 16 rfl rfl)
theorem dX13_mayBeMouse_102 : decode cX13_mayBeMouse 102 = .ok (.iconst 5, 1) := dk_8 (dk_at dksX13_mayBeMouse_4 19 rfl rfl)
theorem dX13_mayBeMouse_103 : decode cX13_mayBeMouse 103 = .ok (.iaload, 1) := dk_46 (dk_at dksX13_mayBeMouse_4 20 rfl rfl)
theorem dX13_mayBeMouse_104 : decode cX13_mayBeMouse 104 = .ok (.iload_n 2, 1) := dk_28 (dk_at dksX13_mayBeMouse_4 21 rfl rfl)
theorem dX13_mayBeMouse_105 : decode cX13_mayBeMouse 105 = .ok (.iadd, 1) := dk_96 (dk_at dksX13_mayBeMouse_4 22 rfl rfl)
theorem dX13_mayBeMouse_106 : decode cX13_mayBeMouse 106 = .ok (.if_icmp .ge 7, 3) := dk_162 0 7 (dk_at dksX13_mayBeMouse_5 0 rfl rfl)
theorem dX13_mayBeMouse_109 : decode cX13_mayBeMouse 109 = .ok (.iconst 1, 1) := dk_4 (dk_at dksX13_mayBeMouse_5 3 rfl rfl)
theorem dX13_mayBeMouse_110 : decode cX13_mayBeMouse 110 = .ok (.goto 4, 3) := dk_167 0 4 (dk_at dksX13_mayBeMouse_5 4 rfl rfl)
theorem dX13_mayBeMouse_113 : decode cX13_mayBeMouse 113 = .ok (.iconst 0, 1) := dk_3 (dk_at dksX13_mayBeMouse_5 7 rfl rfl)
theorem dX13_mayBeMouse_114 : decode cX13_mayBeMouse 114 = .ok (.ireturn, 1) := dk_172 (dk_at dksX13_mayBeMouse_5 8 rfl rfl)
theorem dX13_mayBeMouse_115 : decode cX13_mayBeMouse 115 = .ok (.iload_n 2, 1) := dk_28 (dk_at dksX13_mayBeMouse_5 9 rfl rfl)
theorem dX13_mayBeMouse_116 : decode cX13_mayBeMouse 116 = .ok (.iconst 0, 1) := dk_3 (dk_at dksX13_mayBeMouse_5 10 rfl rfl)
theorem dX13_mayBeMouse_117 : decode cX13_mayBeMouse 117 = .ok (.aload_n 0, 1) := dk_42 (dk_at dksX13_mayBeMouse_5 11 rfl rfl)
theorem dX13_mayBeMouse_118 : decode cX13_mayBeMouse 118 = .ok (.getfield 9, 3) := dk_180 0 9 (dk_at dksX13_mayBeMouse_5 12 rfl rfl)
theorem dX13_mayBeMouse_121 : decode cX13_mayBeMouse 121 = .ok (.iconst 5, 1) := dk_8 (dk_at dksX13_mayBeMouse_5 15 rfl rfl)
theorem dX13_mayBeMouse_122 : decode cX13_mayBeMouse 122 = .ok (.iaload, 1) := dk_46 (dk_at dksX13_mayBeMouse_5 16 rfl rfl)
theorem dX13_mayBeMouse_123 : decode cX13_mayBeMouse 123 = .ok (.aload_n 0, 1) := dk_42 (dk_at dksX13_mayBeMouse_5 17 rfl rfl)
theorem dX13_mayBeMouse_124 : decode cX13_mayBeMouse 124 = .ok (.getfield 9, 3) := dk_180 0 9 (dk_at dksX13_mayBeMouse_5 18 rfl rfl)
theorem dX13_mayBeMouse_127 : decode cX13_mayBeMouse 127 = .ok (.bipush 6, 2) := dk_16 6 (dk_at dksX13_mayBeMouse_5 21 rfl rfl)
theorem dX13_mayBeMouse_129 : decode cX13_mayBeMouse 129 = .ok (.iaload, 1) := dk_46 (dk_at dksX13_mayBeMouse_5 23 rfl rfl)
theorem dX13_mayBeMouse_130 : decode cX13_mayBeMouse 130 = .ok (.iadd, 1) := dk_96 (dk_at dksX13_mayBeMouse_6 0 rfl rfl)
theorem dX13_mayBeMouse_131 : decode cX13_mayBeMouse 131 = .ok (.iconst 1, 1) := dk_4 (dk_at dksX13_mayBeMouse_6 1 rfl rfl)
theorem dX13_mayBeMouse_132 : decode cX13_mayBeMouse 132 = .ok (.isub, 1) := dk_100 (dk_at dksX13_mayBeMouse_6 2 rfl rfl)
theorem dX13_mayBeMouse_133 : decode cX13_mayBeMouse 133 = .ok (.invokestatic 84, 3) := dk_184 0 84 (dk_at dksX13_mayBeMouse_6 3 rfl rfl)
theorem dX13_mayBeMouse_136 : decode cX13_mayBeMouse 136 = .ok (.ireturn, 1) := dk_172 (dk_at dksX13_mayBeMouse_6 6 rfl rfl)
theorem dX13_mayBeMouse_137 : decode cX13_mayBeMouse 137 = .ok (.iconst 0, 1) := dk_3 (dk_at dksX13_mayBeMouse_6 7 rfl rfl)
theorem dX13_mayBeMouse_138 : decode cX13_mayBeMouse 138 = .ok (.ireturn, 1) := dk_172 (dk_at dksX13_mayBeMouse_6 8 rfl rfl)
abbrev cX13_isHeading : ByteArray := prog_16_method_9_code
def yX13_isHeading : MethodName := ⟨RX13, "isHeading", "(I)Z"⟩
def dkwX13_isHeading_0 : List UInt8 := [26, 3, 6, 184, 0, 84, 172]
abbrev dktX13_isHeading_0 : List UInt8 := dkwX13_isHeading_0 ++ []
theorem dksX13_isHeading_0 : cX13_isHeading.data.toList.drop 0 = dktX13_isHeading_0 := by decide +kernel
theorem dX13_isHeading_0 : decode cX13_isHeading 0 = .ok (.iload_n 0, 1) := dk_26 (dk_at dksX13_isHeading_0 0 rfl rfl)
theorem dX13_isHeading_1 : decode cX13_isHeading 1 = .ok (.iconst 0, 1) := dk_3 (dk_at dksX13_isHeading_0 1 rfl rfl)
theorem dX13_isHeading_2 : decode cX13_isHeading 2 = .ok (.iconst 3, 1) := dk_6 (dk_at dksX13_isHeading_0 2 rfl rfl)
theorem dX13_isHeading_3 : decode cX13_isHeading 3 = .ok (.invokestatic 84, 3) := dk_184 0 84 (dk_at dksX13_isHeading_0 3 rfl rfl)
theorem dX13_isHeading_6 : decode cX13_isHeading 6 = .ok (.ireturn, 1) := dk_172 (dk_at dksX13_isHeading_0 6 rfl rfl)
abbrev cX13_owl : ByteArray := prog_16_method_26_code
def yX13_owl : MethodName := ⟨RX13, "owl", "(II)I"⟩
def dkwX13_owl_2 : List UInt8 := [182, 0, 80, 172]
abbrev dktX13_owl_2 : List UInt8 := dkwX13_owl_2 ++ []
def dkwX13_owl_1 : List UInt8 := [167, 0, 4, 3, 62, 29, 153, 0, 15, 42, 16, 8, 27, 96, 28, 182, 0, 105, 167, 0, 9, 42, 18, 74]
abbrev dktX13_owl_1 : List UInt8 := dkwX13_owl_1 ++ dktX13_owl_2
def dkwX13_owl_0 : List UInt8 := [27, 154, 0, 10, 28, 184, 0, 93, 167, 0, 20, 27, 4, 160, 0, 14, 28, 184, 0, 137, 153, 0, 7, 4]
abbrev dktX13_owl_0 : List UInt8 := dkwX13_owl_0 ++ dktX13_owl_1
theorem dksX13_owl_0 : cX13_owl.data.toList.drop 0 = dktX13_owl_0 := by decide +kernel
theorem dksX13_owl_1 : cX13_owl.data.toList.drop 24 = dktX13_owl_1 := dk_seg dksX13_owl_0 24 rfl rfl
theorem dksX13_owl_2 : cX13_owl.data.toList.drop 48 = dktX13_owl_2 := dk_seg dksX13_owl_1 24 rfl rfl
theorem dX13_owl_0 : decode cX13_owl 0 = .ok (.iload_n 1, 1) := dk_27 (dk_at dksX13_owl_0 0 rfl rfl)
theorem dX13_owl_1 : decode cX13_owl 1 = .ok (.ifCond .ne 10, 3) := dk_154 0 10 (dk_at dksX13_owl_0 1 rfl rfl)
theorem dX13_owl_4 : decode cX13_owl 4 = .ok (.iload_n 2, 1) := dk_28 (dk_at dksX13_owl_0 4 rfl rfl)
theorem dX13_owl_5 : decode cX13_owl 5 = .ok (.invokestatic 93, 3) := dk_184 0 93 (dk_at dksX13_owl_0 5 rfl rfl)
theorem dX13_owl_8 : decode cX13_owl 8 = .ok (.goto 20, 3) := dk_167 0 20 (dk_at dksX13_owl_0 8 rfl rfl)
theorem dX13_owl_11 : decode cX13_owl 11 = .ok (.iload_n 1, 1) := dk_27 (dk_at dksX13_owl_0 11 rfl rfl)
theorem dX13_owl_12 : decode cX13_owl 12 = .ok (.iconst 1, 1) := dk_4 (dk_at dksX13_owl_0 12 rfl rfl)
theorem dX13_owl_13 : decode cX13_owl 13 = .ok (.if_icmp .ne 14, 3) := dk_160 0 14 (dk_at dksX13_owl_0 13 rfl rfl)
theorem dX13_owl_16 : decode cX13_owl 16 = .ok (.iload_n 2, 1) := dk_28 (dk_at dksX13_owl_0 16 rfl rfl)
theorem dX13_owl_17 : decode cX13_owl 17 = .ok (.invokestatic 137, 3) := dk_184 0 137 (dk_at dksX13_owl_0 17 rfl rfl)
theorem dX13_owl_20 : decode cX13_owl 20 = .ok (.ifCond .eq 7, 3) := dk_153 0 7 (dk_at dksX13_owl_0 20 rfl rfl)
theorem dX13_owl_23 : decode cX13_owl 23 = .ok (.iconst 1, 1) := dk_4 (dk_at dksX13_owl_0 23 rfl rfl)
theorem dX13_owl_24 : decode cX13_owl 24 = .ok (.goto 4, 3) := dk_167 0 4 (dk_at dksX13_owl_1 0 rfl rfl)
theorem dX13_owl_27 : decode cX13_owl 27 = .ok (.iconst 0, 1) := dk_3 (dk_at dksX13_owl_1 3 rfl rfl)
theorem dX13_owl_28 : decode cX13_owl 28 = .ok (.istore_n 3, 1) := dk_62 (dk_at dksX13_owl_1 4 rfl rfl)
theorem dX13_owl_29 : decode cX13_owl 29 = .ok (.iload_n 3, 1) := dk_29 (dk_at dksX13_owl_1 5 rfl rfl)
theorem dX13_owl_30 : decode cX13_owl 30 = .ok (.ifCond .eq 15, 3) := dk_153 0 15 (dk_at dksX13_owl_1 6 rfl rfl)
theorem dX13_owl_33 : decode cX13_owl 33 = .ok (.aload_n 0, 1) := dk_42 (dk_at dksX13_owl_1 9 rfl rfl)
theorem dX13_owl_34 : decode cX13_owl 34 = .ok (.bipush 8, 2) := dk_16 8 (dk_at dksX13_owl_1 10 rfl rfl)
theorem dX13_owl_36 : decode cX13_owl 36 = .ok (.iload_n 1, 1) := dk_27 (dk_at dksX13_owl_1 12 rfl rfl)
theorem dX13_owl_37 : decode cX13_owl 37 = .ok (.iadd, 1) := dk_96 (dk_at dksX13_owl_1 13 rfl rfl)
theorem dX13_owl_38 : decode cX13_owl 38 = .ok (.iload_n 2, 1) := dk_28 (dk_at dksX13_owl_1 14 rfl rfl)
theorem dX13_owl_39 : decode cX13_owl 39 = .ok (.invokevirtual 105, 3) := dk_182 0 105 (dk_at dksX13_owl_1 15 rfl rfl)
theorem dX13_owl_42 : decode cX13_owl 42 = .ok (.goto 9, 3) := dk_167 0 9 (dk_at dksX13_owl_1 18 rfl rfl)
theorem dX13_owl_45 : decode cX13_owl 45 = .ok (.aload_n 0, 1) := dk_42 (dk_at dksX13_owl_1 21 rfl rfl)
theorem dX13_owl_46 : decode cX13_owl 46 = .ok (.ldc 74, 2) := dk_18 74 (dk_at dksX13_owl_1 22 rfl rfl)
theorem dX13_owl_48 : decode cX13_owl 48 = .ok (.invokevirtual 80, 3) := dk_182 0 80 (dk_at dksX13_owl_2 0 rfl rfl)
theorem dX13_owl_51 : decode cX13_owl 51 = .ok (.ireturn, 1) := dk_172 (dk_at dksX13_owl_2 3 rfl rfl)
abbrev cX13_told : ByteArray := prog_16_method_27_code
def yX13_told : MethodName := ⟨RX13, "told", "(I)I"⟩
def dkwX13_told_3 : List UInt8 := [46, 172, 42, 180, 0, 9, 16, 9, 46, 172, 42, 18, 74, 182, 0, 80, 172]
abbrev dktX13_told_3 : List UInt8 := dkwX13_told_3 ++ []
def dkwX13_told_2 : List UInt8 := [42, 182, 0, 108, 153, 0, 7, 4, 167, 0, 4, 3, 172, 42, 182, 0, 115, 172, 42, 180, 0, 9, 16, 8]
abbrev dktX13_told_2 : List UInt8 := dkwX13_told_2 ++ dktX13_told_3
def dkwX13_told_1 : List UInt8 := [170, 0, 0, 0, 75, 0, 0, 0, 5, 0, 0, 0, 11, 0, 0, 0, 41, 0, 0, 0, 54, 0, 0, 0, 75, 0, 0, 0, 75, 0, 0, 0, 75, 0, 0, 0, 59, 0, 0, 0, 67]
abbrev dktX13_told_1 : List UInt8 := dkwX13_told_1 ++ dktX13_told_2
def dkwX13_told_0 : List UInt8 := [27, 3, 7, 184, 0, 84, 153, 0, 12, 42, 180, 0, 9, 6, 27, 96, 46, 172, 27]
abbrev dktX13_told_0 : List UInt8 := dkwX13_told_0 ++ dktX13_told_1
theorem dksX13_told_0 : cX13_told.data.toList.drop 0 = dktX13_told_0 := by decide +kernel
theorem dksX13_told_1 : cX13_told.data.toList.drop 19 = dktX13_told_1 := dk_seg dksX13_told_0 19 rfl rfl
theorem dksX13_told_2 : cX13_told.data.toList.drop 60 = dktX13_told_2 := dk_seg dksX13_told_1 41 rfl rfl
theorem dksX13_told_3 : cX13_told.data.toList.drop 84 = dktX13_told_3 := dk_seg dksX13_told_2 24 rfl rfl
theorem dX13_told_0 : decode cX13_told 0 = .ok (.iload_n 1, 1) := dk_27 (dk_at dksX13_told_0 0 rfl rfl)
theorem dX13_told_1 : decode cX13_told 1 = .ok (.iconst 0, 1) := dk_3 (dk_at dksX13_told_0 1 rfl rfl)
theorem dX13_told_2 : decode cX13_told 2 = .ok (.iconst 4, 1) := dk_7 (dk_at dksX13_told_0 2 rfl rfl)
theorem dX13_told_3 : decode cX13_told 3 = .ok (.invokestatic 84, 3) := dk_184 0 84 (dk_at dksX13_told_0 3 rfl rfl)
theorem dX13_told_6 : decode cX13_told 6 = .ok (.ifCond .eq 12, 3) := dk_153 0 12 (dk_at dksX13_told_0 6 rfl rfl)
theorem dX13_told_9 : decode cX13_told 9 = .ok (.aload_n 0, 1) := dk_42 (dk_at dksX13_told_0 9 rfl rfl)
theorem dX13_told_10 : decode cX13_told 10 = .ok (.getfield 9, 3) := dk_180 0 9 (dk_at dksX13_told_0 10 rfl rfl)
theorem dX13_told_13 : decode cX13_told 13 = .ok (.iconst 3, 1) := dk_6 (dk_at dksX13_told_0 13 rfl rfl)
theorem dX13_told_14 : decode cX13_told 14 = .ok (.iload_n 1, 1) := dk_27 (dk_at dksX13_told_0 14 rfl rfl)
theorem dX13_told_15 : decode cX13_told 15 = .ok (.iadd, 1) := dk_96 (dk_at dksX13_told_0 15 rfl rfl)
theorem dX13_told_16 : decode cX13_told 16 = .ok (.iaload, 1) := dk_46 (dk_at dksX13_told_0 16 rfl rfl)
theorem dX13_told_17 : decode cX13_told 17 = .ok (.ireturn, 1) := dk_172 (dk_at dksX13_told_0 17 rfl rfl)
theorem dX13_told_18 : decode cX13_told 18 = .ok (.iload_n 1, 1) := dk_27 (dk_at dksX13_told_0 18 rfl rfl)
theorem dX13_told_19 : decode cX13_told 19 = .ok (.tableswitch 75 5 11 #[41, 54, 75, 75, 75, 59, 67], 41) := by decide +kernel
theorem dX13_told_60 : decode cX13_told 60 = .ok (.aload_n 0, 1) := dk_42 (dk_at dksX13_told_2 0 rfl rfl)
theorem dX13_told_61 : decode cX13_told 61 = .ok (.invokevirtual 108, 3) := dk_182 0 108 (dk_at dksX13_told_2 1 rfl rfl)
theorem dX13_told_64 : decode cX13_told 64 = .ok (.ifCond .eq 7, 3) := dk_153 0 7 (dk_at dksX13_told_2 4 rfl rfl)
theorem dX13_told_67 : decode cX13_told 67 = .ok (.iconst 1, 1) := dk_4 (dk_at dksX13_told_2 7 rfl rfl)
theorem dX13_told_68 : decode cX13_told 68 = .ok (.goto 4, 3) := dk_167 0 4 (dk_at dksX13_told_2 8 rfl rfl)
theorem dX13_told_71 : decode cX13_told 71 = .ok (.iconst 0, 1) := dk_3 (dk_at dksX13_told_2 11 rfl rfl)
theorem dX13_told_72 : decode cX13_told 72 = .ok (.ireturn, 1) := dk_172 (dk_at dksX13_told_2 12 rfl rfl)
theorem dX13_told_73 : decode cX13_told 73 = .ok (.aload_n 0, 1) := dk_42 (dk_at dksX13_told_2 13 rfl rfl)
theorem dX13_told_74 : decode cX13_told 74 = .ok (.invokevirtual 115, 3) := dk_182 0 115 (dk_at dksX13_told_2 14 rfl rfl)
theorem dX13_told_77 : decode cX13_told 77 = .ok (.ireturn, 1) := dk_172 (dk_at dksX13_told_2 17 rfl rfl)
theorem dX13_told_78 : decode cX13_told 78 = .ok (.aload_n 0, 1) := dk_42 (dk_at dksX13_told_2 18 rfl rfl)
theorem dX13_told_79 : decode cX13_told 79 = .ok (.getfield 9, 3) := dk_180 0 9 (dk_at dksX13_told_2 19 rfl rfl)
theorem dX13_told_82 : decode cX13_told 82 = .ok (.bipush 8, 2) := dk_16 8 (dk_at dksX13_told_2 22 rfl rfl)
theorem dX13_told_84 : decode cX13_told 84 = .ok (.iaload, 1) := dk_46 (dk_at dksX13_told_3 0 rfl rfl)
theorem dX13_told_85 : decode cX13_told 85 = .ok (.ireturn, 1) := dk_172 (dk_at dksX13_told_3 1 rfl rfl)
theorem dX13_told_86 : decode cX13_told 86 = .ok (.aload_n 0, 1) := dk_42 (dk_at dksX13_told_3 2 rfl rfl)
theorem dX13_told_87 : decode cX13_told 87 = .ok (.getfield 9, 3) := dk_180 0 9 (dk_at dksX13_told_3 3 rfl rfl)
theorem dX13_told_90 : decode cX13_told 90 = .ok (.bipush 9, 2) := dk_16 9 (dk_at dksX13_told_3 6 rfl rfl)
theorem dX13_told_92 : decode cX13_told 92 = .ok (.iaload, 1) := dk_46 (dk_at dksX13_told_3 8 rfl rfl)
theorem dX13_told_93 : decode cX13_told 93 = .ok (.ireturn, 1) := dk_172 (dk_at dksX13_told_3 9 rfl rfl)
theorem dX13_told_94 : decode cX13_told 94 = .ok (.aload_n 0, 1) := dk_42 (dk_at dksX13_told_3 10 rfl rfl)
theorem dX13_told_95 : decode cX13_told 95 = .ok (.ldc 74, 2) := dk_18 74 (dk_at dksX13_told_3 11 rfl rfl)
theorem dX13_told_97 : decode cX13_told 97 = .ok (.invokevirtual 80, 3) := dk_182 0 80 (dk_at dksX13_told_3 13 rfl rfl)
theorem dX13_told_100 : decode cX13_told 100 = .ok (.ireturn, 1) := dk_172 (dk_at dksX13_told_3 16 rfl rfl)
abbrev cX13_strike : ByteArray := prog_16_method_35_code
def yX13_strike : MethodName := ⟨RX13, "strike", "(II)I"⟩
def dkwX13_strike_2 : List UInt8 := [182, 0, 156, 172]
abbrev dktX13_strike_2 : List UInt8 := dkwX13_strike_2 ++ []
def dkwX13_strike_1 : List UInt8 := [180, 0, 9, 4, 46, 16, 8, 160, 0, 12, 42, 18, 155, 182, 0, 80, 167, 0, 10, 42, 27, 28, 3]
abbrev dktX13_strike_1 : List UInt8 := dkwX13_strike_1 ++ dktX13_strike_2
def dkwX13_strike_0 : List UInt8 := [27, 184, 0, 152, 153, 0, 10, 28, 184, 0, 93, 154, 0, 10, 42, 18, 74, 182, 0, 80, 172, 42]
abbrev dktX13_strike_0 : List UInt8 := dkwX13_strike_0 ++ dktX13_strike_1
theorem dksX13_strike_0 : cX13_strike.data.toList.drop 0 = dktX13_strike_0 := by decide +kernel
theorem dksX13_strike_1 : cX13_strike.data.toList.drop 22 = dktX13_strike_1 := dk_seg dksX13_strike_0 22 rfl rfl
theorem dksX13_strike_2 : cX13_strike.data.toList.drop 45 = dktX13_strike_2 := dk_seg dksX13_strike_1 23 rfl rfl
theorem dX13_strike_0 : decode cX13_strike 0 = .ok (.iload_n 1, 1) := dk_27 (dk_at dksX13_strike_0 0 rfl rfl)
theorem dX13_strike_1 : decode cX13_strike 1 = .ok (.invokestatic 152, 3) := dk_184 0 152 (dk_at dksX13_strike_0 1 rfl rfl)
theorem dX13_strike_4 : decode cX13_strike 4 = .ok (.ifCond .eq 10, 3) := dk_153 0 10 (dk_at dksX13_strike_0 4 rfl rfl)
theorem dX13_strike_7 : decode cX13_strike 7 = .ok (.iload_n 2, 1) := dk_28 (dk_at dksX13_strike_0 7 rfl rfl)
theorem dX13_strike_8 : decode cX13_strike 8 = .ok (.invokestatic 93, 3) := dk_184 0 93 (dk_at dksX13_strike_0 8 rfl rfl)
theorem dX13_strike_11 : decode cX13_strike 11 = .ok (.ifCond .ne 10, 3) := dk_154 0 10 (dk_at dksX13_strike_0 11 rfl rfl)
theorem dX13_strike_14 : decode cX13_strike 14 = .ok (.aload_n 0, 1) := dk_42 (dk_at dksX13_strike_0 14 rfl rfl)
theorem dX13_strike_15 : decode cX13_strike 15 = .ok (.ldc 74, 2) := dk_18 74 (dk_at dksX13_strike_0 15 rfl rfl)
theorem dX13_strike_17 : decode cX13_strike 17 = .ok (.invokevirtual 80, 3) := dk_182 0 80 (dk_at dksX13_strike_0 17 rfl rfl)
theorem dX13_strike_20 : decode cX13_strike 20 = .ok (.ireturn, 1) := dk_172 (dk_at dksX13_strike_0 20 rfl rfl)
theorem dX13_strike_21 : decode cX13_strike 21 = .ok (.aload_n 0, 1) := dk_42 (dk_at dksX13_strike_0 21 rfl rfl)
theorem dX13_strike_22 : decode cX13_strike 22 = .ok (.getfield 9, 3) := dk_180 0 9 (dk_at dksX13_strike_1 0 rfl rfl)
theorem dX13_strike_25 : decode cX13_strike 25 = .ok (.iconst 1, 1) := dk_4 (dk_at dksX13_strike_1 3 rfl rfl)
theorem dX13_strike_26 : decode cX13_strike 26 = .ok (.iaload, 1) := dk_46 (dk_at dksX13_strike_1 4 rfl rfl)
theorem dX13_strike_27 : decode cX13_strike 27 = .ok (.bipush 8, 2) := dk_16 8 (dk_at dksX13_strike_1 5 rfl rfl)
theorem dX13_strike_29 : decode cX13_strike 29 = .ok (.if_icmp .ne 12, 3) := dk_160 0 12 (dk_at dksX13_strike_1 7 rfl rfl)
theorem dX13_strike_32 : decode cX13_strike 32 = .ok (.aload_n 0, 1) := dk_42 (dk_at dksX13_strike_1 10 rfl rfl)
theorem dX13_strike_33 : decode cX13_strike 33 = .ok (.ldc 155, 2) := dk_18 155 (dk_at dksX13_strike_1 11 rfl rfl)
theorem dX13_strike_35 : decode cX13_strike 35 = .ok (.invokevirtual 80, 3) := dk_182 0 80 (dk_at dksX13_strike_1 13 rfl rfl)
theorem dX13_strike_38 : decode cX13_strike 38 = .ok (.goto 10, 3) := dk_167 0 10 (dk_at dksX13_strike_1 16 rfl rfl)
theorem dX13_strike_41 : decode cX13_strike 41 = .ok (.aload_n 0, 1) := dk_42 (dk_at dksX13_strike_1 19 rfl rfl)
theorem dX13_strike_42 : decode cX13_strike 42 = .ok (.iload_n 1, 1) := dk_27 (dk_at dksX13_strike_1 20 rfl rfl)
theorem dX13_strike_43 : decode cX13_strike 43 = .ok (.iload_n 2, 1) := dk_28 (dk_at dksX13_strike_1 21 rfl rfl)
theorem dX13_strike_44 : decode cX13_strike 44 = .ok (.iconst 0, 1) := dk_3 (dk_at dksX13_strike_1 22 rfl rfl)
theorem dX13_strike_45 : decode cX13_strike 45 = .ok (.invokevirtual 156, 3) := dk_182 0 156 (dk_at dksX13_strike_2 0 rfl rfl)
theorem dX13_strike_48 : decode cX13_strike 48 = .ok (.ireturn, 1) := dk_172 (dk_at dksX13_strike_2 3 rfl rfl)
abbrev cX13_isKind : ByteArray := prog_16_method_31_code
def yX13_isKind : MethodName := ⟨RX13, "isKind", "(I)Z"⟩
def dkwX13_isKind_0 : List UInt8 := [26, 3, 16, 6, 184, 0, 84, 172]
abbrev dktX13_isKind_0 : List UInt8 := dkwX13_isKind_0 ++ []
theorem dksX13_isKind_0 : cX13_isKind.data.toList.drop 0 = dktX13_isKind_0 := by decide +kernel
theorem dX13_isKind_0 : decode cX13_isKind 0 = .ok (.iload_n 0, 1) := dk_26 (dk_at dksX13_isKind_0 0 rfl rfl)
theorem dX13_isKind_1 : decode cX13_isKind 1 = .ok (.iconst 0, 1) := dk_3 (dk_at dksX13_isKind_0 1 rfl rfl)
theorem dX13_isKind_2 : decode cX13_isKind 2 = .ok (.bipush 6, 2) := dk_16 6 (dk_at dksX13_isKind_0 2 rfl rfl)
theorem dX13_isKind_4 : decode cX13_isKind 4 = .ok (.invokestatic 84, 3) := dk_184 0 84 (dk_at dksX13_isKind_0 4 rfl rfl)
theorem dX13_isKind_7 : decode cX13_isKind 7 = .ok (.ireturn, 1) := dk_172 (dk_at dksX13_isKind_0 7 rfl rfl)
abbrev cX13_comes : ByteArray := prog_16_method_34_code
def yX13_comes : MethodName := ⟨RX13, "comes", "(III)I"⟩
def dkwX13_comes_2 : List UInt8 := [21, 4, 6, 184, 0, 149, 3, 79, 42, 180, 0, 9, 4, 92, 46, 4, 96, 79, 21, 4, 172]
abbrev dktX13_comes_2 : List UInt8 := dkwX13_comes_2 ++ []
def dkwX13_comes_1 : List UInt8 := [21, 4, 4, 184, 0, 149, 28, 79, 42, 180, 0, 9, 21, 4, 5, 184, 0, 149, 29, 79, 42, 180, 0, 9]
abbrev dktX13_comes_1 : List UInt8 := dkwX13_comes_1 ++ dktX13_comes_2
def dkwX13_comes_0 : List UInt8 := [42, 180, 0, 9, 4, 46, 54, 4, 42, 180, 0, 9, 21, 4, 3, 184, 0, 149, 27, 79, 42, 180, 0, 9]
abbrev dktX13_comes_0 : List UInt8 := dkwX13_comes_0 ++ dktX13_comes_1
theorem dksX13_comes_0 : cX13_comes.data.toList.drop 0 = dktX13_comes_0 := by decide +kernel
theorem dksX13_comes_1 : cX13_comes.data.toList.drop 24 = dktX13_comes_1 := dk_seg dksX13_comes_0 24 rfl rfl
theorem dksX13_comes_2 : cX13_comes.data.toList.drop 48 = dktX13_comes_2 := dk_seg dksX13_comes_1 24 rfl rfl
theorem dX13_comes_0 : decode cX13_comes 0 = .ok (.aload_n 0, 1) := dk_42 (dk_at dksX13_comes_0 0 rfl rfl)
theorem dX13_comes_1 : decode cX13_comes 1 = .ok (.getfield 9, 3) := dk_180 0 9 (dk_at dksX13_comes_0 1 rfl rfl)
theorem dX13_comes_4 : decode cX13_comes 4 = .ok (.iconst 1, 1) := dk_4 (dk_at dksX13_comes_0 4 rfl rfl)
theorem dX13_comes_5 : decode cX13_comes 5 = .ok (.iaload, 1) := dk_46 (dk_at dksX13_comes_0 5 rfl rfl)
theorem dX13_comes_6 : decode cX13_comes 6 = .ok (.istore 4, 2) := dk_54 4 (dk_at dksX13_comes_0 6 rfl rfl)
theorem dX13_comes_8 : decode cX13_comes 8 = .ok (.aload_n 0, 1) := dk_42 (dk_at dksX13_comes_0 8 rfl rfl)
theorem dX13_comes_9 : decode cX13_comes 9 = .ok (.getfield 9, 3) := dk_180 0 9 (dk_at dksX13_comes_0 9 rfl rfl)
theorem dX13_comes_12 : decode cX13_comes 12 = .ok (.iload 4, 2) := dk_21 4 (dk_at dksX13_comes_0 12 rfl rfl)
theorem dX13_comes_14 : decode cX13_comes 14 = .ok (.iconst 0, 1) := dk_3 (dk_at dksX13_comes_0 14 rfl rfl)
theorem dX13_comes_15 : decode cX13_comes 15 = .ok (.invokestatic 149, 3) := dk_184 0 149 (dk_at dksX13_comes_0 15 rfl rfl)
theorem dX13_comes_18 : decode cX13_comes 18 = .ok (.iload_n 1, 1) := dk_27 (dk_at dksX13_comes_0 18 rfl rfl)
theorem dX13_comes_19 : decode cX13_comes 19 = .ok (.iastore, 1) := dk_79 (dk_at dksX13_comes_0 19 rfl rfl)
theorem dX13_comes_20 : decode cX13_comes 20 = .ok (.aload_n 0, 1) := dk_42 (dk_at dksX13_comes_0 20 rfl rfl)
theorem dX13_comes_21 : decode cX13_comes 21 = .ok (.getfield 9, 3) := dk_180 0 9 (dk_at dksX13_comes_0 21 rfl rfl)
theorem dX13_comes_24 : decode cX13_comes 24 = .ok (.iload 4, 2) := dk_21 4 (dk_at dksX13_comes_1 0 rfl rfl)
theorem dX13_comes_26 : decode cX13_comes 26 = .ok (.iconst 1, 1) := dk_4 (dk_at dksX13_comes_1 2 rfl rfl)
theorem dX13_comes_27 : decode cX13_comes 27 = .ok (.invokestatic 149, 3) := dk_184 0 149 (dk_at dksX13_comes_1 3 rfl rfl)
theorem dX13_comes_30 : decode cX13_comes 30 = .ok (.iload_n 2, 1) := dk_28 (dk_at dksX13_comes_1 6 rfl rfl)
theorem dX13_comes_31 : decode cX13_comes 31 = .ok (.iastore, 1) := dk_79 (dk_at dksX13_comes_1 7 rfl rfl)
theorem dX13_comes_32 : decode cX13_comes 32 = .ok (.aload_n 0, 1) := dk_42 (dk_at dksX13_comes_1 8 rfl rfl)
theorem dX13_comes_33 : decode cX13_comes 33 = .ok (.getfield 9, 3) := dk_180 0 9 (dk_at dksX13_comes_1 9 rfl rfl)
theorem dX13_comes_36 : decode cX13_comes 36 = .ok (.iload 4, 2) := dk_21 4 (dk_at dksX13_comes_1 12 rfl rfl)
theorem dX13_comes_38 : decode cX13_comes 38 = .ok (.iconst 2, 1) := dk_5 (dk_at dksX13_comes_1 14 rfl rfl)
theorem dX13_comes_39 : decode cX13_comes 39 = .ok (.invokestatic 149, 3) := dk_184 0 149 (dk_at dksX13_comes_1 15 rfl rfl)
theorem dX13_comes_42 : decode cX13_comes 42 = .ok (.iload_n 3, 1) := dk_29 (dk_at dksX13_comes_1 18 rfl rfl)
theorem dX13_comes_43 : decode cX13_comes 43 = .ok (.iastore, 1) := dk_79 (dk_at dksX13_comes_1 19 rfl rfl)
theorem dX13_comes_44 : decode cX13_comes 44 = .ok (.aload_n 0, 1) := dk_42 (dk_at dksX13_comes_1 20 rfl rfl)
theorem dX13_comes_45 : decode cX13_comes 45 = .ok (.getfield 9, 3) := dk_180 0 9 (dk_at dksX13_comes_1 21 rfl rfl)
theorem dX13_comes_48 : decode cX13_comes 48 = .ok (.iload 4, 2) := dk_21 4 (dk_at dksX13_comes_2 0 rfl rfl)
theorem dX13_comes_50 : decode cX13_comes 50 = .ok (.iconst 3, 1) := dk_6 (dk_at dksX13_comes_2 2 rfl rfl)
theorem dX13_comes_51 : decode cX13_comes 51 = .ok (.invokestatic 149, 3) := dk_184 0 149 (dk_at dksX13_comes_2 3 rfl rfl)
theorem dX13_comes_54 : decode cX13_comes 54 = .ok (.iconst 0, 1) := dk_3 (dk_at dksX13_comes_2 6 rfl rfl)
theorem dX13_comes_55 : decode cX13_comes 55 = .ok (.iastore, 1) := dk_79 (dk_at dksX13_comes_2 7 rfl rfl)
theorem dX13_comes_56 : decode cX13_comes 56 = .ok (.aload_n 0, 1) := dk_42 (dk_at dksX13_comes_2 8 rfl rfl)
theorem dX13_comes_57 : decode cX13_comes 57 = .ok (.getfield 9, 3) := dk_180 0 9 (dk_at dksX13_comes_2 9 rfl rfl)
theorem dX13_comes_60 : decode cX13_comes 60 = .ok (.iconst 1, 1) := dk_4 (dk_at dksX13_comes_2 12 rfl rfl)
theorem dX13_comes_61 : decode cX13_comes 61 = .ok (.dup2, 1) := dk_92 (dk_at dksX13_comes_2 13 rfl rfl)
theorem dX13_comes_62 : decode cX13_comes 62 = .ok (.iaload, 1) := dk_46 (dk_at dksX13_comes_2 14 rfl rfl)
theorem dX13_comes_63 : decode cX13_comes 63 = .ok (.iconst 1, 1) := dk_4 (dk_at dksX13_comes_2 15 rfl rfl)
theorem dX13_comes_64 : decode cX13_comes 64 = .ok (.iadd, 1) := dk_96 (dk_at dksX13_comes_2 16 rfl rfl)
theorem dX13_comes_65 : decode cX13_comes 65 = .ok (.iastore, 1) := dk_79 (dk_at dksX13_comes_2 17 rfl rfl)
theorem dX13_comes_66 : decode cX13_comes 66 = .ok (.iload 4, 2) := dk_21 4 (dk_at dksX13_comes_2 18 rfl rfl)
theorem dX13_comes_68 : decode cX13_comes 68 = .ok (.ireturn, 1) := dk_172 (dk_at dksX13_comes_2 20 rfl rfl)
abbrev cX13_place : ByteArray := prog_16_method_32_code
def yX13_place : MethodName := ⟨RX13, "place", "(II)I"⟩
def dkwX13_place_0 : List UInt8 := [16, 92, 7, 26, 104, 96, 27, 96, 172]
abbrev dktX13_place_0 : List UInt8 := dkwX13_place_0 ++ []
theorem dksX13_place_0 : cX13_place.data.toList.drop 0 = dktX13_place_0 := by decide +kernel
theorem dX13_place_0 : decode cX13_place 0 = .ok (.bipush 92, 2) := dk_16 92 (dk_at dksX13_place_0 0 rfl rfl)
theorem dX13_place_2 : decode cX13_place 2 = .ok (.iconst 4, 1) := dk_7 (dk_at dksX13_place_0 2 rfl rfl)
theorem dX13_place_3 : decode cX13_place 3 = .ok (.iload_n 0, 1) := dk_26 (dk_at dksX13_place_0 3 rfl rfl)
theorem dX13_place_4 : decode cX13_place 4 = .ok (.imul, 1) := dk_104 (dk_at dksX13_place_0 4 rfl rfl)
theorem dX13_place_5 : decode cX13_place 5 = .ok (.iadd, 1) := dk_96 (dk_at dksX13_place_0 5 rfl rfl)
theorem dX13_place_6 : decode cX13_place 6 = .ok (.iload_n 1, 1) := dk_27 (dk_at dksX13_place_0 6 rfl rfl)
theorem dX13_place_7 : decode cX13_place 7 = .ok (.iadd, 1) := dk_96 (dk_at dksX13_place_0 7 rfl rfl)
theorem dX13_place_8 : decode cX13_place 8 = .ok (.ireturn, 1) := dk_172 (dk_at dksX13_place_0 8 rfl rfl)
abbrev cX13_of : ByteArray := prog_16_method_41_code
def yX13_of : MethodName := ⟨RX13, "of", "(II)I"⟩
def dkwX13_of_4 : List UInt8 := [153, 0, 7, 4, 167, 0, 4, 3, 172, 42, 27, 28, 182, 0, 160, 172]
abbrev dktX13_of_4 : List UInt8 := dkwX13_of_4 ++ []
def dkwX13_of_3 : List UInt8 := [42, 27, 182, 0, 169, 172, 42, 27, 182, 0, 166, 172, 42, 27, 182, 0, 163, 172, 42, 27, 182, 0, 182]
abbrev dktX13_of_3 : List UInt8 := dkwX13_of_3 ++ dktX13_of_4
def dkwX13_of_2 : List UInt8 := [170, 0, 0, 0, 0, 62, 0, 0, 0, 4, 0, 0, 0, 7, 0, 0, 0, 30, 0, 0, 0, 36, 0, 0, 0, 42, 0, 0, 0, 48]
abbrev dktX13_of_2 : List UInt8 := dkwX13_of_2 ++ dktX13_of_3
def dkwX13_of_1 : List UInt8 := [172, 28]
abbrev dktX13_of_1 : List UInt8 := dkwX13_of_1 ++ dktX13_of_2
def dkwX13_of_0 : List UInt8 := [42, 27, 182, 0, 179, 153, 0, 13, 28, 3, 16, 7, 184, 0, 84, 154, 0, 10, 42, 18, 74, 182, 0, 80]
abbrev dktX13_of_0 : List UInt8 := dkwX13_of_0 ++ dktX13_of_1
theorem dksX13_of_0 : cX13_of.data.toList.drop 0 = dktX13_of_0 := by decide +kernel
theorem dksX13_of_1 : cX13_of.data.toList.drop 24 = dktX13_of_1 := dk_seg dksX13_of_0 24 rfl rfl
theorem dksX13_of_2 : cX13_of.data.toList.drop 26 = dktX13_of_2 := dk_seg dksX13_of_1 2 rfl rfl
theorem dksX13_of_3 : cX13_of.data.toList.drop 56 = dktX13_of_3 := dk_seg dksX13_of_2 30 rfl rfl
theorem dksX13_of_4 : cX13_of.data.toList.drop 79 = dktX13_of_4 := dk_seg dksX13_of_3 23 rfl rfl
theorem dX13_of_0 : decode cX13_of 0 = .ok (.aload_n 0, 1) := dk_42 (dk_at dksX13_of_0 0 rfl rfl)
theorem dX13_of_1 : decode cX13_of 1 = .ok (.iload_n 1, 1) := dk_27 (dk_at dksX13_of_0 1 rfl rfl)
theorem dX13_of_2 : decode cX13_of 2 = .ok (.invokevirtual 179, 3) := dk_182 0 179 (dk_at dksX13_of_0 2 rfl rfl)
theorem dX13_of_5 : decode cX13_of 5 = .ok (.ifCond .eq 13, 3) := dk_153 0 13 (dk_at dksX13_of_0 5 rfl rfl)
theorem dX13_of_8 : decode cX13_of 8 = .ok (.iload_n 2, 1) := dk_28 (dk_at dksX13_of_0 8 rfl rfl)
theorem dX13_of_9 : decode cX13_of 9 = .ok (.iconst 0, 1) := dk_3 (dk_at dksX13_of_0 9 rfl rfl)
theorem dX13_of_10 : decode cX13_of 10 = .ok (.bipush 7, 2) := dk_16 7 (dk_at dksX13_of_0 10 rfl rfl)
theorem dX13_of_12 : decode cX13_of 12 = .ok (.invokestatic 84, 3) := dk_184 0 84 (dk_at dksX13_of_0 12 rfl rfl)
theorem dX13_of_15 : decode cX13_of 15 = .ok (.ifCond .ne 10, 3) := dk_154 0 10 (dk_at dksX13_of_0 15 rfl rfl)
theorem dX13_of_18 : decode cX13_of 18 = .ok (.aload_n 0, 1) := dk_42 (dk_at dksX13_of_0 18 rfl rfl)
theorem dX13_of_19 : decode cX13_of 19 = .ok (.ldc 74, 2) := dk_18 74 (dk_at dksX13_of_0 19 rfl rfl)
theorem dX13_of_21 : decode cX13_of 21 = .ok (.invokevirtual 80, 3) := dk_182 0 80 (dk_at dksX13_of_0 21 rfl rfl)
theorem dX13_of_24 : decode cX13_of 24 = .ok (.ireturn, 1) := dk_172 (dk_at dksX13_of_1 0 rfl rfl)
theorem dX13_of_25 : decode cX13_of 25 = .ok (.iload_n 2, 1) := dk_28 (dk_at dksX13_of_1 1 rfl rfl)
theorem dX13_of_26 : decode cX13_of 26 = .ok (.tableswitch 62 4 7 #[30, 36, 42, 48], 30) := by decide +kernel
theorem dX13_of_56 : decode cX13_of 56 = .ok (.aload_n 0, 1) := dk_42 (dk_at dksX13_of_3 0 rfl rfl)
theorem dX13_of_57 : decode cX13_of 57 = .ok (.iload_n 1, 1) := dk_27 (dk_at dksX13_of_3 1 rfl rfl)
theorem dX13_of_58 : decode cX13_of 58 = .ok (.invokevirtual 169, 3) := dk_182 0 169 (dk_at dksX13_of_3 2 rfl rfl)
theorem dX13_of_61 : decode cX13_of 61 = .ok (.ireturn, 1) := dk_172 (dk_at dksX13_of_3 5 rfl rfl)
theorem dX13_of_62 : decode cX13_of 62 = .ok (.aload_n 0, 1) := dk_42 (dk_at dksX13_of_3 6 rfl rfl)
theorem dX13_of_63 : decode cX13_of 63 = .ok (.iload_n 1, 1) := dk_27 (dk_at dksX13_of_3 7 rfl rfl)
theorem dX13_of_64 : decode cX13_of 64 = .ok (.invokevirtual 166, 3) := dk_182 0 166 (dk_at dksX13_of_3 8 rfl rfl)
theorem dX13_of_67 : decode cX13_of 67 = .ok (.ireturn, 1) := dk_172 (dk_at dksX13_of_3 11 rfl rfl)
theorem dX13_of_68 : decode cX13_of 68 = .ok (.aload_n 0, 1) := dk_42 (dk_at dksX13_of_3 12 rfl rfl)
theorem dX13_of_69 : decode cX13_of 69 = .ok (.iload_n 1, 1) := dk_27 (dk_at dksX13_of_3 13 rfl rfl)
theorem dX13_of_70 : decode cX13_of 70 = .ok (.invokevirtual 163, 3) := dk_182 0 163 (dk_at dksX13_of_3 14 rfl rfl)
theorem dX13_of_73 : decode cX13_of 73 = .ok (.ireturn, 1) := dk_172 (dk_at dksX13_of_3 17 rfl rfl)
theorem dX13_of_74 : decode cX13_of 74 = .ok (.aload_n 0, 1) := dk_42 (dk_at dksX13_of_3 18 rfl rfl)
theorem dX13_of_75 : decode cX13_of 75 = .ok (.iload_n 1, 1) := dk_27 (dk_at dksX13_of_3 19 rfl rfl)
theorem dX13_of_76 : decode cX13_of 76 = .ok (.invokevirtual 182, 3) := dk_182 0 182 (dk_at dksX13_of_3 20 rfl rfl)
theorem dX13_of_79 : decode cX13_of 79 = .ok (.ifCond .eq 7, 3) := dk_153 0 7 (dk_at dksX13_of_4 0 rfl rfl)
theorem dX13_of_82 : decode cX13_of 82 = .ok (.iconst 1, 1) := dk_4 (dk_at dksX13_of_4 3 rfl rfl)
theorem dX13_of_83 : decode cX13_of 83 = .ok (.goto 4, 3) := dk_167 0 4 (dk_at dksX13_of_4 4 rfl rfl)
theorem dX13_of_86 : decode cX13_of 86 = .ok (.iconst 0, 1) := dk_3 (dk_at dksX13_of_4 7 rfl rfl)
theorem dX13_of_87 : decode cX13_of 87 = .ok (.ireturn, 1) := dk_172 (dk_at dksX13_of_4 8 rfl rfl)
theorem dX13_of_88 : decode cX13_of 88 = .ok (.aload_n 0, 1) := dk_42 (dk_at dksX13_of_4 9 rfl rfl)
theorem dX13_of_89 : decode cX13_of 89 = .ok (.iload_n 1, 1) := dk_27 (dk_at dksX13_of_4 10 rfl rfl)
theorem dX13_of_90 : decode cX13_of 90 = .ok (.iload_n 2, 1) := dk_28 (dk_at dksX13_of_4 11 rfl rfl)
theorem dX13_of_91 : decode cX13_of 91 = .ok (.invokevirtual 160, 3) := dk_182 0 160 (dk_at dksX13_of_4 12 rfl rfl)
theorem dX13_of_94 : decode cX13_of 94 = .ok (.ireturn, 1) := dk_172 (dk_at dksX13_of_4 15 rfl rfl)
abbrev cX13_isStrike : ByteArray := prog_16_method_30_code
def yX13_isStrike : MethodName := ⟨RX13, "isStrike", "(I)Z"⟩
def dkwX13_isStrike_0 : List UInt8 := [27, 3, 42, 180, 0, 9, 4, 46, 4, 100, 184, 0, 84, 172]
abbrev dktX13_isStrike_0 : List UInt8 := dkwX13_isStrike_0 ++ []
theorem dksX13_isStrike_0 : cX13_isStrike.data.toList.drop 0 = dktX13_isStrike_0 := by decide +kernel
theorem dX13_isStrike_0 : decode cX13_isStrike 0 = .ok (.iload_n 1, 1) := dk_27 (dk_at dksX13_isStrike_0 0 rfl rfl)
theorem dX13_isStrike_1 : decode cX13_isStrike 1 = .ok (.iconst 0, 1) := dk_3 (dk_at dksX13_isStrike_0 1 rfl rfl)
theorem dX13_isStrike_2 : decode cX13_isStrike 2 = .ok (.aload_n 0, 1) := dk_42 (dk_at dksX13_isStrike_0 2 rfl rfl)
theorem dX13_isStrike_3 : decode cX13_isStrike 3 = .ok (.getfield 9, 3) := dk_180 0 9 (dk_at dksX13_isStrike_0 3 rfl rfl)
theorem dX13_isStrike_6 : decode cX13_isStrike 6 = .ok (.iconst 1, 1) := dk_4 (dk_at dksX13_isStrike_0 6 rfl rfl)
theorem dX13_isStrike_7 : decode cX13_isStrike 7 = .ok (.iaload, 1) := dk_46 (dk_at dksX13_isStrike_0 7 rfl rfl)
theorem dX13_isStrike_8 : decode cX13_isStrike 8 = .ok (.iconst 1, 1) := dk_4 (dk_at dksX13_isStrike_0 8 rfl rfl)
theorem dX13_isStrike_9 : decode cX13_isStrike 9 = .ok (.isub, 1) := dk_100 (dk_at dksX13_isStrike_0 9 rfl rfl)
theorem dX13_isStrike_10 : decode cX13_isStrike 10 = .ok (.invokestatic 84, 3) := dk_184 0 84 (dk_at dksX13_isStrike_0 10 rfl rfl)
theorem dX13_isStrike_13 : decode cX13_isStrike 13 = .ok (.ireturn, 1) := dk_172 (dk_at dksX13_isStrike_0 13 rfl rfl)
abbrev cX13_takes : ByteArray := prog_16_method_36_code
def yX13_takes : MethodName := ⟨RX13, "takes", "(I)I"⟩
def dkwX13_takes_3 : List UInt8 := [172, 4, 172, 28, 5, 108, 5, 96, 172, 28, 4, 96, 172]
abbrev dktX13_takes_3 : List UInt8 := dkwX13_takes_3 ++ []
def dkwX13_takes_2 : List UInt8 := [28, 5, 108, 4, 96, 172, 28, 5, 96, 172, 28, 7, 96, 172, 28, 7, 96, 42, 27, 5, 182, 0, 160, 96]
abbrev dktX13_takes_2 : List UInt8 := dkwX13_takes_2 ++ dktX13_takes_3
def dkwX13_takes_1 : List UInt8 := [170, 0, 0, 0, 70, 0, 0, 0, 1, 0, 0, 0, 6, 0, 0, 0, 37, 0, 0, 0, 43, 0, 0, 0, 47, 0, 0, 0, 51, 0, 0, 0, 62, 0, 0, 0, 64]
abbrev dktX13_takes_1 : List UInt8 := dkwX13_takes_1 ++ dktX13_takes_2
def dkwX13_takes_0 : List UInt8 := [42, 27, 4, 182, 0, 160, 42, 180, 0, 9, 16, 8, 46, 184, 0, 119, 61, 42, 27, 3, 182, 0, 160]
abbrev dktX13_takes_0 : List UInt8 := dkwX13_takes_0 ++ dktX13_takes_1
theorem dksX13_takes_0 : cX13_takes.data.toList.drop 0 = dktX13_takes_0 := by decide +kernel
theorem dksX13_takes_1 : cX13_takes.data.toList.drop 23 = dktX13_takes_1 := dk_seg dksX13_takes_0 23 rfl rfl
theorem dksX13_takes_2 : cX13_takes.data.toList.drop 60 = dktX13_takes_2 := dk_seg dksX13_takes_1 37 rfl rfl
theorem dksX13_takes_3 : cX13_takes.data.toList.drop 84 = dktX13_takes_3 := dk_seg dksX13_takes_2 24 rfl rfl
theorem dX13_takes_0 : decode cX13_takes 0 = .ok (.aload_n 0, 1) := dk_42 (dk_at dksX13_takes_0 0 rfl rfl)
theorem dX13_takes_1 : decode cX13_takes 1 = .ok (.iload_n 1, 1) := dk_27 (dk_at dksX13_takes_0 1 rfl rfl)
theorem dX13_takes_2 : decode cX13_takes 2 = .ok (.iconst 1, 1) := dk_4 (dk_at dksX13_takes_0 2 rfl rfl)
theorem dX13_takes_3 : decode cX13_takes 3 = .ok (.invokevirtual 160, 3) := dk_182 0 160 (dk_at dksX13_takes_0 3 rfl rfl)
theorem dX13_takes_6 : decode cX13_takes 6 = .ok (.aload_n 0, 1) := dk_42 (dk_at dksX13_takes_0 6 rfl rfl)
theorem dX13_takes_7 : decode cX13_takes 7 = .ok (.getfield 9, 3) := dk_180 0 9 (dk_at dksX13_takes_0 7 rfl rfl)
theorem dX13_takes_10 : decode cX13_takes 10 = .ok (.bipush 8, 2) := dk_16 8 (dk_at dksX13_takes_0 10 rfl rfl)
theorem dX13_takes_12 : decode cX13_takes 12 = .ok (.iaload, 1) := dk_46 (dk_at dksX13_takes_0 12 rfl rfl)
theorem dX13_takes_13 : decode cX13_takes 13 = .ok (.invokestatic 119, 3) := dk_184 0 119 (dk_at dksX13_takes_0 13 rfl rfl)
theorem dX13_takes_16 : decode cX13_takes 16 = .ok (.istore_n 2, 1) := dk_61 (dk_at dksX13_takes_0 16 rfl rfl)
theorem dX13_takes_17 : decode cX13_takes 17 = .ok (.aload_n 0, 1) := dk_42 (dk_at dksX13_takes_0 17 rfl rfl)
theorem dX13_takes_18 : decode cX13_takes 18 = .ok (.iload_n 1, 1) := dk_27 (dk_at dksX13_takes_0 18 rfl rfl)
theorem dX13_takes_19 : decode cX13_takes 19 = .ok (.iconst 0, 1) := dk_3 (dk_at dksX13_takes_0 19 rfl rfl)
theorem dX13_takes_20 : decode cX13_takes 20 = .ok (.invokevirtual 160, 3) := dk_182 0 160 (dk_at dksX13_takes_0 20 rfl rfl)
theorem dX13_takes_23 : decode cX13_takes 23 = .ok (.tableswitch 70 1 6 #[37, 43, 47, 51, 62, 64], 37) := by decide +kernel
theorem dX13_takes_60 : decode cX13_takes 60 = .ok (.iload_n 2, 1) := dk_28 (dk_at dksX13_takes_2 0 rfl rfl)
theorem dX13_takes_61 : decode cX13_takes 61 = .ok (.iconst 2, 1) := dk_5 (dk_at dksX13_takes_2 1 rfl rfl)
theorem dX13_takes_62 : decode cX13_takes 62 = .ok (.idiv, 1) := dk_108 (dk_at dksX13_takes_2 2 rfl rfl)
theorem dX13_takes_63 : decode cX13_takes 63 = .ok (.iconst 1, 1) := dk_4 (dk_at dksX13_takes_2 3 rfl rfl)
theorem dX13_takes_64 : decode cX13_takes 64 = .ok (.iadd, 1) := dk_96 (dk_at dksX13_takes_2 4 rfl rfl)
theorem dX13_takes_65 : decode cX13_takes 65 = .ok (.ireturn, 1) := dk_172 (dk_at dksX13_takes_2 5 rfl rfl)
theorem dX13_takes_66 : decode cX13_takes 66 = .ok (.iload_n 2, 1) := dk_28 (dk_at dksX13_takes_2 6 rfl rfl)
theorem dX13_takes_67 : decode cX13_takes 67 = .ok (.iconst 2, 1) := dk_5 (dk_at dksX13_takes_2 7 rfl rfl)
theorem dX13_takes_68 : decode cX13_takes 68 = .ok (.iadd, 1) := dk_96 (dk_at dksX13_takes_2 8 rfl rfl)
theorem dX13_takes_69 : decode cX13_takes 69 = .ok (.ireturn, 1) := dk_172 (dk_at dksX13_takes_2 9 rfl rfl)
theorem dX13_takes_70 : decode cX13_takes 70 = .ok (.iload_n 2, 1) := dk_28 (dk_at dksX13_takes_2 10 rfl rfl)
theorem dX13_takes_71 : decode cX13_takes 71 = .ok (.iconst 4, 1) := dk_7 (dk_at dksX13_takes_2 11 rfl rfl)
theorem dX13_takes_72 : decode cX13_takes 72 = .ok (.iadd, 1) := dk_96 (dk_at dksX13_takes_2 12 rfl rfl)
theorem dX13_takes_73 : decode cX13_takes 73 = .ok (.ireturn, 1) := dk_172 (dk_at dksX13_takes_2 13 rfl rfl)
theorem dX13_takes_74 : decode cX13_takes 74 = .ok (.iload_n 2, 1) := dk_28 (dk_at dksX13_takes_2 14 rfl rfl)
theorem dX13_takes_75 : decode cX13_takes 75 = .ok (.iconst 4, 1) := dk_7 (dk_at dksX13_takes_2 15 rfl rfl)
theorem dX13_takes_76 : decode cX13_takes 76 = .ok (.iadd, 1) := dk_96 (dk_at dksX13_takes_2 16 rfl rfl)
theorem dX13_takes_77 : decode cX13_takes 77 = .ok (.aload_n 0, 1) := dk_42 (dk_at dksX13_takes_2 17 rfl rfl)
theorem dX13_takes_78 : decode cX13_takes 78 = .ok (.iload_n 1, 1) := dk_27 (dk_at dksX13_takes_2 18 rfl rfl)
theorem dX13_takes_79 : decode cX13_takes 79 = .ok (.iconst 2, 1) := dk_5 (dk_at dksX13_takes_2 19 rfl rfl)
theorem dX13_takes_80 : decode cX13_takes 80 = .ok (.invokevirtual 160, 3) := dk_182 0 160 (dk_at dksX13_takes_2 20 rfl rfl)
theorem dX13_takes_83 : decode cX13_takes 83 = .ok (.iadd, 1) := dk_96 (dk_at dksX13_takes_2 23 rfl rfl)
theorem dX13_takes_84 : decode cX13_takes 84 = .ok (.ireturn, 1) := dk_172 (dk_at dksX13_takes_3 0 rfl rfl)
theorem dX13_takes_85 : decode cX13_takes 85 = .ok (.iconst 1, 1) := dk_4 (dk_at dksX13_takes_3 1 rfl rfl)
theorem dX13_takes_86 : decode cX13_takes 86 = .ok (.ireturn, 1) := dk_172 (dk_at dksX13_takes_3 2 rfl rfl)
theorem dX13_takes_87 : decode cX13_takes 87 = .ok (.iload_n 2, 1) := dk_28 (dk_at dksX13_takes_3 3 rfl rfl)
theorem dX13_takes_88 : decode cX13_takes 88 = .ok (.iconst 2, 1) := dk_5 (dk_at dksX13_takes_3 4 rfl rfl)
theorem dX13_takes_89 : decode cX13_takes 89 = .ok (.idiv, 1) := dk_108 (dk_at dksX13_takes_3 5 rfl rfl)
theorem dX13_takes_90 : decode cX13_takes 90 = .ok (.iconst 2, 1) := dk_5 (dk_at dksX13_takes_3 6 rfl rfl)
theorem dX13_takes_91 : decode cX13_takes 91 = .ok (.iadd, 1) := dk_96 (dk_at dksX13_takes_3 7 rfl rfl)
theorem dX13_takes_92 : decode cX13_takes 92 = .ok (.ireturn, 1) := dk_172 (dk_at dksX13_takes_3 8 rfl rfl)
theorem dX13_takes_93 : decode cX13_takes 93 = .ok (.iload_n 2, 1) := dk_28 (dk_at dksX13_takes_3 9 rfl rfl)
theorem dX13_takes_94 : decode cX13_takes 94 = .ok (.iconst 1, 1) := dk_4 (dk_at dksX13_takes_3 10 rfl rfl)
theorem dX13_takes_95 : decode cX13_takes 95 = .ok (.iadd, 1) := dk_96 (dk_at dksX13_takes_3 11 rfl rfl)
theorem dX13_takes_96 : decode cX13_takes 96 = .ok (.ireturn, 1) := dk_172 (dk_at dksX13_takes_3 12 rfl rfl)
abbrev cX13_strikeIs : ByteArray := prog_16_method_33_code
def yX13_strikeIs : MethodName := ⟨RX13, "strikeIs", "(II)I"⟩
def dkwX13_strikeIs_0 : List UInt8 := [42, 180, 0, 9, 27, 28, 184, 0, 149, 46, 172]
abbrev dktX13_strikeIs_0 : List UInt8 := dkwX13_strikeIs_0 ++ []
theorem dksX13_strikeIs_0 : cX13_strikeIs.data.toList.drop 0 = dktX13_strikeIs_0 := by decide +kernel
theorem dX13_strikeIs_0 : decode cX13_strikeIs 0 = .ok (.aload_n 0, 1) := dk_42 (dk_at dksX13_strikeIs_0 0 rfl rfl)
theorem dX13_strikeIs_1 : decode cX13_strikeIs 1 = .ok (.getfield 9, 3) := dk_180 0 9 (dk_at dksX13_strikeIs_0 1 rfl rfl)
theorem dX13_strikeIs_4 : decode cX13_strikeIs 4 = .ok (.iload_n 1, 1) := dk_27 (dk_at dksX13_strikeIs_0 4 rfl rfl)
theorem dX13_strikeIs_5 : decode cX13_strikeIs 5 = .ok (.iload_n 2, 1) := dk_28 (dk_at dksX13_strikeIs_0 5 rfl rfl)
theorem dX13_strikeIs_6 : decode cX13_strikeIs 6 = .ok (.invokestatic 149, 3) := dk_184 0 149 (dk_at dksX13_strikeIs_0 6 rfl rfl)
theorem dX13_strikeIs_9 : decode cX13_strikeIs 9 = .ok (.iaload, 1) := dk_46 (dk_at dksX13_strikeIs_0 9 rfl rfl)
theorem dX13_strikeIs_10 : decode cX13_strikeIs 10 = .ok (.ireturn, 1) := dk_172 (dk_at dksX13_strikeIs_0 10 rfl rfl)
abbrev cX13_deep : ByteArray := prog_16_method_37_code
def yX13_deep : MethodName := ⟨RX13, "deep", "(I)I"⟩
def dkwX13_deep_2 : List UInt8 := [16, 12, 172, 16, 6, 172, 16, 6, 42, 27, 5, 182, 0, 160, 96, 172, 3, 172, 16, 8, 172]
abbrev dktX13_deep_2 : List UInt8 := dkwX13_deep_2 ++ []
def dkwX13_deep_1 : List UInt8 := [170, 0, 0, 0, 0, 56, 0, 0, 0, 1, 0, 0, 0, 6, 0, 0, 0, 38, 0, 0, 0, 41, 0, 0, 0, 41, 0, 0, 0, 44, 0, 0, 0, 54, 0, 0, 0, 41]
abbrev dktX13_deep_1 : List UInt8 := dkwX13_deep_1 ++ dktX13_deep_2
def dkwX13_deep_0 : List UInt8 := [42, 27, 3, 182, 0, 160]
abbrev dktX13_deep_0 : List UInt8 := dkwX13_deep_0 ++ dktX13_deep_1
theorem dksX13_deep_0 : cX13_deep.data.toList.drop 0 = dktX13_deep_0 := by decide +kernel
theorem dksX13_deep_1 : cX13_deep.data.toList.drop 6 = dktX13_deep_1 := dk_seg dksX13_deep_0 6 rfl rfl
theorem dksX13_deep_2 : cX13_deep.data.toList.drop 44 = dktX13_deep_2 := dk_seg dksX13_deep_1 38 rfl rfl
theorem dX13_deep_0 : decode cX13_deep 0 = .ok (.aload_n 0, 1) := dk_42 (dk_at dksX13_deep_0 0 rfl rfl)
theorem dX13_deep_1 : decode cX13_deep 1 = .ok (.iload_n 1, 1) := dk_27 (dk_at dksX13_deep_0 1 rfl rfl)
theorem dX13_deep_2 : decode cX13_deep 2 = .ok (.iconst 0, 1) := dk_3 (dk_at dksX13_deep_0 2 rfl rfl)
theorem dX13_deep_3 : decode cX13_deep 3 = .ok (.invokevirtual 160, 3) := dk_182 0 160 (dk_at dksX13_deep_0 3 rfl rfl)
theorem dX13_deep_6 : decode cX13_deep 6 = .ok (.tableswitch 56 1 6 #[38, 41, 41, 44, 54, 41], 38) := by decide +kernel
theorem dX13_deep_44 : decode cX13_deep 44 = .ok (.bipush 12, 2) := dk_16 12 (dk_at dksX13_deep_2 0 rfl rfl)
theorem dX13_deep_46 : decode cX13_deep 46 = .ok (.ireturn, 1) := dk_172 (dk_at dksX13_deep_2 2 rfl rfl)
theorem dX13_deep_47 : decode cX13_deep 47 = .ok (.bipush 6, 2) := dk_16 6 (dk_at dksX13_deep_2 3 rfl rfl)
theorem dX13_deep_49 : decode cX13_deep 49 = .ok (.ireturn, 1) := dk_172 (dk_at dksX13_deep_2 5 rfl rfl)
theorem dX13_deep_50 : decode cX13_deep 50 = .ok (.bipush 6, 2) := dk_16 6 (dk_at dksX13_deep_2 6 rfl rfl)
theorem dX13_deep_52 : decode cX13_deep 52 = .ok (.aload_n 0, 1) := dk_42 (dk_at dksX13_deep_2 8 rfl rfl)
theorem dX13_deep_53 : decode cX13_deep 53 = .ok (.iload_n 1, 1) := dk_27 (dk_at dksX13_deep_2 9 rfl rfl)
theorem dX13_deep_54 : decode cX13_deep 54 = .ok (.iconst 2, 1) := dk_5 (dk_at dksX13_deep_2 10 rfl rfl)
theorem dX13_deep_55 : decode cX13_deep 55 = .ok (.invokevirtual 160, 3) := dk_182 0 160 (dk_at dksX13_deep_2 11 rfl rfl)
theorem dX13_deep_58 : decode cX13_deep 58 = .ok (.iadd, 1) := dk_96 (dk_at dksX13_deep_2 14 rfl rfl)
theorem dX13_deep_59 : decode cX13_deep 59 = .ok (.ireturn, 1) := dk_172 (dk_at dksX13_deep_2 15 rfl rfl)
theorem dX13_deep_60 : decode cX13_deep 60 = .ok (.iconst 0, 1) := dk_3 (dk_at dksX13_deep_2 16 rfl rfl)
theorem dX13_deep_61 : decode cX13_deep 61 = .ok (.ireturn, 1) := dk_172 (dk_at dksX13_deep_2 17 rfl rfl)
theorem dX13_deep_62 : decode cX13_deep 62 = .ok (.bipush 8, 2) := dk_16 8 (dk_at dksX13_deep_2 18 rfl rfl)
theorem dX13_deep_64 : decode cX13_deep 64 = .ok (.ireturn, 1) := dk_172 (dk_at dksX13_deep_2 20 rfl rfl)
abbrev cX13_wide : ByteArray := prog_16_method_38_code
def yX13_wide : MethodName := ⟨RX13, "wide", "(I)I"⟩
def dkwX13_wide_1 : List UInt8 := [159, 0, 8, 28, 7, 160, 0, 7, 4, 167, 0, 4, 3, 172]
abbrev dktX13_wide_1 : List UInt8 := dkwX13_wide_1 ++ []
def dkwX13_wide_0 : List UInt8 := [42, 27, 3, 182, 0, 160, 61, 28, 8, 160, 0, 7, 5, 167, 0, 23, 28, 5, 159, 0, 13, 28, 6]
abbrev dktX13_wide_0 : List UInt8 := dkwX13_wide_0 ++ dktX13_wide_1
theorem dksX13_wide_0 : cX13_wide.data.toList.drop 0 = dktX13_wide_0 := by decide +kernel
theorem dksX13_wide_1 : cX13_wide.data.toList.drop 23 = dktX13_wide_1 := dk_seg dksX13_wide_0 23 rfl rfl
theorem dX13_wide_0 : decode cX13_wide 0 = .ok (.aload_n 0, 1) := dk_42 (dk_at dksX13_wide_0 0 rfl rfl)
theorem dX13_wide_1 : decode cX13_wide 1 = .ok (.iload_n 1, 1) := dk_27 (dk_at dksX13_wide_0 1 rfl rfl)
theorem dX13_wide_2 : decode cX13_wide 2 = .ok (.iconst 0, 1) := dk_3 (dk_at dksX13_wide_0 2 rfl rfl)
theorem dX13_wide_3 : decode cX13_wide 3 = .ok (.invokevirtual 160, 3) := dk_182 0 160 (dk_at dksX13_wide_0 3 rfl rfl)
theorem dX13_wide_6 : decode cX13_wide 6 = .ok (.istore_n 2, 1) := dk_61 (dk_at dksX13_wide_0 6 rfl rfl)
theorem dX13_wide_7 : decode cX13_wide 7 = .ok (.iload_n 2, 1) := dk_28 (dk_at dksX13_wide_0 7 rfl rfl)
theorem dX13_wide_8 : decode cX13_wide 8 = .ok (.iconst 5, 1) := dk_8 (dk_at dksX13_wide_0 8 rfl rfl)
theorem dX13_wide_9 : decode cX13_wide 9 = .ok (.if_icmp .ne 7, 3) := dk_160 0 7 (dk_at dksX13_wide_0 9 rfl rfl)
theorem dX13_wide_12 : decode cX13_wide 12 = .ok (.iconst 2, 1) := dk_5 (dk_at dksX13_wide_0 12 rfl rfl)
theorem dX13_wide_13 : decode cX13_wide 13 = .ok (.goto 23, 3) := dk_167 0 23 (dk_at dksX13_wide_0 13 rfl rfl)
theorem dX13_wide_16 : decode cX13_wide 16 = .ok (.iload_n 2, 1) := dk_28 (dk_at dksX13_wide_0 16 rfl rfl)
theorem dX13_wide_17 : decode cX13_wide 17 = .ok (.iconst 2, 1) := dk_5 (dk_at dksX13_wide_0 17 rfl rfl)
theorem dX13_wide_18 : decode cX13_wide 18 = .ok (.if_icmp .eq 13, 3) := dk_159 0 13 (dk_at dksX13_wide_0 18 rfl rfl)
theorem dX13_wide_21 : decode cX13_wide 21 = .ok (.iload_n 2, 1) := dk_28 (dk_at dksX13_wide_0 21 rfl rfl)
theorem dX13_wide_22 : decode cX13_wide 22 = .ok (.iconst 3, 1) := dk_6 (dk_at dksX13_wide_0 22 rfl rfl)
theorem dX13_wide_23 : decode cX13_wide 23 = .ok (.if_icmp .eq 8, 3) := dk_159 0 8 (dk_at dksX13_wide_1 0 rfl rfl)
theorem dX13_wide_26 : decode cX13_wide 26 = .ok (.iload_n 2, 1) := dk_28 (dk_at dksX13_wide_1 3 rfl rfl)
theorem dX13_wide_27 : decode cX13_wide 27 = .ok (.iconst 4, 1) := dk_7 (dk_at dksX13_wide_1 4 rfl rfl)
theorem dX13_wide_28 : decode cX13_wide 28 = .ok (.if_icmp .ne 7, 3) := dk_160 0 7 (dk_at dksX13_wide_1 5 rfl rfl)
theorem dX13_wide_31 : decode cX13_wide 31 = .ok (.iconst 1, 1) := dk_4 (dk_at dksX13_wide_1 8 rfl rfl)
theorem dX13_wide_32 : decode cX13_wide 32 = .ok (.goto 4, 3) := dk_167 0 4 (dk_at dksX13_wide_1 9 rfl rfl)
theorem dX13_wide_35 : decode cX13_wide 35 = .ok (.iconst 0, 1) := dk_3 (dk_at dksX13_wide_1 12 rfl rfl)
theorem dX13_wide_36 : decode cX13_wide 36 = .ok (.ireturn, 1) := dk_172 (dk_at dksX13_wide_1 13 rfl rfl)
abbrev cX13_has : ByteArray := prog_16_method_40_code
def yX13_has : MethodName := ⟨RX13, "has", "(I)Z"⟩
def dkwX13_has_1 : List UInt8 := [182, 0, 176, 61, 42, 180, 0, 19, 42, 180, 0, 9, 184, 0, 75, 28, 172]
abbrev dktX13_has_1 : List UInt8 := dkwX13_has_1 ++ []
def dkwX13_has_0 : List UInt8 := [42, 180, 0, 9, 42, 180, 0, 19, 184, 0, 75, 42, 42, 27, 182, 0, 169, 182, 0, 172, 42, 27]
abbrev dktX13_has_0 : List UInt8 := dkwX13_has_0 ++ dktX13_has_1
theorem dksX13_has_0 : cX13_has.data.toList.drop 0 = dktX13_has_0 := by decide +kernel
theorem dksX13_has_1 : cX13_has.data.toList.drop 22 = dktX13_has_1 := dk_seg dksX13_has_0 22 rfl rfl
theorem dX13_has_0 : decode cX13_has 0 = .ok (.aload_n 0, 1) := dk_42 (dk_at dksX13_has_0 0 rfl rfl)
theorem dX13_has_1 : decode cX13_has 1 = .ok (.getfield 9, 3) := dk_180 0 9 (dk_at dksX13_has_0 1 rfl rfl)
theorem dX13_has_4 : decode cX13_has 4 = .ok (.aload_n 0, 1) := dk_42 (dk_at dksX13_has_0 4 rfl rfl)
theorem dX13_has_5 : decode cX13_has 5 = .ok (.getfield 19, 3) := dk_180 0 19 (dk_at dksX13_has_0 5 rfl rfl)
theorem dX13_has_8 : decode cX13_has 8 = .ok (.invokestatic 75, 3) := dk_184 0 75 (dk_at dksX13_has_0 8 rfl rfl)
theorem dX13_has_11 : decode cX13_has 11 = .ok (.aload_n 0, 1) := dk_42 (dk_at dksX13_has_0 11 rfl rfl)
theorem dX13_has_12 : decode cX13_has 12 = .ok (.aload_n 0, 1) := dk_42 (dk_at dksX13_has_0 12 rfl rfl)
theorem dX13_has_13 : decode cX13_has 13 = .ok (.iload_n 1, 1) := dk_27 (dk_at dksX13_has_0 13 rfl rfl)
theorem dX13_has_14 : decode cX13_has 14 = .ok (.invokevirtual 169, 3) := dk_182 0 169 (dk_at dksX13_has_0 14 rfl rfl)
theorem dX13_has_17 : decode cX13_has 17 = .ok (.invokevirtual 172, 3) := dk_182 0 172 (dk_at dksX13_has_0 17 rfl rfl)
theorem dX13_has_20 : decode cX13_has 20 = .ok (.aload_n 0, 1) := dk_42 (dk_at dksX13_has_0 20 rfl rfl)
theorem dX13_has_21 : decode cX13_has 21 = .ok (.iload_n 1, 1) := dk_27 (dk_at dksX13_has_0 21 rfl rfl)
theorem dX13_has_22 : decode cX13_has 22 = .ok (.invokevirtual 176, 3) := dk_182 0 176 (dk_at dksX13_has_1 0 rfl rfl)
theorem dX13_has_25 : decode cX13_has 25 = .ok (.istore_n 2, 1) := dk_61 (dk_at dksX13_has_1 3 rfl rfl)
theorem dX13_has_26 : decode cX13_has 26 = .ok (.aload_n 0, 1) := dk_42 (dk_at dksX13_has_1 4 rfl rfl)
theorem dX13_has_27 : decode cX13_has 27 = .ok (.getfield 19, 3) := dk_180 0 19 (dk_at dksX13_has_1 5 rfl rfl)
theorem dX13_has_30 : decode cX13_has 30 = .ok (.aload_n 0, 1) := dk_42 (dk_at dksX13_has_1 8 rfl rfl)
theorem dX13_has_31 : decode cX13_has 31 = .ok (.getfield 9, 3) := dk_180 0 9 (dk_at dksX13_has_1 9 rfl rfl)
theorem dX13_has_34 : decode cX13_has 34 = .ok (.invokestatic 75, 3) := dk_184 0 75 (dk_at dksX13_has_1 12 rfl rfl)
theorem dX13_has_37 : decode cX13_has 37 = .ok (.iload_n 2, 1) := dk_28 (dk_at dksX13_has_1 15 rfl rfl)
theorem dX13_has_38 : decode cX13_has 38 = .ok (.ireturn, 1) := dk_172 (dk_at dksX13_has_1 16 rfl rfl)
abbrev cX13_copyRow : ByteArray := prog_16_method_5_code
def yX13_copyRow : MethodName := ⟨RX13, "copyRow", "([I[I)V"⟩
def dkwX13_copyRow_0 : List UInt8 := [3, 61, 28, 16, 124, 162, 0, 15, 43, 28, 42, 28, 46, 79, 132, 2, 1, 167, 255, 241, 177]
abbrev dktX13_copyRow_0 : List UInt8 := dkwX13_copyRow_0 ++ []
theorem dksX13_copyRow_0 : cX13_copyRow.data.toList.drop 0 = dktX13_copyRow_0 := by decide +kernel
theorem dX13_copyRow_0 : decode cX13_copyRow 0 = .ok (.iconst 0, 1) := dk_3 (dk_at dksX13_copyRow_0 0 rfl rfl)
theorem dX13_copyRow_1 : decode cX13_copyRow 1 = .ok (.istore_n 2, 1) := dk_61 (dk_at dksX13_copyRow_0 1 rfl rfl)
theorem dX13_copyRow_2 : decode cX13_copyRow 2 = .ok (.iload_n 2, 1) := dk_28 (dk_at dksX13_copyRow_0 2 rfl rfl)
theorem dX13_copyRow_3 : decode cX13_copyRow 3 = .ok (.bipush 124, 2) := dk_16 124 (dk_at dksX13_copyRow_0 3 rfl rfl)
theorem dX13_copyRow_5 : decode cX13_copyRow 5 = .ok (.if_icmp .ge 15, 3) := dk_162 0 15 (dk_at dksX13_copyRow_0 5 rfl rfl)
theorem dX13_copyRow_8 : decode cX13_copyRow 8 = .ok (.aload_n 1, 1) := dk_43 (dk_at dksX13_copyRow_0 8 rfl rfl)
theorem dX13_copyRow_9 : decode cX13_copyRow 9 = .ok (.iload_n 2, 1) := dk_28 (dk_at dksX13_copyRow_0 9 rfl rfl)
theorem dX13_copyRow_10 : decode cX13_copyRow 10 = .ok (.aload_n 0, 1) := dk_42 (dk_at dksX13_copyRow_0 10 rfl rfl)
theorem dX13_copyRow_11 : decode cX13_copyRow 11 = .ok (.iload_n 2, 1) := dk_28 (dk_at dksX13_copyRow_0 11 rfl rfl)
theorem dX13_copyRow_12 : decode cX13_copyRow 12 = .ok (.iaload, 1) := dk_46 (dk_at dksX13_copyRow_0 12 rfl rfl)
theorem dX13_copyRow_13 : decode cX13_copyRow 13 = .ok (.iastore, 1) := dk_79 (dk_at dksX13_copyRow_0 13 rfl rfl)
theorem dX13_copyRow_14 : decode cX13_copyRow 14 = .ok (.iinc 2 1, 3) := dk_132 2 1 (dk_at dksX13_copyRow_0 14 rfl rfl)
theorem dX13_copyRow_17 : decode cX13_copyRow 17 = .ok (.goto (-15), 3) := dk_167 255 241 (dk_at dksX13_copyRow_0 17 rfl rfl)
theorem dX13_copyRow_20 : decode cX13_copyRow 20 = .ok (.return_, 1) := dk_177 (dk_at dksX13_copyRow_0 20 rfl rfl)
abbrev cX13_ticks : ByteArray := prog_16_method_29_code
def yX13_ticks : MethodName := ⟨RX13, "ticks", "(I)V"⟩
def dkwX13_ticks_0 : List UInt8 := [3, 61, 28, 27, 162, 0, 13, 42, 182, 0, 146, 132, 2, 1, 167, 255, 244, 177]
abbrev dktX13_ticks_0 : List UInt8 := dkwX13_ticks_0 ++ []
theorem dksX13_ticks_0 : cX13_ticks.data.toList.drop 0 = dktX13_ticks_0 := by decide +kernel
theorem dX13_ticks_0 : decode cX13_ticks 0 = .ok (.iconst 0, 1) := dk_3 (dk_at dksX13_ticks_0 0 rfl rfl)
theorem dX13_ticks_1 : decode cX13_ticks 1 = .ok (.istore_n 2, 1) := dk_61 (dk_at dksX13_ticks_0 1 rfl rfl)
theorem dX13_ticks_2 : decode cX13_ticks 2 = .ok (.iload_n 2, 1) := dk_28 (dk_at dksX13_ticks_0 2 rfl rfl)
theorem dX13_ticks_3 : decode cX13_ticks 3 = .ok (.iload_n 1, 1) := dk_27 (dk_at dksX13_ticks_0 3 rfl rfl)
theorem dX13_ticks_4 : decode cX13_ticks 4 = .ok (.if_icmp .ge 13, 3) := dk_162 0 13 (dk_at dksX13_ticks_0 4 rfl rfl)
theorem dX13_ticks_7 : decode cX13_ticks 7 = .ok (.aload_n 0, 1) := dk_42 (dk_at dksX13_ticks_0 7 rfl rfl)
theorem dX13_ticks_8 : decode cX13_ticks 8 = .ok (.invokevirtual 146, 3) := dk_182 0 146 (dk_at dksX13_ticks_0 8 rfl rfl)
theorem dX13_ticks_11 : decode cX13_ticks 11 = .ok (.iinc 2 1, 3) := dk_132 2 1 (dk_at dksX13_ticks_0 11 rfl rfl)
theorem dX13_ticks_14 : decode cX13_ticks 14 = .ok (.goto (-12), 3) := dk_167 255 244 (dk_at dksX13_ticks_0 14 rfl rfl)
theorem dX13_ticks_17 : decode cX13_ticks 17 = .ok (.return_, 1) := dk_177 (dk_at dksX13_ticks_0 17 rfl rfl)
abbrev cX13_tick : ByteArray := prog_16_method_28_code
def yX13_tick : MethodName := ⟨RX13, "tick", "()V"⟩
def dkwX13_tick_4 : List UInt8 := [180, 0, 9, 16, 6, 46, 96, 112, 79, 42, 180, 0, 9, 3, 92, 46, 4, 96, 79, 177]
abbrev dktX13_tick_4 : List UInt8 := dkwX13_tick_4 ++ []
def dkwX13_tick_3 : List UInt8 := [27, 79, 42, 180, 0, 9, 16, 7, 42, 180, 0, 9, 16, 7, 46, 4, 96, 42, 180, 0, 9, 8, 46, 42]
abbrev dktX13_tick_3 : List UInt8 := dkwX13_tick_3 ++ dktX13_tick_4
def dkwX13_tick_2 : List UInt8 := [180, 0, 9, 7, 46, 79, 42, 180, 0, 9, 6, 27, 156, 0, 12, 42, 180, 0, 9, 6, 46, 167, 0, 4]
abbrev dktX13_tick_2 : List UInt8 := dkwX13_tick_2 ++ dktX13_tick_3
def dkwX13_tick_1 : List UInt8 := [180, 0, 9, 7, 27, 156, 0, 16, 42, 180, 0, 9, 7, 46, 4, 96, 7, 112, 167, 0, 9, 42]
abbrev dktX13_tick_1 : List UInt8 := dkwX13_tick_1 ++ dktX13_tick_2
def dkwX13_tick_0 : List UInt8 := [42, 182, 0, 108, 153, 0, 68, 42, 180, 0, 9, 6, 46, 42, 180, 0, 9, 7, 46, 184, 0, 143, 60, 42]
abbrev dktX13_tick_0 : List UInt8 := dkwX13_tick_0 ++ dktX13_tick_1
theorem dksX13_tick_0 : cX13_tick.data.toList.drop 0 = dktX13_tick_0 := by decide +kernel
theorem dksX13_tick_1 : cX13_tick.data.toList.drop 24 = dktX13_tick_1 := dk_seg dksX13_tick_0 24 rfl rfl
theorem dksX13_tick_2 : cX13_tick.data.toList.drop 46 = dktX13_tick_2 := dk_seg dksX13_tick_1 22 rfl rfl
theorem dksX13_tick_3 : cX13_tick.data.toList.drop 70 = dktX13_tick_3 := dk_seg dksX13_tick_2 24 rfl rfl
theorem dksX13_tick_4 : cX13_tick.data.toList.drop 94 = dktX13_tick_4 := dk_seg dksX13_tick_3 24 rfl rfl
theorem dX13_tick_0 : decode cX13_tick 0 = .ok (.aload_n 0, 1) := dk_42 (dk_at dksX13_tick_0 0 rfl rfl)
theorem dX13_tick_1 : decode cX13_tick 1 = .ok (.invokevirtual 108, 3) := dk_182 0 108 (dk_at dksX13_tick_0 1 rfl rfl)
theorem dX13_tick_4 : decode cX13_tick 4 = .ok (.ifCond .eq 68, 3) := dk_153 0 68 (dk_at dksX13_tick_0 4 rfl rfl)
theorem dX13_tick_7 : decode cX13_tick 7 = .ok (.aload_n 0, 1) := dk_42 (dk_at dksX13_tick_0 7 rfl rfl)
theorem dX13_tick_8 : decode cX13_tick 8 = .ok (.getfield 9, 3) := dk_180 0 9 (dk_at dksX13_tick_0 8 rfl rfl)
theorem dX13_tick_11 : decode cX13_tick 11 = .ok (.iconst 3, 1) := dk_6 (dk_at dksX13_tick_0 11 rfl rfl)
theorem dX13_tick_12 : decode cX13_tick 12 = .ok (.iaload, 1) := dk_46 (dk_at dksX13_tick_0 12 rfl rfl)
theorem dX13_tick_13 : decode cX13_tick 13 = .ok (.aload_n 0, 1) := dk_42 (dk_at dksX13_tick_0 13 rfl rfl)
theorem dX13_tick_14 : decode cX13_tick 14 = .ok (.getfield 9, 3) := dk_180 0 9 (dk_at dksX13_tick_0 14 rfl rfl)
theorem dX13_tick_17 : decode cX13_tick 17 = .ok (.iconst 4, 1) := dk_7 (dk_at dksX13_tick_0 17 rfl rfl)
theorem dX13_tick_18 : decode cX13_tick 18 = .ok (.iaload, 1) := dk_46 (dk_at dksX13_tick_0 18 rfl rfl)
theorem dX13_tick_19 : decode cX13_tick 19 = .ok (.invokestatic 143, 3) := dk_184 0 143 (dk_at dksX13_tick_0 19 rfl rfl)
theorem dX13_tick_22 : decode cX13_tick 22 = .ok (.istore_n 1, 1) := dk_60 (dk_at dksX13_tick_0 22 rfl rfl)
theorem dX13_tick_23 : decode cX13_tick 23 = .ok (.aload_n 0, 1) := dk_42 (dk_at dksX13_tick_0 23 rfl rfl)
theorem dX13_tick_24 : decode cX13_tick 24 = .ok (.getfield 9, 3) := dk_180 0 9 (dk_at dksX13_tick_1 0 rfl rfl)
theorem dX13_tick_27 : decode cX13_tick 27 = .ok (.iconst 4, 1) := dk_7 (dk_at dksX13_tick_1 3 rfl rfl)
theorem dX13_tick_28 : decode cX13_tick 28 = .ok (.iload_n 1, 1) := dk_27 (dk_at dksX13_tick_1 4 rfl rfl)
theorem dX13_tick_29 : decode cX13_tick 29 = .ok (.ifCond .ge 16, 3) := dk_156 0 16 (dk_at dksX13_tick_1 5 rfl rfl)
theorem dX13_tick_32 : decode cX13_tick 32 = .ok (.aload_n 0, 1) := dk_42 (dk_at dksX13_tick_1 8 rfl rfl)
theorem dX13_tick_33 : decode cX13_tick 33 = .ok (.getfield 9, 3) := dk_180 0 9 (dk_at dksX13_tick_1 9 rfl rfl)
theorem dX13_tick_36 : decode cX13_tick 36 = .ok (.iconst 4, 1) := dk_7 (dk_at dksX13_tick_1 12 rfl rfl)
theorem dX13_tick_37 : decode cX13_tick 37 = .ok (.iaload, 1) := dk_46 (dk_at dksX13_tick_1 13 rfl rfl)
theorem dX13_tick_38 : decode cX13_tick 38 = .ok (.iconst 1, 1) := dk_4 (dk_at dksX13_tick_1 14 rfl rfl)
theorem dX13_tick_39 : decode cX13_tick 39 = .ok (.iadd, 1) := dk_96 (dk_at dksX13_tick_1 15 rfl rfl)
theorem dX13_tick_40 : decode cX13_tick 40 = .ok (.iconst 4, 1) := dk_7 (dk_at dksX13_tick_1 16 rfl rfl)
theorem dX13_tick_41 : decode cX13_tick 41 = .ok (.irem, 1) := dk_112 (dk_at dksX13_tick_1 17 rfl rfl)
theorem dX13_tick_42 : decode cX13_tick 42 = .ok (.goto 9, 3) := dk_167 0 9 (dk_at dksX13_tick_1 18 rfl rfl)
theorem dX13_tick_45 : decode cX13_tick 45 = .ok (.aload_n 0, 1) := dk_42 (dk_at dksX13_tick_1 21 rfl rfl)
theorem dX13_tick_46 : decode cX13_tick 46 = .ok (.getfield 9, 3) := dk_180 0 9 (dk_at dksX13_tick_2 0 rfl rfl)
theorem dX13_tick_49 : decode cX13_tick 49 = .ok (.iconst 4, 1) := dk_7 (dk_at dksX13_tick_2 3 rfl rfl)
theorem dX13_tick_50 : decode cX13_tick 50 = .ok (.iaload, 1) := dk_46 (dk_at dksX13_tick_2 4 rfl rfl)
theorem dX13_tick_51 : decode cX13_tick 51 = .ok (.iastore, 1) := dk_79 (dk_at dksX13_tick_2 5 rfl rfl)
theorem dX13_tick_52 : decode cX13_tick 52 = .ok (.aload_n 0, 1) := dk_42 (dk_at dksX13_tick_2 6 rfl rfl)
theorem dX13_tick_53 : decode cX13_tick 53 = .ok (.getfield 9, 3) := dk_180 0 9 (dk_at dksX13_tick_2 7 rfl rfl)
theorem dX13_tick_56 : decode cX13_tick 56 = .ok (.iconst 3, 1) := dk_6 (dk_at dksX13_tick_2 10 rfl rfl)
theorem dX13_tick_57 : decode cX13_tick 57 = .ok (.iload_n 1, 1) := dk_27 (dk_at dksX13_tick_2 11 rfl rfl)
theorem dX13_tick_58 : decode cX13_tick 58 = .ok (.ifCond .ge 12, 3) := dk_156 0 12 (dk_at dksX13_tick_2 12 rfl rfl)
theorem dX13_tick_61 : decode cX13_tick 61 = .ok (.aload_n 0, 1) := dk_42 (dk_at dksX13_tick_2 15 rfl rfl)
theorem dX13_tick_62 : decode cX13_tick 62 = .ok (.getfield 9, 3) := dk_180 0 9 (dk_at dksX13_tick_2 16 rfl rfl)
theorem dX13_tick_65 : decode cX13_tick 65 = .ok (.iconst 3, 1) := dk_6 (dk_at dksX13_tick_2 19 rfl rfl)
theorem dX13_tick_66 : decode cX13_tick 66 = .ok (.iaload, 1) := dk_46 (dk_at dksX13_tick_2 20 rfl rfl)
theorem dX13_tick_67 : decode cX13_tick 67 = .ok (.goto 4, 3) := dk_167 0 4 (dk_at dksX13_tick_2 21 rfl rfl)
theorem dX13_tick_70 : decode cX13_tick 70 = .ok (.iload_n 1, 1) := dk_27 (dk_at dksX13_tick_3 0 rfl rfl)
theorem dX13_tick_71 : decode cX13_tick 71 = .ok (.iastore, 1) := dk_79 (dk_at dksX13_tick_3 1 rfl rfl)
theorem dX13_tick_72 : decode cX13_tick 72 = .ok (.aload_n 0, 1) := dk_42 (dk_at dksX13_tick_3 2 rfl rfl)
theorem dX13_tick_73 : decode cX13_tick 73 = .ok (.getfield 9, 3) := dk_180 0 9 (dk_at dksX13_tick_3 3 rfl rfl)
theorem dX13_tick_76 : decode cX13_tick 76 = .ok (.bipush 7, 2) := dk_16 7 (dk_at dksX13_tick_3 6 rfl rfl)
theorem dX13_tick_78 : decode cX13_tick 78 = .ok (.aload_n 0, 1) := dk_42 (dk_at dksX13_tick_3 8 rfl rfl)
theorem dX13_tick_79 : decode cX13_tick 79 = .ok (.getfield 9, 3) := dk_180 0 9 (dk_at dksX13_tick_3 9 rfl rfl)
theorem dX13_tick_82 : decode cX13_tick 82 = .ok (.bipush 7, 2) := dk_16 7 (dk_at dksX13_tick_3 12 rfl rfl)
theorem dX13_tick_84 : decode cX13_tick 84 = .ok (.iaload, 1) := dk_46 (dk_at dksX13_tick_3 14 rfl rfl)
theorem dX13_tick_85 : decode cX13_tick 85 = .ok (.iconst 1, 1) := dk_4 (dk_at dksX13_tick_3 15 rfl rfl)
theorem dX13_tick_86 : decode cX13_tick 86 = .ok (.iadd, 1) := dk_96 (dk_at dksX13_tick_3 16 rfl rfl)
theorem dX13_tick_87 : decode cX13_tick 87 = .ok (.aload_n 0, 1) := dk_42 (dk_at dksX13_tick_3 17 rfl rfl)
theorem dX13_tick_88 : decode cX13_tick 88 = .ok (.getfield 9, 3) := dk_180 0 9 (dk_at dksX13_tick_3 18 rfl rfl)
theorem dX13_tick_91 : decode cX13_tick 91 = .ok (.iconst 5, 1) := dk_8 (dk_at dksX13_tick_3 21 rfl rfl)
theorem dX13_tick_92 : decode cX13_tick 92 = .ok (.iaload, 1) := dk_46 (dk_at dksX13_tick_3 22 rfl rfl)
theorem dX13_tick_93 : decode cX13_tick 93 = .ok (.aload_n 0, 1) := dk_42 (dk_at dksX13_tick_3 23 rfl rfl)
theorem dX13_tick_94 : decode cX13_tick 94 = .ok (.getfield 9, 3) := dk_180 0 9 (dk_at dksX13_tick_4 0 rfl rfl)
theorem dX13_tick_97 : decode cX13_tick 97 = .ok (.bipush 6, 2) := dk_16 6 (dk_at dksX13_tick_4 3 rfl rfl)
theorem dX13_tick_99 : decode cX13_tick 99 = .ok (.iaload, 1) := dk_46 (dk_at dksX13_tick_4 5 rfl rfl)
theorem dX13_tick_100 : decode cX13_tick 100 = .ok (.iadd, 1) := dk_96 (dk_at dksX13_tick_4 6 rfl rfl)
theorem dX13_tick_101 : decode cX13_tick 101 = .ok (.irem, 1) := dk_112 (dk_at dksX13_tick_4 7 rfl rfl)
theorem dX13_tick_102 : decode cX13_tick 102 = .ok (.iastore, 1) := dk_79 (dk_at dksX13_tick_4 8 rfl rfl)
theorem dX13_tick_103 : decode cX13_tick 103 = .ok (.aload_n 0, 1) := dk_42 (dk_at dksX13_tick_4 9 rfl rfl)
theorem dX13_tick_104 : decode cX13_tick 104 = .ok (.getfield 9, 3) := dk_180 0 9 (dk_at dksX13_tick_4 10 rfl rfl)
theorem dX13_tick_107 : decode cX13_tick 107 = .ok (.iconst 0, 1) := dk_3 (dk_at dksX13_tick_4 13 rfl rfl)
theorem dX13_tick_108 : decode cX13_tick 108 = .ok (.dup2, 1) := dk_92 (dk_at dksX13_tick_4 14 rfl rfl)
theorem dX13_tick_109 : decode cX13_tick 109 = .ok (.iaload, 1) := dk_46 (dk_at dksX13_tick_4 15 rfl rfl)
theorem dX13_tick_110 : decode cX13_tick 110 = .ok (.iconst 1, 1) := dk_4 (dk_at dksX13_tick_4 16 rfl rfl)
theorem dX13_tick_111 : decode cX13_tick 111 = .ok (.iadd, 1) := dk_96 (dk_at dksX13_tick_4 17 rfl rfl)
theorem dX13_tick_112 : decode cX13_tick 112 = .ok (.iastore, 1) := dk_79 (dk_at dksX13_tick_4 18 rfl rfl)
theorem dX13_tick_113 : decode cX13_tick 113 = .ok (.return_, 1) := dk_177 (dk_at dksX13_tick_4 19 rfl rfl)
abbrev cX13_beside : ByteArray := prog_16_method_11_code
def yX13_beside : MethodName := ⟨RX13, "beside", "(II)I"⟩
def dkwX13_beside_4 : List UInt8 := [172, 26, 16, 6, 112, 154, 0, 7, 2, 167, 0, 6, 26, 4, 100, 172]
abbrev dktX13_beside_4 : List UInt8 := dkwX13_beside_4 ++ []
def dkwX13_beside_3 : List UInt8 := [167, 0, 6, 26, 4, 96, 172, 26, 16, 6, 96, 16, 36, 162, 0, 10, 26, 16, 6, 96, 167, 0, 4, 2]
abbrev dktX13_beside_3 : List UInt8 := dkwX13_beside_3 ++ dktX13_beside_4
def dkwX13_beside_2 : List UInt8 := [26, 16, 6, 162, 0, 7, 2, 167, 0, 7, 26, 16, 6, 100, 172, 26, 16, 6, 112, 8, 160, 0, 7, 2]
abbrev dktX13_beside_2 : List UInt8 := dkwX13_beside_2 ++ dktX13_beside_3
def dkwX13_beside_1 : List UInt8 := [170, 0, 0, 0, 0, 0, 76, 0, 0, 0, 0, 0, 0, 0, 2, 0, 0, 0, 27, 0, 0, 0, 42, 0, 0, 0, 58]
abbrev dktX13_beside_1 : List UInt8 := dkwX13_beside_1 ++ dktX13_beside_2
def dkwX13_beside_0 : List UInt8 := [27]
abbrev dktX13_beside_0 : List UInt8 := dkwX13_beside_0 ++ dktX13_beside_1
theorem dksX13_beside_0 : cX13_beside.data.toList.drop 0 = dktX13_beside_0 := by decide +kernel
theorem dksX13_beside_1 : cX13_beside.data.toList.drop 1 = dktX13_beside_1 := dk_seg dksX13_beside_0 1 rfl rfl
theorem dksX13_beside_2 : cX13_beside.data.toList.drop 28 = dktX13_beside_2 := dk_seg dksX13_beside_1 27 rfl rfl
theorem dksX13_beside_3 : cX13_beside.data.toList.drop 52 = dktX13_beside_3 := dk_seg dksX13_beside_2 24 rfl rfl
theorem dksX13_beside_4 : cX13_beside.data.toList.drop 76 = dktX13_beside_4 := dk_seg dksX13_beside_3 24 rfl rfl
theorem dX13_beside_0 : decode cX13_beside 0 = .ok (.iload_n 1, 1) := dk_27 (dk_at dksX13_beside_0 0 rfl rfl)
theorem dX13_beside_1 : decode cX13_beside 1 = .ok (.tableswitch 76 0 2 #[27, 42, 58], 27) := by decide +kernel
theorem dX13_beside_28 : decode cX13_beside 28 = .ok (.iload_n 0, 1) := dk_26 (dk_at dksX13_beside_2 0 rfl rfl)
theorem dX13_beside_29 : decode cX13_beside 29 = .ok (.bipush 6, 2) := dk_16 6 (dk_at dksX13_beside_2 1 rfl rfl)
theorem dX13_beside_31 : decode cX13_beside 31 = .ok (.if_icmp .ge 7, 3) := dk_162 0 7 (dk_at dksX13_beside_2 3 rfl rfl)
theorem dX13_beside_34 : decode cX13_beside 34 = .ok (.iconst (-1), 1) := dk_2 (dk_at dksX13_beside_2 6 rfl rfl)
theorem dX13_beside_35 : decode cX13_beside 35 = .ok (.goto 7, 3) := dk_167 0 7 (dk_at dksX13_beside_2 7 rfl rfl)
theorem dX13_beside_38 : decode cX13_beside 38 = .ok (.iload_n 0, 1) := dk_26 (dk_at dksX13_beside_2 10 rfl rfl)
theorem dX13_beside_39 : decode cX13_beside 39 = .ok (.bipush 6, 2) := dk_16 6 (dk_at dksX13_beside_2 11 rfl rfl)
theorem dX13_beside_41 : decode cX13_beside 41 = .ok (.isub, 1) := dk_100 (dk_at dksX13_beside_2 13 rfl rfl)
theorem dX13_beside_42 : decode cX13_beside 42 = .ok (.ireturn, 1) := dk_172 (dk_at dksX13_beside_2 14 rfl rfl)
theorem dX13_beside_43 : decode cX13_beside 43 = .ok (.iload_n 0, 1) := dk_26 (dk_at dksX13_beside_2 15 rfl rfl)
theorem dX13_beside_44 : decode cX13_beside 44 = .ok (.bipush 6, 2) := dk_16 6 (dk_at dksX13_beside_2 16 rfl rfl)
theorem dX13_beside_46 : decode cX13_beside 46 = .ok (.irem, 1) := dk_112 (dk_at dksX13_beside_2 18 rfl rfl)
theorem dX13_beside_47 : decode cX13_beside 47 = .ok (.iconst 5, 1) := dk_8 (dk_at dksX13_beside_2 19 rfl rfl)
theorem dX13_beside_48 : decode cX13_beside 48 = .ok (.if_icmp .ne 7, 3) := dk_160 0 7 (dk_at dksX13_beside_2 20 rfl rfl)
theorem dX13_beside_51 : decode cX13_beside 51 = .ok (.iconst (-1), 1) := dk_2 (dk_at dksX13_beside_2 23 rfl rfl)
theorem dX13_beside_52 : decode cX13_beside 52 = .ok (.goto 6, 3) := dk_167 0 6 (dk_at dksX13_beside_3 0 rfl rfl)
theorem dX13_beside_55 : decode cX13_beside 55 = .ok (.iload_n 0, 1) := dk_26 (dk_at dksX13_beside_3 3 rfl rfl)
theorem dX13_beside_56 : decode cX13_beside 56 = .ok (.iconst 1, 1) := dk_4 (dk_at dksX13_beside_3 4 rfl rfl)
theorem dX13_beside_57 : decode cX13_beside 57 = .ok (.iadd, 1) := dk_96 (dk_at dksX13_beside_3 5 rfl rfl)
theorem dX13_beside_58 : decode cX13_beside 58 = .ok (.ireturn, 1) := dk_172 (dk_at dksX13_beside_3 6 rfl rfl)
theorem dX13_beside_59 : decode cX13_beside 59 = .ok (.iload_n 0, 1) := dk_26 (dk_at dksX13_beside_3 7 rfl rfl)
theorem dX13_beside_60 : decode cX13_beside 60 = .ok (.bipush 6, 2) := dk_16 6 (dk_at dksX13_beside_3 8 rfl rfl)
theorem dX13_beside_62 : decode cX13_beside 62 = .ok (.iadd, 1) := dk_96 (dk_at dksX13_beside_3 10 rfl rfl)
theorem dX13_beside_63 : decode cX13_beside 63 = .ok (.bipush 36, 2) := dk_16 36 (dk_at dksX13_beside_3 11 rfl rfl)
theorem dX13_beside_65 : decode cX13_beside 65 = .ok (.if_icmp .ge 10, 3) := dk_162 0 10 (dk_at dksX13_beside_3 13 rfl rfl)
theorem dX13_beside_68 : decode cX13_beside 68 = .ok (.iload_n 0, 1) := dk_26 (dk_at dksX13_beside_3 16 rfl rfl)
theorem dX13_beside_69 : decode cX13_beside 69 = .ok (.bipush 6, 2) := dk_16 6 (dk_at dksX13_beside_3 17 rfl rfl)
theorem dX13_beside_71 : decode cX13_beside 71 = .ok (.iadd, 1) := dk_96 (dk_at dksX13_beside_3 19 rfl rfl)
theorem dX13_beside_72 : decode cX13_beside 72 = .ok (.goto 4, 3) := dk_167 0 4 (dk_at dksX13_beside_3 20 rfl rfl)
theorem dX13_beside_75 : decode cX13_beside 75 = .ok (.iconst (-1), 1) := dk_2 (dk_at dksX13_beside_3 23 rfl rfl)
theorem dX13_beside_76 : decode cX13_beside 76 = .ok (.ireturn, 1) := dk_172 (dk_at dksX13_beside_4 0 rfl rfl)
theorem dX13_beside_77 : decode cX13_beside 77 = .ok (.iload_n 0, 1) := dk_26 (dk_at dksX13_beside_4 1 rfl rfl)
theorem dX13_beside_78 : decode cX13_beside 78 = .ok (.bipush 6, 2) := dk_16 6 (dk_at dksX13_beside_4 2 rfl rfl)
theorem dX13_beside_80 : decode cX13_beside 80 = .ok (.irem, 1) := dk_112 (dk_at dksX13_beside_4 4 rfl rfl)
theorem dX13_beside_81 : decode cX13_beside 81 = .ok (.ifCond .ne 7, 3) := dk_154 0 7 (dk_at dksX13_beside_4 5 rfl rfl)
theorem dX13_beside_84 : decode cX13_beside 84 = .ok (.iconst (-1), 1) := dk_2 (dk_at dksX13_beside_4 8 rfl rfl)
theorem dX13_beside_85 : decode cX13_beside 85 = .ok (.goto 6, 3) := dk_167 0 6 (dk_at dksX13_beside_4 9 rfl rfl)
theorem dX13_beside_88 : decode cX13_beside 88 = .ok (.iload_n 0, 1) := dk_26 (dk_at dksX13_beside_4 12 rfl rfl)
theorem dX13_beside_89 : decode cX13_beside 89 = .ok (.iconst 1, 1) := dk_4 (dk_at dksX13_beside_4 13 rfl rfl)
theorem dX13_beside_90 : decode cX13_beside 90 = .ok (.isub, 1) := dk_100 (dk_at dksX13_beside_4 14 rfl rfl)
theorem dX13_beside_91 : decode cX13_beside 91 = .ok (.ireturn, 1) := dk_172 (dk_at dksX13_beside_4 15 rfl rfl)
abbrev cX13_reaches : ByteArray := prog_16_method_39_code
def yX13_reaches : MethodName := ⟨RX13, "reaches", "(I)Z"⟩
def dkwX13_reaches_2 : List UInt8 := [167, 0, 4, 3, 172]
abbrev dktX13_reaches_2 : List UInt8 := dkwX13_reaches_2 ++ []
def dkwX13_reaches_1 : List UInt8 := [180, 0, 9, 16, 20, 42, 180, 0, 9, 6, 46, 96, 46, 42, 27, 182, 0, 166, 163, 0, 7, 4]
abbrev dktX13_reaches_1 : List UInt8 := dkwX13_reaches_1 ++ dktX13_reaches_2
def dkwX13_reaches_0 : List UInt8 := [42, 180, 0, 9, 6, 46, 42, 27, 4, 182, 0, 160, 184, 0, 119, 42, 27, 182, 0, 163, 163, 0, 29, 42]
abbrev dktX13_reaches_0 : List UInt8 := dkwX13_reaches_0 ++ dktX13_reaches_1
theorem dksX13_reaches_0 : cX13_reaches.data.toList.drop 0 = dktX13_reaches_0 := by decide +kernel
theorem dksX13_reaches_1 : cX13_reaches.data.toList.drop 24 = dktX13_reaches_1 := dk_seg dksX13_reaches_0 24 rfl rfl
theorem dksX13_reaches_2 : cX13_reaches.data.toList.drop 46 = dktX13_reaches_2 := dk_seg dksX13_reaches_1 22 rfl rfl
theorem dX13_reaches_0 : decode cX13_reaches 0 = .ok (.aload_n 0, 1) := dk_42 (dk_at dksX13_reaches_0 0 rfl rfl)
theorem dX13_reaches_1 : decode cX13_reaches 1 = .ok (.getfield 9, 3) := dk_180 0 9 (dk_at dksX13_reaches_0 1 rfl rfl)
theorem dX13_reaches_4 : decode cX13_reaches 4 = .ok (.iconst 3, 1) := dk_6 (dk_at dksX13_reaches_0 4 rfl rfl)
theorem dX13_reaches_5 : decode cX13_reaches 5 = .ok (.iaload, 1) := dk_46 (dk_at dksX13_reaches_0 5 rfl rfl)
theorem dX13_reaches_6 : decode cX13_reaches 6 = .ok (.aload_n 0, 1) := dk_42 (dk_at dksX13_reaches_0 6 rfl rfl)
theorem dX13_reaches_7 : decode cX13_reaches 7 = .ok (.iload_n 1, 1) := dk_27 (dk_at dksX13_reaches_0 7 rfl rfl)
theorem dX13_reaches_8 : decode cX13_reaches 8 = .ok (.iconst 1, 1) := dk_4 (dk_at dksX13_reaches_0 8 rfl rfl)
theorem dX13_reaches_9 : decode cX13_reaches 9 = .ok (.invokevirtual 160, 3) := dk_182 0 160 (dk_at dksX13_reaches_0 9 rfl rfl)
theorem dX13_reaches_12 : decode cX13_reaches 12 = .ok (.invokestatic 119, 3) := dk_184 0 119 (dk_at dksX13_reaches_0 12 rfl rfl)
theorem dX13_reaches_15 : decode cX13_reaches 15 = .ok (.aload_n 0, 1) := dk_42 (dk_at dksX13_reaches_0 15 rfl rfl)
theorem dX13_reaches_16 : decode cX13_reaches 16 = .ok (.iload_n 1, 1) := dk_27 (dk_at dksX13_reaches_0 16 rfl rfl)
theorem dX13_reaches_17 : decode cX13_reaches 17 = .ok (.invokevirtual 163, 3) := dk_182 0 163 (dk_at dksX13_reaches_0 17 rfl rfl)
theorem dX13_reaches_20 : decode cX13_reaches 20 = .ok (.if_icmp .gt 29, 3) := dk_163 0 29 (dk_at dksX13_reaches_0 20 rfl rfl)
theorem dX13_reaches_23 : decode cX13_reaches 23 = .ok (.aload_n 0, 1) := dk_42 (dk_at dksX13_reaches_0 23 rfl rfl)
theorem dX13_reaches_24 : decode cX13_reaches 24 = .ok (.getfield 9, 3) := dk_180 0 9 (dk_at dksX13_reaches_1 0 rfl rfl)
theorem dX13_reaches_27 : decode cX13_reaches 27 = .ok (.bipush 20, 2) := dk_16 20 (dk_at dksX13_reaches_1 3 rfl rfl)
theorem dX13_reaches_29 : decode cX13_reaches 29 = .ok (.aload_n 0, 1) := dk_42 (dk_at dksX13_reaches_1 5 rfl rfl)
theorem dX13_reaches_30 : decode cX13_reaches 30 = .ok (.getfield 9, 3) := dk_180 0 9 (dk_at dksX13_reaches_1 6 rfl rfl)
theorem dX13_reaches_33 : decode cX13_reaches 33 = .ok (.iconst 3, 1) := dk_6 (dk_at dksX13_reaches_1 9 rfl rfl)
theorem dX13_reaches_34 : decode cX13_reaches 34 = .ok (.iaload, 1) := dk_46 (dk_at dksX13_reaches_1 10 rfl rfl)
theorem dX13_reaches_35 : decode cX13_reaches 35 = .ok (.iadd, 1) := dk_96 (dk_at dksX13_reaches_1 11 rfl rfl)
theorem dX13_reaches_36 : decode cX13_reaches 36 = .ok (.iaload, 1) := dk_46 (dk_at dksX13_reaches_1 12 rfl rfl)
theorem dX13_reaches_37 : decode cX13_reaches 37 = .ok (.aload_n 0, 1) := dk_42 (dk_at dksX13_reaches_1 13 rfl rfl)
theorem dX13_reaches_38 : decode cX13_reaches 38 = .ok (.iload_n 1, 1) := dk_27 (dk_at dksX13_reaches_1 14 rfl rfl)
theorem dX13_reaches_39 : decode cX13_reaches 39 = .ok (.invokevirtual 166, 3) := dk_182 0 166 (dk_at dksX13_reaches_1 15 rfl rfl)
theorem dX13_reaches_42 : decode cX13_reaches 42 = .ok (.if_icmp .gt 7, 3) := dk_163 0 7 (dk_at dksX13_reaches_1 18 rfl rfl)
theorem dX13_reaches_45 : decode cX13_reaches 45 = .ok (.iconst 1, 1) := dk_4 (dk_at dksX13_reaches_1 21 rfl rfl)
theorem dX13_reaches_46 : decode cX13_reaches 46 = .ok (.goto 4, 3) := dk_167 0 4 (dk_at dksX13_reaches_2 0 rfl rfl)
theorem dX13_reaches_49 : decode cX13_reaches 49 = .ok (.iconst 0, 1) := dk_3 (dk_at dksX13_reaches_2 3 rfl rfl)
theorem dX13_reaches_50 : decode cX13_reaches 50 = .ok (.ireturn, 1) := dk_172 (dk_at dksX13_reaches_2 4 rfl rfl)
abbrev cX13_change : ByteArray := prog_16_method_43_code
def yX13_change : MethodName := ⟨RX13, "change", "(III)I"⟩
def dkwX13_change_1 : List UInt8 := [182, 0, 105, 167, 0, 9, 42, 18, 74, 182, 0, 80, 172]
abbrev dktX13_change_1 : List UInt8 := dkwX13_change_1 ++ []
def dkwX13_change_0 : List UInt8 := [42, 27, 182, 0, 179, 153, 0, 24, 28, 29, 184, 0, 185, 153, 0, 16, 42, 27, 28, 184, 0, 149, 29]
abbrev dktX13_change_0 : List UInt8 := dkwX13_change_0 ++ dktX13_change_1
theorem dksX13_change_0 : cX13_change.data.toList.drop 0 = dktX13_change_0 := by decide +kernel
theorem dksX13_change_1 : cX13_change.data.toList.drop 23 = dktX13_change_1 := dk_seg dksX13_change_0 23 rfl rfl
theorem dX13_change_0 : decode cX13_change 0 = .ok (.aload_n 0, 1) := dk_42 (dk_at dksX13_change_0 0 rfl rfl)
theorem dX13_change_1 : decode cX13_change 1 = .ok (.iload_n 1, 1) := dk_27 (dk_at dksX13_change_0 1 rfl rfl)
theorem dX13_change_2 : decode cX13_change 2 = .ok (.invokevirtual 179, 3) := dk_182 0 179 (dk_at dksX13_change_0 2 rfl rfl)
theorem dX13_change_5 : decode cX13_change 5 = .ok (.ifCond .eq 24, 3) := dk_153 0 24 (dk_at dksX13_change_0 5 rfl rfl)
theorem dX13_change_8 : decode cX13_change 8 = .ok (.iload_n 2, 1) := dk_28 (dk_at dksX13_change_0 8 rfl rfl)
theorem dX13_change_9 : decode cX13_change 9 = .ok (.iload_n 3, 1) := dk_29 (dk_at dksX13_change_0 9 rfl rfl)
theorem dX13_change_10 : decode cX13_change 10 = .ok (.invokestatic 185, 3) := dk_184 0 185 (dk_at dksX13_change_0 10 rfl rfl)
theorem dX13_change_13 : decode cX13_change 13 = .ok (.ifCond .eq 16, 3) := dk_153 0 16 (dk_at dksX13_change_0 13 rfl rfl)
theorem dX13_change_16 : decode cX13_change 16 = .ok (.aload_n 0, 1) := dk_42 (dk_at dksX13_change_0 16 rfl rfl)
theorem dX13_change_17 : decode cX13_change 17 = .ok (.iload_n 1, 1) := dk_27 (dk_at dksX13_change_0 17 rfl rfl)
theorem dX13_change_18 : decode cX13_change 18 = .ok (.iload_n 2, 1) := dk_28 (dk_at dksX13_change_0 18 rfl rfl)
theorem dX13_change_19 : decode cX13_change 19 = .ok (.invokestatic 149, 3) := dk_184 0 149 (dk_at dksX13_change_0 19 rfl rfl)
theorem dX13_change_22 : decode cX13_change 22 = .ok (.iload_n 3, 1) := dk_29 (dk_at dksX13_change_0 22 rfl rfl)
theorem dX13_change_23 : decode cX13_change 23 = .ok (.invokevirtual 105, 3) := dk_182 0 105 (dk_at dksX13_change_1 0 rfl rfl)
theorem dX13_change_26 : decode cX13_change 26 = .ok (.goto 9, 3) := dk_167 0 9 (dk_at dksX13_change_1 3 rfl rfl)
theorem dX13_change_29 : decode cX13_change 29 = .ok (.aload_n 0, 1) := dk_42 (dk_at dksX13_change_1 6 rfl rfl)
theorem dX13_change_30 : decode cX13_change 30 = .ok (.ldc 74, 2) := dk_18 74 (dk_at dksX13_change_1 7 rfl rfl)
theorem dX13_change_32 : decode cX13_change 32 = .ok (.invokevirtual 80, 3) := dk_182 0 80 (dk_at dksX13_change_1 9 rfl rfl)
theorem dX13_change_35 : decode cX13_change 35 = .ok (.ireturn, 1) := dk_172 (dk_at dksX13_change_1 12 rfl rfl)
abbrev cX13_mayBe : ByteArray := prog_16_method_42_code
def yX13_mayBe : MethodName := ⟨RX13, "mayBe", "(II)Z"⟩
def dkwX13_mayBe_3 : List UInt8 := [184, 0, 84, 172, 3, 172]
abbrev dktX13_mayBe_3 : List UInt8 := dkwX13_mayBe_3 ++ []
def dkwX13_mayBe_2 : List UInt8 := [27, 184, 0, 152, 172, 27, 184, 0, 93, 172, 27, 3, 16, 9, 184, 0, 84, 172, 27, 3, 17, 3, 231]
abbrev dktX13_mayBe_2 : List UInt8 := dkwX13_mayBe_2 ++ dktX13_mayBe_3
def dkwX13_mayBe_1 : List UInt8 := [170, 0, 0, 0, 0, 0, 58, 0, 0, 0, 0, 0, 0, 0, 3, 0, 0, 0, 31, 0, 0, 0, 36, 0, 0, 0, 41, 0, 0, 0, 49]
abbrev dktX13_mayBe_1 : List UInt8 := dkwX13_mayBe_1 ++ dktX13_mayBe_2
def dkwX13_mayBe_0 : List UInt8 := [26]
abbrev dktX13_mayBe_0 : List UInt8 := dkwX13_mayBe_0 ++ dktX13_mayBe_1
theorem dksX13_mayBe_0 : cX13_mayBe.data.toList.drop 0 = dktX13_mayBe_0 := by decide +kernel
theorem dksX13_mayBe_1 : cX13_mayBe.data.toList.drop 1 = dktX13_mayBe_1 := dk_seg dksX13_mayBe_0 1 rfl rfl
theorem dksX13_mayBe_2 : cX13_mayBe.data.toList.drop 32 = dktX13_mayBe_2 := dk_seg dksX13_mayBe_1 31 rfl rfl
theorem dksX13_mayBe_3 : cX13_mayBe.data.toList.drop 55 = dktX13_mayBe_3 := dk_seg dksX13_mayBe_2 23 rfl rfl
theorem dX13_mayBe_0 : decode cX13_mayBe 0 = .ok (.iload_n 0, 1) := dk_26 (dk_at dksX13_mayBe_0 0 rfl rfl)
theorem dX13_mayBe_1 : decode cX13_mayBe 1 = .ok (.tableswitch 58 0 3 #[31, 36, 41, 49], 31) := by decide +kernel
theorem dX13_mayBe_32 : decode cX13_mayBe 32 = .ok (.iload_n 1, 1) := dk_27 (dk_at dksX13_mayBe_2 0 rfl rfl)
theorem dX13_mayBe_33 : decode cX13_mayBe 33 = .ok (.invokestatic 152, 3) := dk_184 0 152 (dk_at dksX13_mayBe_2 1 rfl rfl)
theorem dX13_mayBe_36 : decode cX13_mayBe 36 = .ok (.ireturn, 1) := dk_172 (dk_at dksX13_mayBe_2 4 rfl rfl)
theorem dX13_mayBe_37 : decode cX13_mayBe 37 = .ok (.iload_n 1, 1) := dk_27 (dk_at dksX13_mayBe_2 5 rfl rfl)
theorem dX13_mayBe_38 : decode cX13_mayBe 38 = .ok (.invokestatic 93, 3) := dk_184 0 93 (dk_at dksX13_mayBe_2 6 rfl rfl)
theorem dX13_mayBe_41 : decode cX13_mayBe 41 = .ok (.ireturn, 1) := dk_172 (dk_at dksX13_mayBe_2 9 rfl rfl)
theorem dX13_mayBe_42 : decode cX13_mayBe 42 = .ok (.iload_n 1, 1) := dk_27 (dk_at dksX13_mayBe_2 10 rfl rfl)
theorem dX13_mayBe_43 : decode cX13_mayBe 43 = .ok (.iconst 0, 1) := dk_3 (dk_at dksX13_mayBe_2 11 rfl rfl)
theorem dX13_mayBe_44 : decode cX13_mayBe 44 = .ok (.bipush 9, 2) := dk_16 9 (dk_at dksX13_mayBe_2 12 rfl rfl)
theorem dX13_mayBe_46 : decode cX13_mayBe 46 = .ok (.invokestatic 84, 3) := dk_184 0 84 (dk_at dksX13_mayBe_2 14 rfl rfl)
theorem dX13_mayBe_49 : decode cX13_mayBe 49 = .ok (.ireturn, 1) := dk_172 (dk_at dksX13_mayBe_2 17 rfl rfl)
theorem dX13_mayBe_50 : decode cX13_mayBe 50 = .ok (.iload_n 1, 1) := dk_27 (dk_at dksX13_mayBe_2 18 rfl rfl)
theorem dX13_mayBe_51 : decode cX13_mayBe 51 = .ok (.iconst 0, 1) := dk_3 (dk_at dksX13_mayBe_2 19 rfl rfl)
theorem dX13_mayBe_52 : decode cX13_mayBe 52 = .ok (.sipush 999, 3) := dk_17 3 231 (dk_at dksX13_mayBe_2 20 rfl rfl)
theorem dX13_mayBe_55 : decode cX13_mayBe 55 = .ok (.invokestatic 84, 3) := dk_184 0 84 (dk_at dksX13_mayBe_3 0 rfl rfl)
theorem dX13_mayBe_58 : decode cX13_mayBe 58 = .ok (.ireturn, 1) := dk_172 (dk_at dksX13_mayBe_3 3 rfl rfl)
theorem dX13_mayBe_59 : decode cX13_mayBe 59 = .ok (.iconst 0, 1) := dk_3 (dk_at dksX13_mayBe_3 4 rfl rfl)
theorem dX13_mayBe_60 : decode cX13_mayBe 60 = .ok (.ireturn, 1) := dk_172 (dk_at dksX13_mayBe_3 5 rfl rfl)
abbrev cX13_strikes : ByteArray := prog_16_method_45_code
def yX13_strikes : MethodName := ⟨RX13, "strikes", "(I)I"⟩
def dkwX13_strikes_1 : List UInt8 := [182, 0, 169, 96, 18, 191, 164, 0, 12, 42, 18, 192, 182, 0, 80, 167, 0, 8, 42, 27, 182, 0, 193, 172]
abbrev dktX13_strikes_1 : List UInt8 := dkwX13_strikes_1 ++ []
def dkwX13_strikes_0 : List UInt8 := [42, 27, 182, 0, 179, 154, 0, 10, 42, 18, 74, 182, 0, 80, 172, 42, 180, 0, 9, 3, 46, 42, 27]
abbrev dktX13_strikes_0 : List UInt8 := dkwX13_strikes_0 ++ dktX13_strikes_1
theorem dksX13_strikes_0 : cX13_strikes.data.toList.drop 0 = dktX13_strikes_0 := by decide +kernel
theorem dksX13_strikes_1 : cX13_strikes.data.toList.drop 23 = dktX13_strikes_1 := dk_seg dksX13_strikes_0 23 rfl rfl
theorem dX13_strikes_0 : decode cX13_strikes 0 = .ok (.aload_n 0, 1) := dk_42 (dk_at dksX13_strikes_0 0 rfl rfl)
theorem dX13_strikes_1 : decode cX13_strikes 1 = .ok (.iload_n 1, 1) := dk_27 (dk_at dksX13_strikes_0 1 rfl rfl)
theorem dX13_strikes_2 : decode cX13_strikes 2 = .ok (.invokevirtual 179, 3) := dk_182 0 179 (dk_at dksX13_strikes_0 2 rfl rfl)
theorem dX13_strikes_5 : decode cX13_strikes 5 = .ok (.ifCond .ne 10, 3) := dk_154 0 10 (dk_at dksX13_strikes_0 5 rfl rfl)
theorem dX13_strikes_8 : decode cX13_strikes 8 = .ok (.aload_n 0, 1) := dk_42 (dk_at dksX13_strikes_0 8 rfl rfl)
theorem dX13_strikes_9 : decode cX13_strikes 9 = .ok (.ldc 74, 2) := dk_18 74 (dk_at dksX13_strikes_0 9 rfl rfl)
theorem dX13_strikes_11 : decode cX13_strikes 11 = .ok (.invokevirtual 80, 3) := dk_182 0 80 (dk_at dksX13_strikes_0 11 rfl rfl)
theorem dX13_strikes_14 : decode cX13_strikes 14 = .ok (.ireturn, 1) := dk_172 (dk_at dksX13_strikes_0 14 rfl rfl)
theorem dX13_strikes_15 : decode cX13_strikes 15 = .ok (.aload_n 0, 1) := dk_42 (dk_at dksX13_strikes_0 15 rfl rfl)
theorem dX13_strikes_16 : decode cX13_strikes 16 = .ok (.getfield 9, 3) := dk_180 0 9 (dk_at dksX13_strikes_0 16 rfl rfl)
theorem dX13_strikes_19 : decode cX13_strikes 19 = .ok (.iconst 0, 1) := dk_3 (dk_at dksX13_strikes_0 19 rfl rfl)
theorem dX13_strikes_20 : decode cX13_strikes 20 = .ok (.iaload, 1) := dk_46 (dk_at dksX13_strikes_0 20 rfl rfl)
theorem dX13_strikes_21 : decode cX13_strikes 21 = .ok (.aload_n 0, 1) := dk_42 (dk_at dksX13_strikes_0 21 rfl rfl)
theorem dX13_strikes_22 : decode cX13_strikes 22 = .ok (.iload_n 1, 1) := dk_27 (dk_at dksX13_strikes_0 22 rfl rfl)
theorem dX13_strikes_23 : decode cX13_strikes 23 = .ok (.invokevirtual 169, 3) := dk_182 0 169 (dk_at dksX13_strikes_1 0 rfl rfl)
theorem dX13_strikes_26 : decode cX13_strikes 26 = .ok (.iadd, 1) := dk_96 (dk_at dksX13_strikes_1 3 rfl rfl)
theorem dX13_strikes_27 : decode cX13_strikes 27 = .ok (.ldc 191, 2) := dk_18 191 (dk_at dksX13_strikes_1 4 rfl rfl)
theorem dX13_strikes_29 : decode cX13_strikes 29 = .ok (.if_icmp .le 12, 3) := dk_164 0 12 (dk_at dksX13_strikes_1 6 rfl rfl)
theorem dX13_strikes_32 : decode cX13_strikes 32 = .ok (.aload_n 0, 1) := dk_42 (dk_at dksX13_strikes_1 9 rfl rfl)
theorem dX13_strikes_33 : decode cX13_strikes 33 = .ok (.ldc 192, 2) := dk_18 192 (dk_at dksX13_strikes_1 10 rfl rfl)
theorem dX13_strikes_35 : decode cX13_strikes 35 = .ok (.invokevirtual 80, 3) := dk_182 0 80 (dk_at dksX13_strikes_1 12 rfl rfl)
theorem dX13_strikes_38 : decode cX13_strikes 38 = .ok (.goto 8, 3) := dk_167 0 8 (dk_at dksX13_strikes_1 15 rfl rfl)
theorem dX13_strikes_41 : decode cX13_strikes 41 = .ok (.aload_n 0, 1) := dk_42 (dk_at dksX13_strikes_1 18 rfl rfl)
theorem dX13_strikes_42 : decode cX13_strikes 42 = .ok (.iload_n 1, 1) := dk_27 (dk_at dksX13_strikes_1 19 rfl rfl)
theorem dX13_strikes_43 : decode cX13_strikes 43 = .ok (.invokevirtual 193, 3) := dk_182 0 193 (dk_at dksX13_strikes_1 20 rfl rfl)
theorem dX13_strikes_46 : decode cX13_strikes 46 = .ok (.ireturn, 1) := dk_172 (dk_at dksX13_strikes_1 23 rfl rfl)
abbrev cX13_strikesNow : ByteArray := prog_16_method_44_code
def yX13_strikesNow : MethodName := ⟨RX13, "strikesNow", "(I)I"⟩
def dkwX13_strikesNow_2 : List UInt8 := [16, 35, 42, 180, 0, 9, 6, 46, 100, 79, 42, 180, 0, 9, 16, 7, 3, 79, 4, 172]
abbrev dktX13_strikesNow_2 : List UInt8 := dkwX13_strikesNow_2 ++ []
def dkwX13_strikesNow_1 : List UInt8 := [6, 184, 0, 149, 17, 3, 231, 42, 27, 6, 182, 0, 160, 4, 96, 184, 0, 188, 79, 42, 180, 0, 9, 6]
abbrev dktX13_strikesNow_1 : List UInt8 := dkwX13_strikesNow_1 ++ dktX13_strikesNow_2
def dkwX13_strikesNow_0 : List UInt8 := [42, 42, 27, 182, 0, 169, 182, 0, 172, 42, 27, 182, 0, 176, 154, 0, 5, 3, 172, 42, 180, 0, 9, 27]
abbrev dktX13_strikesNow_0 : List UInt8 := dkwX13_strikesNow_0 ++ dktX13_strikesNow_1
theorem dksX13_strikesNow_0 : cX13_strikesNow.data.toList.drop 0 = dktX13_strikesNow_0 := by decide +kernel
theorem dksX13_strikesNow_1 : cX13_strikesNow.data.toList.drop 24 = dktX13_strikesNow_1 := dk_seg dksX13_strikesNow_0 24 rfl rfl
theorem dksX13_strikesNow_2 : cX13_strikesNow.data.toList.drop 48 = dktX13_strikesNow_2 := dk_seg dksX13_strikesNow_1 24 rfl rfl
theorem dX13_strikesNow_0 : decode cX13_strikesNow 0 = .ok (.aload_n 0, 1) := dk_42 (dk_at dksX13_strikesNow_0 0 rfl rfl)
theorem dX13_strikesNow_1 : decode cX13_strikesNow 1 = .ok (.aload_n 0, 1) := dk_42 (dk_at dksX13_strikesNow_0 1 rfl rfl)
theorem dX13_strikesNow_2 : decode cX13_strikesNow 2 = .ok (.iload_n 1, 1) := dk_27 (dk_at dksX13_strikesNow_0 2 rfl rfl)
theorem dX13_strikesNow_3 : decode cX13_strikesNow 3 = .ok (.invokevirtual 169, 3) := dk_182 0 169 (dk_at dksX13_strikesNow_0 3 rfl rfl)
theorem dX13_strikesNow_6 : decode cX13_strikesNow 6 = .ok (.invokevirtual 172, 3) := dk_182 0 172 (dk_at dksX13_strikesNow_0 6 rfl rfl)
theorem dX13_strikesNow_9 : decode cX13_strikesNow 9 = .ok (.aload_n 0, 1) := dk_42 (dk_at dksX13_strikesNow_0 9 rfl rfl)
theorem dX13_strikesNow_10 : decode cX13_strikesNow 10 = .ok (.iload_n 1, 1) := dk_27 (dk_at dksX13_strikesNow_0 10 rfl rfl)
theorem dX13_strikesNow_11 : decode cX13_strikesNow 11 = .ok (.invokevirtual 176, 3) := dk_182 0 176 (dk_at dksX13_strikesNow_0 11 rfl rfl)
theorem dX13_strikesNow_14 : decode cX13_strikesNow 14 = .ok (.ifCond .ne 5, 3) := dk_154 0 5 (dk_at dksX13_strikesNow_0 14 rfl rfl)
theorem dX13_strikesNow_17 : decode cX13_strikesNow 17 = .ok (.iconst 0, 1) := dk_3 (dk_at dksX13_strikesNow_0 17 rfl rfl)
theorem dX13_strikesNow_18 : decode cX13_strikesNow 18 = .ok (.ireturn, 1) := dk_172 (dk_at dksX13_strikesNow_0 18 rfl rfl)
theorem dX13_strikesNow_19 : decode cX13_strikesNow 19 = .ok (.aload_n 0, 1) := dk_42 (dk_at dksX13_strikesNow_0 19 rfl rfl)
theorem dX13_strikesNow_20 : decode cX13_strikesNow 20 = .ok (.getfield 9, 3) := dk_180 0 9 (dk_at dksX13_strikesNow_0 20 rfl rfl)
theorem dX13_strikesNow_23 : decode cX13_strikesNow 23 = .ok (.iload_n 1, 1) := dk_27 (dk_at dksX13_strikesNow_0 23 rfl rfl)
theorem dX13_strikesNow_24 : decode cX13_strikesNow 24 = .ok (.iconst 3, 1) := dk_6 (dk_at dksX13_strikesNow_1 0 rfl rfl)
theorem dX13_strikesNow_25 : decode cX13_strikesNow 25 = .ok (.invokestatic 149, 3) := dk_184 0 149 (dk_at dksX13_strikesNow_1 1 rfl rfl)
theorem dX13_strikesNow_28 : decode cX13_strikesNow 28 = .ok (.sipush 999, 3) := dk_17 3 231 (dk_at dksX13_strikesNow_1 4 rfl rfl)
theorem dX13_strikesNow_31 : decode cX13_strikesNow 31 = .ok (.aload_n 0, 1) := dk_42 (dk_at dksX13_strikesNow_1 7 rfl rfl)
theorem dX13_strikesNow_32 : decode cX13_strikesNow 32 = .ok (.iload_n 1, 1) := dk_27 (dk_at dksX13_strikesNow_1 8 rfl rfl)
theorem dX13_strikesNow_33 : decode cX13_strikesNow 33 = .ok (.iconst 3, 1) := dk_6 (dk_at dksX13_strikesNow_1 9 rfl rfl)
theorem dX13_strikesNow_34 : decode cX13_strikesNow 34 = .ok (.invokevirtual 160, 3) := dk_182 0 160 (dk_at dksX13_strikesNow_1 10 rfl rfl)
theorem dX13_strikesNow_37 : decode cX13_strikesNow 37 = .ok (.iconst 1, 1) := dk_4 (dk_at dksX13_strikesNow_1 13 rfl rfl)
theorem dX13_strikesNow_38 : decode cX13_strikesNow 38 = .ok (.iadd, 1) := dk_96 (dk_at dksX13_strikesNow_1 14 rfl rfl)
theorem dX13_strikesNow_39 : decode cX13_strikesNow 39 = .ok (.invokestatic 188, 3) := dk_184 0 188 (dk_at dksX13_strikesNow_1 15 rfl rfl)
theorem dX13_strikesNow_42 : decode cX13_strikesNow 42 = .ok (.iastore, 1) := dk_79 (dk_at dksX13_strikesNow_1 18 rfl rfl)
theorem dX13_strikesNow_43 : decode cX13_strikesNow 43 = .ok (.aload_n 0, 1) := dk_42 (dk_at dksX13_strikesNow_1 19 rfl rfl)
theorem dX13_strikesNow_44 : decode cX13_strikesNow 44 = .ok (.getfield 9, 3) := dk_180 0 9 (dk_at dksX13_strikesNow_1 20 rfl rfl)
theorem dX13_strikesNow_47 : decode cX13_strikesNow 47 = .ok (.iconst 3, 1) := dk_6 (dk_at dksX13_strikesNow_1 23 rfl rfl)
theorem dX13_strikesNow_48 : decode cX13_strikesNow 48 = .ok (.bipush 35, 2) := dk_16 35 (dk_at dksX13_strikesNow_2 0 rfl rfl)
theorem dX13_strikesNow_50 : decode cX13_strikesNow 50 = .ok (.aload_n 0, 1) := dk_42 (dk_at dksX13_strikesNow_2 2 rfl rfl)
theorem dX13_strikesNow_51 : decode cX13_strikesNow 51 = .ok (.getfield 9, 3) := dk_180 0 9 (dk_at dksX13_strikesNow_2 3 rfl rfl)
theorem dX13_strikesNow_54 : decode cX13_strikesNow 54 = .ok (.iconst 3, 1) := dk_6 (dk_at dksX13_strikesNow_2 6 rfl rfl)
theorem dX13_strikesNow_55 : decode cX13_strikesNow 55 = .ok (.iaload, 1) := dk_46 (dk_at dksX13_strikesNow_2 7 rfl rfl)
theorem dX13_strikesNow_56 : decode cX13_strikesNow 56 = .ok (.isub, 1) := dk_100 (dk_at dksX13_strikesNow_2 8 rfl rfl)
theorem dX13_strikesNow_57 : decode cX13_strikesNow 57 = .ok (.iastore, 1) := dk_79 (dk_at dksX13_strikesNow_2 9 rfl rfl)
theorem dX13_strikesNow_58 : decode cX13_strikesNow 58 = .ok (.aload_n 0, 1) := dk_42 (dk_at dksX13_strikesNow_2 10 rfl rfl)
theorem dX13_strikesNow_59 : decode cX13_strikesNow 59 = .ok (.getfield 9, 3) := dk_180 0 9 (dk_at dksX13_strikesNow_2 11 rfl rfl)
theorem dX13_strikesNow_62 : decode cX13_strikesNow 62 = .ok (.bipush 7, 2) := dk_16 7 (dk_at dksX13_strikesNow_2 14 rfl rfl)
theorem dX13_strikesNow_64 : decode cX13_strikesNow 64 = .ok (.iconst 0, 1) := dk_3 (dk_at dksX13_strikesNow_2 16 rfl rfl)
theorem dX13_strikesNow_65 : decode cX13_strikesNow 65 = .ok (.iastore, 1) := dk_79 (dk_at dksX13_strikesNow_2 17 rfl rfl)
theorem dX13_strikesNow_66 : decode cX13_strikesNow 66 = .ok (.iconst 1, 1) := dk_4 (dk_at dksX13_strikesNow_2 18 rfl rfl)
theorem dX13_strikesNow_67 : decode cX13_strikesNow 67 = .ok (.ireturn, 1) := dk_172 (dk_at dksX13_strikesNow_2 19 rfl rfl)
abbrev cX13_go : ByteArray := prog_16_method_46_code
def yX13_go : MethodName := ⟨RX13, "go", "(I)I"⟩
def dkwX13_go_2 : List UInt8 := [172]
abbrev dktX13_go_2 : List UInt8 := dkwX13_go_2 ++ []
def dkwX13_go_1 : List UInt8 := [96, 18, 191, 164, 0, 10, 42, 18, 192, 182, 0, 80, 172, 42, 27, 182, 0, 172, 42, 180, 0, 9, 6, 46]
abbrev dktX13_go_1 : List UInt8 := dkwX13_go_1 ++ dktX13_go_2
def dkwX13_go_0 : List UInt8 := [27, 4, 16, 60, 184, 0, 84, 154, 0, 10, 42, 18, 74, 182, 0, 80, 172, 42, 180, 0, 9, 3, 46, 27]
abbrev dktX13_go_0 : List UInt8 := dkwX13_go_0 ++ dktX13_go_1
theorem dksX13_go_0 : cX13_go.data.toList.drop 0 = dktX13_go_0 := by decide +kernel
theorem dksX13_go_1 : cX13_go.data.toList.drop 24 = dktX13_go_1 := dk_seg dksX13_go_0 24 rfl rfl
theorem dksX13_go_2 : cX13_go.data.toList.drop 48 = dktX13_go_2 := dk_seg dksX13_go_1 24 rfl rfl
theorem dX13_go_0 : decode cX13_go 0 = .ok (.iload_n 1, 1) := dk_27 (dk_at dksX13_go_0 0 rfl rfl)
theorem dX13_go_1 : decode cX13_go 1 = .ok (.iconst 1, 1) := dk_4 (dk_at dksX13_go_0 1 rfl rfl)
theorem dX13_go_2 : decode cX13_go 2 = .ok (.bipush 60, 2) := dk_16 60 (dk_at dksX13_go_0 2 rfl rfl)
theorem dX13_go_4 : decode cX13_go 4 = .ok (.invokestatic 84, 3) := dk_184 0 84 (dk_at dksX13_go_0 4 rfl rfl)
theorem dX13_go_7 : decode cX13_go 7 = .ok (.ifCond .ne 10, 3) := dk_154 0 10 (dk_at dksX13_go_0 7 rfl rfl)
theorem dX13_go_10 : decode cX13_go 10 = .ok (.aload_n 0, 1) := dk_42 (dk_at dksX13_go_0 10 rfl rfl)
theorem dX13_go_11 : decode cX13_go 11 = .ok (.ldc 74, 2) := dk_18 74 (dk_at dksX13_go_0 11 rfl rfl)
theorem dX13_go_13 : decode cX13_go 13 = .ok (.invokevirtual 80, 3) := dk_182 0 80 (dk_at dksX13_go_0 13 rfl rfl)
theorem dX13_go_16 : decode cX13_go 16 = .ok (.ireturn, 1) := dk_172 (dk_at dksX13_go_0 16 rfl rfl)
theorem dX13_go_17 : decode cX13_go 17 = .ok (.aload_n 0, 1) := dk_42 (dk_at dksX13_go_0 17 rfl rfl)
theorem dX13_go_18 : decode cX13_go 18 = .ok (.getfield 9, 3) := dk_180 0 9 (dk_at dksX13_go_0 18 rfl rfl)
theorem dX13_go_21 : decode cX13_go 21 = .ok (.iconst 0, 1) := dk_3 (dk_at dksX13_go_0 21 rfl rfl)
theorem dX13_go_22 : decode cX13_go 22 = .ok (.iaload, 1) := dk_46 (dk_at dksX13_go_0 22 rfl rfl)
theorem dX13_go_23 : decode cX13_go 23 = .ok (.iload_n 1, 1) := dk_27 (dk_at dksX13_go_0 23 rfl rfl)
theorem dX13_go_24 : decode cX13_go 24 = .ok (.iadd, 1) := dk_96 (dk_at dksX13_go_1 0 rfl rfl)
theorem dX13_go_25 : decode cX13_go 25 = .ok (.ldc 191, 2) := dk_18 191 (dk_at dksX13_go_1 1 rfl rfl)
theorem dX13_go_27 : decode cX13_go 27 = .ok (.if_icmp .le 10, 3) := dk_164 0 10 (dk_at dksX13_go_1 3 rfl rfl)
theorem dX13_go_30 : decode cX13_go 30 = .ok (.aload_n 0, 1) := dk_42 (dk_at dksX13_go_1 6 rfl rfl)
theorem dX13_go_31 : decode cX13_go 31 = .ok (.ldc 192, 2) := dk_18 192 (dk_at dksX13_go_1 7 rfl rfl)
theorem dX13_go_33 : decode cX13_go 33 = .ok (.invokevirtual 80, 3) := dk_182 0 80 (dk_at dksX13_go_1 9 rfl rfl)
theorem dX13_go_36 : decode cX13_go 36 = .ok (.ireturn, 1) := dk_172 (dk_at dksX13_go_1 12 rfl rfl)
theorem dX13_go_37 : decode cX13_go 37 = .ok (.aload_n 0, 1) := dk_42 (dk_at dksX13_go_1 13 rfl rfl)
theorem dX13_go_38 : decode cX13_go 38 = .ok (.iload_n 1, 1) := dk_27 (dk_at dksX13_go_1 14 rfl rfl)
theorem dX13_go_39 : decode cX13_go 39 = .ok (.invokevirtual 172, 3) := dk_182 0 172 (dk_at dksX13_go_1 15 rfl rfl)
theorem dX13_go_42 : decode cX13_go 42 = .ok (.aload_n 0, 1) := dk_42 (dk_at dksX13_go_1 18 rfl rfl)
theorem dX13_go_43 : decode cX13_go 43 = .ok (.getfield 9, 3) := dk_180 0 9 (dk_at dksX13_go_1 19 rfl rfl)
theorem dX13_go_46 : decode cX13_go 46 = .ok (.iconst 3, 1) := dk_6 (dk_at dksX13_go_1 22 rfl rfl)
theorem dX13_go_47 : decode cX13_go 47 = .ok (.iaload, 1) := dk_46 (dk_at dksX13_go_1 23 rfl rfl)
theorem dX13_go_48 : decode cX13_go 48 = .ok (.ireturn, 1) := dk_172 (dk_at dksX13_go_2 0 rfl rfl)
abbrev cX13_now : ByteArray := prog_16_method_51_code
def yX13_now : MethodName := ⟨RX13, "now", "(I)I"⟩
def dkwX13_now_4 : List UInt8 := [184, 0, 119, 172, 42, 18, 74, 182, 0, 80, 172]
abbrev dktX13_now_4 : List UInt8 := dkwX13_now_4 ++ []
def dkwX13_now_3 : List UInt8 := [172, 42, 182, 0, 202, 172, 42, 182, 0, 205, 172, 42, 180, 0, 9, 16, 8, 46, 42, 180, 0, 9, 6, 46]
abbrev dktX13_now_3 : List UInt8 := dkwX13_now_3 ++ dktX13_now_4
def dkwX13_now_2 : List UInt8 := [42, 180, 0, 9, 3, 46, 172, 42, 182, 0, 196, 153, 0, 7, 4, 167, 0, 4, 3, 172, 42, 182, 0, 199]
abbrev dktX13_now_2 : List UInt8 := dkwX13_now_2 ++ dktX13_now_3
def dkwX13_now_1 : List UInt8 := [170, 0, 0, 0, 0, 0, 91, 0, 0, 0, 0, 0, 0, 0, 5, 0, 0, 0, 39, 0, 0, 0, 46, 0, 0, 0, 59, 0, 0, 0, 64, 0, 0, 0, 69, 0, 0, 0, 74]
abbrev dktX13_now_1 : List UInt8 := dkwX13_now_1 ++ dktX13_now_2
def dkwX13_now_0 : List UInt8 := [27]
abbrev dktX13_now_0 : List UInt8 := dkwX13_now_0 ++ dktX13_now_1
theorem dksX13_now_0 : cX13_now.data.toList.drop 0 = dktX13_now_0 := by decide +kernel
theorem dksX13_now_1 : cX13_now.data.toList.drop 1 = dktX13_now_1 := dk_seg dksX13_now_0 1 rfl rfl
theorem dksX13_now_2 : cX13_now.data.toList.drop 40 = dktX13_now_2 := dk_seg dksX13_now_1 39 rfl rfl
theorem dksX13_now_3 : cX13_now.data.toList.drop 64 = dktX13_now_3 := dk_seg dksX13_now_2 24 rfl rfl
theorem dksX13_now_4 : cX13_now.data.toList.drop 88 = dktX13_now_4 := dk_seg dksX13_now_3 24 rfl rfl
theorem dX13_now_0 : decode cX13_now 0 = .ok (.iload_n 1, 1) := dk_27 (dk_at dksX13_now_0 0 rfl rfl)
theorem dX13_now_1 : decode cX13_now 1 = .ok (.tableswitch 91 0 5 #[39, 46, 59, 64, 69, 74], 39) := by decide +kernel
theorem dX13_now_40 : decode cX13_now 40 = .ok (.aload_n 0, 1) := dk_42 (dk_at dksX13_now_2 0 rfl rfl)
theorem dX13_now_41 : decode cX13_now 41 = .ok (.getfield 9, 3) := dk_180 0 9 (dk_at dksX13_now_2 1 rfl rfl)
theorem dX13_now_44 : decode cX13_now 44 = .ok (.iconst 0, 1) := dk_3 (dk_at dksX13_now_2 4 rfl rfl)
theorem dX13_now_45 : decode cX13_now 45 = .ok (.iaload, 1) := dk_46 (dk_at dksX13_now_2 5 rfl rfl)
theorem dX13_now_46 : decode cX13_now 46 = .ok (.ireturn, 1) := dk_172 (dk_at dksX13_now_2 6 rfl rfl)
theorem dX13_now_47 : decode cX13_now 47 = .ok (.aload_n 0, 1) := dk_42 (dk_at dksX13_now_2 7 rfl rfl)
theorem dX13_now_48 : decode cX13_now 48 = .ok (.invokevirtual 196, 3) := dk_182 0 196 (dk_at dksX13_now_2 8 rfl rfl)
theorem dX13_now_51 : decode cX13_now 51 = .ok (.ifCond .eq 7, 3) := dk_153 0 7 (dk_at dksX13_now_2 11 rfl rfl)
theorem dX13_now_54 : decode cX13_now 54 = .ok (.iconst 1, 1) := dk_4 (dk_at dksX13_now_2 14 rfl rfl)
theorem dX13_now_55 : decode cX13_now 55 = .ok (.goto 4, 3) := dk_167 0 4 (dk_at dksX13_now_2 15 rfl rfl)
theorem dX13_now_58 : decode cX13_now 58 = .ok (.iconst 0, 1) := dk_3 (dk_at dksX13_now_2 18 rfl rfl)
theorem dX13_now_59 : decode cX13_now 59 = .ok (.ireturn, 1) := dk_172 (dk_at dksX13_now_2 19 rfl rfl)
theorem dX13_now_60 : decode cX13_now 60 = .ok (.aload_n 0, 1) := dk_42 (dk_at dksX13_now_2 20 rfl rfl)
theorem dX13_now_61 : decode cX13_now 61 = .ok (.invokevirtual 199, 3) := dk_182 0 199 (dk_at dksX13_now_2 21 rfl rfl)
theorem dX13_now_64 : decode cX13_now 64 = .ok (.ireturn, 1) := dk_172 (dk_at dksX13_now_3 0 rfl rfl)
theorem dX13_now_65 : decode cX13_now 65 = .ok (.aload_n 0, 1) := dk_42 (dk_at dksX13_now_3 1 rfl rfl)
theorem dX13_now_66 : decode cX13_now 66 = .ok (.invokevirtual 202, 3) := dk_182 0 202 (dk_at dksX13_now_3 2 rfl rfl)
theorem dX13_now_69 : decode cX13_now 69 = .ok (.ireturn, 1) := dk_172 (dk_at dksX13_now_3 5 rfl rfl)
theorem dX13_now_70 : decode cX13_now 70 = .ok (.aload_n 0, 1) := dk_42 (dk_at dksX13_now_3 6 rfl rfl)
theorem dX13_now_71 : decode cX13_now 71 = .ok (.invokevirtual 205, 3) := dk_182 0 205 (dk_at dksX13_now_3 7 rfl rfl)
theorem dX13_now_74 : decode cX13_now 74 = .ok (.ireturn, 1) := dk_172 (dk_at dksX13_now_3 10 rfl rfl)
theorem dX13_now_75 : decode cX13_now 75 = .ok (.aload_n 0, 1) := dk_42 (dk_at dksX13_now_3 11 rfl rfl)
theorem dX13_now_76 : decode cX13_now 76 = .ok (.getfield 9, 3) := dk_180 0 9 (dk_at dksX13_now_3 12 rfl rfl)
theorem dX13_now_79 : decode cX13_now 79 = .ok (.bipush 8, 2) := dk_16 8 (dk_at dksX13_now_3 15 rfl rfl)
theorem dX13_now_81 : decode cX13_now 81 = .ok (.iaload, 1) := dk_46 (dk_at dksX13_now_3 17 rfl rfl)
theorem dX13_now_82 : decode cX13_now 82 = .ok (.aload_n 0, 1) := dk_42 (dk_at dksX13_now_3 18 rfl rfl)
theorem dX13_now_83 : decode cX13_now 83 = .ok (.getfield 9, 3) := dk_180 0 9 (dk_at dksX13_now_3 19 rfl rfl)
theorem dX13_now_86 : decode cX13_now 86 = .ok (.iconst 3, 1) := dk_6 (dk_at dksX13_now_3 22 rfl rfl)
theorem dX13_now_87 : decode cX13_now 87 = .ok (.iaload, 1) := dk_46 (dk_at dksX13_now_3 23 rfl rfl)
theorem dX13_now_88 : decode cX13_now 88 = .ok (.invokestatic 119, 3) := dk_184 0 119 (dk_at dksX13_now_4 0 rfl rfl)
theorem dX13_now_91 : decode cX13_now 91 = .ok (.ireturn, 1) := dk_172 (dk_at dksX13_now_4 3 rfl rfl)
theorem dX13_now_92 : decode cX13_now 92 = .ok (.aload_n 0, 1) := dk_42 (dk_at dksX13_now_4 4 rfl rfl)
theorem dX13_now_93 : decode cX13_now 93 = .ok (.ldc 74, 2) := dk_18 74 (dk_at dksX13_now_4 5 rfl rfl)
theorem dX13_now_95 : decode cX13_now 95 = .ok (.invokevirtual 80, 3) := dk_182 0 80 (dk_at dksX13_now_4 7 rfl rfl)
theorem dX13_now_98 : decode cX13_now 98 = .ok (.ireturn, 1) := dk_172 (dk_at dksX13_now_4 10 rfl rfl)
abbrev cX13_hears : ByteArray := prog_16_method_22_code
def yX13_hears : MethodName := ⟨RX13, "hears", "()Z"⟩
def dkwX13_hears_1 : List UInt8 := [42, 180, 0, 9, 16, 56, 42, 180, 0, 9, 16, 8, 46, 96, 46, 164, 0, 7, 4, 167, 0, 4, 3, 172]
abbrev dktX13_hears_1 : List UInt8 := dkwX13_hears_1 ++ []
def dkwX13_hears_0 : List UInt8 := [42, 42, 180, 0, 9, 16, 8, 46, 182, 0, 131, 42, 182, 0, 134, 153, 0, 7, 8, 167, 0, 4, 3, 96]
abbrev dktX13_hears_0 : List UInt8 := dkwX13_hears_0 ++ dktX13_hears_1
theorem dksX13_hears_0 : cX13_hears.data.toList.drop 0 = dktX13_hears_0 := by decide +kernel
theorem dksX13_hears_1 : cX13_hears.data.toList.drop 24 = dktX13_hears_1 := dk_seg dksX13_hears_0 24 rfl rfl
theorem dX13_hears_0 : decode cX13_hears 0 = .ok (.aload_n 0, 1) := dk_42 (dk_at dksX13_hears_0 0 rfl rfl)
theorem dX13_hears_1 : decode cX13_hears 1 = .ok (.aload_n 0, 1) := dk_42 (dk_at dksX13_hears_0 1 rfl rfl)
theorem dX13_hears_2 : decode cX13_hears 2 = .ok (.getfield 9, 3) := dk_180 0 9 (dk_at dksX13_hears_0 2 rfl rfl)
theorem dX13_hears_5 : decode cX13_hears 5 = .ok (.bipush 8, 2) := dk_16 8 (dk_at dksX13_hears_0 5 rfl rfl)
theorem dX13_hears_7 : decode cX13_hears 7 = .ok (.iaload, 1) := dk_46 (dk_at dksX13_hears_0 7 rfl rfl)
theorem dX13_hears_8 : decode cX13_hears 8 = .ok (.invokevirtual 131, 3) := dk_182 0 131 (dk_at dksX13_hears_0 8 rfl rfl)
theorem dX13_hears_11 : decode cX13_hears 11 = .ok (.aload_n 0, 1) := dk_42 (dk_at dksX13_hears_0 11 rfl rfl)
theorem dX13_hears_12 : decode cX13_hears 12 = .ok (.invokevirtual 134, 3) := dk_182 0 134 (dk_at dksX13_hears_0 12 rfl rfl)
theorem dX13_hears_15 : decode cX13_hears 15 = .ok (.ifCond .eq 7, 3) := dk_153 0 7 (dk_at dksX13_hears_0 15 rfl rfl)
theorem dX13_hears_18 : decode cX13_hears 18 = .ok (.iconst 5, 1) := dk_8 (dk_at dksX13_hears_0 18 rfl rfl)
theorem dX13_hears_19 : decode cX13_hears 19 = .ok (.goto 4, 3) := dk_167 0 4 (dk_at dksX13_hears_0 19 rfl rfl)
theorem dX13_hears_22 : decode cX13_hears 22 = .ok (.iconst 0, 1) := dk_3 (dk_at dksX13_hears_0 22 rfl rfl)
theorem dX13_hears_23 : decode cX13_hears 23 = .ok (.iadd, 1) := dk_96 (dk_at dksX13_hears_0 23 rfl rfl)
theorem dX13_hears_24 : decode cX13_hears 24 = .ok (.aload_n 0, 1) := dk_42 (dk_at dksX13_hears_1 0 rfl rfl)
theorem dX13_hears_25 : decode cX13_hears 25 = .ok (.getfield 9, 3) := dk_180 0 9 (dk_at dksX13_hears_1 1 rfl rfl)
theorem dX13_hears_28 : decode cX13_hears 28 = .ok (.bipush 56, 2) := dk_16 56 (dk_at dksX13_hears_1 4 rfl rfl)
theorem dX13_hears_30 : decode cX13_hears 30 = .ok (.aload_n 0, 1) := dk_42 (dk_at dksX13_hears_1 6 rfl rfl)
theorem dX13_hears_31 : decode cX13_hears 31 = .ok (.getfield 9, 3) := dk_180 0 9 (dk_at dksX13_hears_1 7 rfl rfl)
theorem dX13_hears_34 : decode cX13_hears 34 = .ok (.bipush 8, 2) := dk_16 8 (dk_at dksX13_hears_1 10 rfl rfl)
theorem dX13_hears_36 : decode cX13_hears 36 = .ok (.iaload, 1) := dk_46 (dk_at dksX13_hears_1 12 rfl rfl)
theorem dX13_hears_37 : decode cX13_hears 37 = .ok (.iadd, 1) := dk_96 (dk_at dksX13_hears_1 13 rfl rfl)
theorem dX13_hears_38 : decode cX13_hears 38 = .ok (.iaload, 1) := dk_46 (dk_at dksX13_hears_1 14 rfl rfl)
theorem dX13_hears_39 : decode cX13_hears 39 = .ok (.if_icmp .le 7, 3) := dk_164 0 7 (dk_at dksX13_hears_1 15 rfl rfl)
theorem dX13_hears_42 : decode cX13_hears 42 = .ok (.iconst 1, 1) := dk_4 (dk_at dksX13_hears_1 18 rfl rfl)
theorem dX13_hears_43 : decode cX13_hears 43 = .ok (.goto 4, 3) := dk_167 0 4 (dk_at dksX13_hears_1 19 rfl rfl)
theorem dX13_hears_46 : decode cX13_hears 46 = .ok (.iconst 0, 1) := dk_3 (dk_at dksX13_hears_1 22 rfl rfl)
theorem dX13_hears_47 : decode cX13_hears 47 = .ok (.ireturn, 1) := dk_172 (dk_at dksX13_hears_1 23 rfl rfl)
abbrev cX13_isAhead : ByteArray := prog_16_method_21_code
def yX13_isAhead : MethodName := ⟨RX13, "isAhead", "()Z"⟩
def dkwX13_isAhead_3 : List UInt8 := [156, 0, 7, 4, 167, 0, 4, 3, 172]
abbrev dktX13_isAhead_3 : List UInt8 := dkwX13_isAhead_3 ++ []
def dkwX13_isAhead_2 : List UInt8 := [5, 160, 0, 18, 42, 182, 0, 125, 158, 0, 7, 4, 167, 0, 19, 3, 167, 0, 15, 42, 182, 0, 128]
abbrev dktX13_isAhead_2 : List UInt8 := dkwX13_isAhead_2 ++ dktX13_isAhead_3
def dkwX13_isAhead_1 : List UInt8 := [167, 0, 55, 27, 4, 160, 0, 18, 42, 182, 0, 128, 158, 0, 7, 4, 167, 0, 39, 3, 167, 0, 35, 27]
abbrev dktX13_isAhead_1 : List UInt8 := dkwX13_isAhead_1 ++ dktX13_isAhead_2
def dkwX13_isAhead_0 : List UInt8 := [42, 180, 0, 9, 16, 9, 46, 60, 27, 154, 0, 18, 42, 182, 0, 125, 156, 0, 7, 4, 167, 0, 59, 3]
abbrev dktX13_isAhead_0 : List UInt8 := dkwX13_isAhead_0 ++ dktX13_isAhead_1
theorem dksX13_isAhead_0 : cX13_isAhead.data.toList.drop 0 = dktX13_isAhead_0 := by decide +kernel
theorem dksX13_isAhead_1 : cX13_isAhead.data.toList.drop 24 = dktX13_isAhead_1 := dk_seg dksX13_isAhead_0 24 rfl rfl
theorem dksX13_isAhead_2 : cX13_isAhead.data.toList.drop 48 = dktX13_isAhead_2 := dk_seg dksX13_isAhead_1 24 rfl rfl
theorem dksX13_isAhead_3 : cX13_isAhead.data.toList.drop 71 = dktX13_isAhead_3 := dk_seg dksX13_isAhead_2 23 rfl rfl
theorem dX13_isAhead_0 : decode cX13_isAhead 0 = .ok (.aload_n 0, 1) := dk_42 (dk_at dksX13_isAhead_0 0 rfl rfl)
theorem dX13_isAhead_1 : decode cX13_isAhead 1 = .ok (.getfield 9, 3) := dk_180 0 9 (dk_at dksX13_isAhead_0 1 rfl rfl)
theorem dX13_isAhead_4 : decode cX13_isAhead 4 = .ok (.bipush 9, 2) := dk_16 9 (dk_at dksX13_isAhead_0 4 rfl rfl)
theorem dX13_isAhead_6 : decode cX13_isAhead 6 = .ok (.iaload, 1) := dk_46 (dk_at dksX13_isAhead_0 6 rfl rfl)
theorem dX13_isAhead_7 : decode cX13_isAhead 7 = .ok (.istore_n 1, 1) := dk_60 (dk_at dksX13_isAhead_0 7 rfl rfl)
theorem dX13_isAhead_8 : decode cX13_isAhead 8 = .ok (.iload_n 1, 1) := dk_27 (dk_at dksX13_isAhead_0 8 rfl rfl)
theorem dX13_isAhead_9 : decode cX13_isAhead 9 = .ok (.ifCond .ne 18, 3) := dk_154 0 18 (dk_at dksX13_isAhead_0 9 rfl rfl)
theorem dX13_isAhead_12 : decode cX13_isAhead 12 = .ok (.aload_n 0, 1) := dk_42 (dk_at dksX13_isAhead_0 12 rfl rfl)
theorem dX13_isAhead_13 : decode cX13_isAhead 13 = .ok (.invokevirtual 125, 3) := dk_182 0 125 (dk_at dksX13_isAhead_0 13 rfl rfl)
theorem dX13_isAhead_16 : decode cX13_isAhead 16 = .ok (.ifCond .ge 7, 3) := dk_156 0 7 (dk_at dksX13_isAhead_0 16 rfl rfl)
theorem dX13_isAhead_19 : decode cX13_isAhead 19 = .ok (.iconst 1, 1) := dk_4 (dk_at dksX13_isAhead_0 19 rfl rfl)
theorem dX13_isAhead_20 : decode cX13_isAhead 20 = .ok (.goto 59, 3) := dk_167 0 59 (dk_at dksX13_isAhead_0 20 rfl rfl)
theorem dX13_isAhead_23 : decode cX13_isAhead 23 = .ok (.iconst 0, 1) := dk_3 (dk_at dksX13_isAhead_0 23 rfl rfl)
theorem dX13_isAhead_24 : decode cX13_isAhead 24 = .ok (.goto 55, 3) := dk_167 0 55 (dk_at dksX13_isAhead_1 0 rfl rfl)
theorem dX13_isAhead_27 : decode cX13_isAhead 27 = .ok (.iload_n 1, 1) := dk_27 (dk_at dksX13_isAhead_1 3 rfl rfl)
theorem dX13_isAhead_28 : decode cX13_isAhead 28 = .ok (.iconst 1, 1) := dk_4 (dk_at dksX13_isAhead_1 4 rfl rfl)
theorem dX13_isAhead_29 : decode cX13_isAhead 29 = .ok (.if_icmp .ne 18, 3) := dk_160 0 18 (dk_at dksX13_isAhead_1 5 rfl rfl)
theorem dX13_isAhead_32 : decode cX13_isAhead 32 = .ok (.aload_n 0, 1) := dk_42 (dk_at dksX13_isAhead_1 8 rfl rfl)
theorem dX13_isAhead_33 : decode cX13_isAhead 33 = .ok (.invokevirtual 128, 3) := dk_182 0 128 (dk_at dksX13_isAhead_1 9 rfl rfl)
theorem dX13_isAhead_36 : decode cX13_isAhead 36 = .ok (.ifCond .le 7, 3) := dk_158 0 7 (dk_at dksX13_isAhead_1 12 rfl rfl)
theorem dX13_isAhead_39 : decode cX13_isAhead 39 = .ok (.iconst 1, 1) := dk_4 (dk_at dksX13_isAhead_1 15 rfl rfl)
theorem dX13_isAhead_40 : decode cX13_isAhead 40 = .ok (.goto 39, 3) := dk_167 0 39 (dk_at dksX13_isAhead_1 16 rfl rfl)
theorem dX13_isAhead_43 : decode cX13_isAhead 43 = .ok (.iconst 0, 1) := dk_3 (dk_at dksX13_isAhead_1 19 rfl rfl)
theorem dX13_isAhead_44 : decode cX13_isAhead 44 = .ok (.goto 35, 3) := dk_167 0 35 (dk_at dksX13_isAhead_1 20 rfl rfl)
theorem dX13_isAhead_47 : decode cX13_isAhead 47 = .ok (.iload_n 1, 1) := dk_27 (dk_at dksX13_isAhead_1 23 rfl rfl)
theorem dX13_isAhead_48 : decode cX13_isAhead 48 = .ok (.iconst 2, 1) := dk_5 (dk_at dksX13_isAhead_2 0 rfl rfl)
theorem dX13_isAhead_49 : decode cX13_isAhead 49 = .ok (.if_icmp .ne 18, 3) := dk_160 0 18 (dk_at dksX13_isAhead_2 1 rfl rfl)
theorem dX13_isAhead_52 : decode cX13_isAhead 52 = .ok (.aload_n 0, 1) := dk_42 (dk_at dksX13_isAhead_2 4 rfl rfl)
theorem dX13_isAhead_53 : decode cX13_isAhead 53 = .ok (.invokevirtual 125, 3) := dk_182 0 125 (dk_at dksX13_isAhead_2 5 rfl rfl)
theorem dX13_isAhead_56 : decode cX13_isAhead 56 = .ok (.ifCond .le 7, 3) := dk_158 0 7 (dk_at dksX13_isAhead_2 8 rfl rfl)
theorem dX13_isAhead_59 : decode cX13_isAhead 59 = .ok (.iconst 1, 1) := dk_4 (dk_at dksX13_isAhead_2 11 rfl rfl)
theorem dX13_isAhead_60 : decode cX13_isAhead 60 = .ok (.goto 19, 3) := dk_167 0 19 (dk_at dksX13_isAhead_2 12 rfl rfl)
theorem dX13_isAhead_63 : decode cX13_isAhead 63 = .ok (.iconst 0, 1) := dk_3 (dk_at dksX13_isAhead_2 15 rfl rfl)
theorem dX13_isAhead_64 : decode cX13_isAhead 64 = .ok (.goto 15, 3) := dk_167 0 15 (dk_at dksX13_isAhead_2 16 rfl rfl)
theorem dX13_isAhead_67 : decode cX13_isAhead 67 = .ok (.aload_n 0, 1) := dk_42 (dk_at dksX13_isAhead_2 19 rfl rfl)
theorem dX13_isAhead_68 : decode cX13_isAhead 68 = .ok (.invokevirtual 128, 3) := dk_182 0 128 (dk_at dksX13_isAhead_2 20 rfl rfl)
theorem dX13_isAhead_71 : decode cX13_isAhead 71 = .ok (.ifCond .ge 7, 3) := dk_156 0 7 (dk_at dksX13_isAhead_3 0 rfl rfl)
theorem dX13_isAhead_74 : decode cX13_isAhead 74 = .ok (.iconst 1, 1) := dk_4 (dk_at dksX13_isAhead_3 3 rfl rfl)
theorem dX13_isAhead_75 : decode cX13_isAhead 75 = .ok (.goto 4, 3) := dk_167 0 4 (dk_at dksX13_isAhead_3 4 rfl rfl)
theorem dX13_isAhead_78 : decode cX13_isAhead 78 = .ok (.iconst 0, 1) := dk_3 (dk_at dksX13_isAhead_3 7 rfl rfl)
theorem dX13_isAhead_79 : decode cX13_isAhead 79 = .ok (.ireturn, 1) := dk_172 (dk_at dksX13_isAhead_3 8 rfl rfl)
abbrev cX13_high : ByteArray := prog_16_method_20_code
def yX13_high : MethodName := ⟨RX13, "high", "()I"⟩
def dkwX13_high_0 : List UInt8 := [42, 180, 0, 9, 6, 46, 16, 6, 108, 42, 180, 0, 9, 16, 8, 46, 16, 6, 108, 100, 184, 0, 122, 172]
abbrev dktX13_high_0 : List UInt8 := dkwX13_high_0 ++ []
theorem dksX13_high_0 : cX13_high.data.toList.drop 0 = dktX13_high_0 := by decide +kernel
theorem dX13_high_0 : decode cX13_high 0 = .ok (.aload_n 0, 1) := dk_42 (dk_at dksX13_high_0 0 rfl rfl)
theorem dX13_high_1 : decode cX13_high 1 = .ok (.getfield 9, 3) := dk_180 0 9 (dk_at dksX13_high_0 1 rfl rfl)
theorem dX13_high_4 : decode cX13_high 4 = .ok (.iconst 3, 1) := dk_6 (dk_at dksX13_high_0 4 rfl rfl)
theorem dX13_high_5 : decode cX13_high 5 = .ok (.iaload, 1) := dk_46 (dk_at dksX13_high_0 5 rfl rfl)
theorem dX13_high_6 : decode cX13_high 6 = .ok (.bipush 6, 2) := dk_16 6 (dk_at dksX13_high_0 6 rfl rfl)
theorem dX13_high_8 : decode cX13_high 8 = .ok (.idiv, 1) := dk_108 (dk_at dksX13_high_0 8 rfl rfl)
theorem dX13_high_9 : decode cX13_high 9 = .ok (.aload_n 0, 1) := dk_42 (dk_at dksX13_high_0 9 rfl rfl)
theorem dX13_high_10 : decode cX13_high 10 = .ok (.getfield 9, 3) := dk_180 0 9 (dk_at dksX13_high_0 10 rfl rfl)
theorem dX13_high_13 : decode cX13_high 13 = .ok (.bipush 8, 2) := dk_16 8 (dk_at dksX13_high_0 13 rfl rfl)
theorem dX13_high_15 : decode cX13_high 15 = .ok (.iaload, 1) := dk_46 (dk_at dksX13_high_0 15 rfl rfl)
theorem dX13_high_16 : decode cX13_high 16 = .ok (.bipush 6, 2) := dk_16 6 (dk_at dksX13_high_0 16 rfl rfl)
theorem dX13_high_18 : decode cX13_high 18 = .ok (.idiv, 1) := dk_108 (dk_at dksX13_high_0 18 rfl rfl)
theorem dX13_high_19 : decode cX13_high 19 = .ok (.isub, 1) := dk_100 (dk_at dksX13_high_0 19 rfl rfl)
theorem dX13_high_20 : decode cX13_high 20 = .ok (.invokestatic 122, 3) := dk_184 0 122 (dk_at dksX13_high_0 20 rfl rfl)
theorem dX13_high_23 : decode cX13_high 23 = .ok (.ireturn, 1) := dk_172 (dk_at dksX13_high_0 23 rfl rfl)
abbrev cX13_sign : ByteArray := prog_16_method_18_code
def yX13_sign : MethodName := ⟨RX13, "sign", "(I)I"⟩
def dkwX13_sign_0 : List UInt8 := [26, 156, 0, 7, 2, 167, 0, 12, 26, 158, 0, 7, 4, 167, 0, 4, 3, 172]
abbrev dktX13_sign_0 : List UInt8 := dkwX13_sign_0 ++ []
theorem dksX13_sign_0 : cX13_sign.data.toList.drop 0 = dktX13_sign_0 := by decide +kernel
theorem dX13_sign_0 : decode cX13_sign 0 = .ok (.iload_n 0, 1) := dk_26 (dk_at dksX13_sign_0 0 rfl rfl)
theorem dX13_sign_1 : decode cX13_sign 1 = .ok (.ifCond .ge 7, 3) := dk_156 0 7 (dk_at dksX13_sign_0 1 rfl rfl)
theorem dX13_sign_4 : decode cX13_sign 4 = .ok (.iconst (-1), 1) := dk_2 (dk_at dksX13_sign_0 4 rfl rfl)
theorem dX13_sign_5 : decode cX13_sign 5 = .ok (.goto 12, 3) := dk_167 0 12 (dk_at dksX13_sign_0 5 rfl rfl)
theorem dX13_sign_8 : decode cX13_sign 8 = .ok (.iload_n 0, 1) := dk_26 (dk_at dksX13_sign_0 8 rfl rfl)
theorem dX13_sign_9 : decode cX13_sign 9 = .ok (.ifCond .le 7, 3) := dk_158 0 7 (dk_at dksX13_sign_0 9 rfl rfl)
theorem dX13_sign_12 : decode cX13_sign 12 = .ok (.iconst 1, 1) := dk_4 (dk_at dksX13_sign_0 12 rfl rfl)
theorem dX13_sign_13 : decode cX13_sign 13 = .ok (.goto 4, 3) := dk_167 0 4 (dk_at dksX13_sign_0 13 rfl rfl)
theorem dX13_sign_16 : decode cX13_sign 16 = .ok (.iconst 0, 1) := dk_3 (dk_at dksX13_sign_0 16 rfl rfl)
theorem dX13_sign_17 : decode cX13_sign 17 = .ok (.ireturn, 1) := dk_172 (dk_at dksX13_sign_0 17 rfl rfl)
abbrev cX13_side : ByteArray := prog_16_method_19_code
def yX13_side : MethodName := ⟨RX13, "side", "()I"⟩
def dkwX13_side_0 : List UInt8 := [42, 180, 0, 9, 6, 46, 16, 6, 112, 42, 180, 0, 9, 16, 8, 46, 16, 6, 112, 100, 184, 0, 122, 172]
abbrev dktX13_side_0 : List UInt8 := dkwX13_side_0 ++ []
theorem dksX13_side_0 : cX13_side.data.toList.drop 0 = dktX13_side_0 := by decide +kernel
theorem dX13_side_0 : decode cX13_side 0 = .ok (.aload_n 0, 1) := dk_42 (dk_at dksX13_side_0 0 rfl rfl)
theorem dX13_side_1 : decode cX13_side 1 = .ok (.getfield 9, 3) := dk_180 0 9 (dk_at dksX13_side_0 1 rfl rfl)
theorem dX13_side_4 : decode cX13_side 4 = .ok (.iconst 3, 1) := dk_6 (dk_at dksX13_side_0 4 rfl rfl)
theorem dX13_side_5 : decode cX13_side 5 = .ok (.iaload, 1) := dk_46 (dk_at dksX13_side_0 5 rfl rfl)
theorem dX13_side_6 : decode cX13_side 6 = .ok (.bipush 6, 2) := dk_16 6 (dk_at dksX13_side_0 6 rfl rfl)
theorem dX13_side_8 : decode cX13_side 8 = .ok (.irem, 1) := dk_112 (dk_at dksX13_side_0 8 rfl rfl)
theorem dX13_side_9 : decode cX13_side 9 = .ok (.aload_n 0, 1) := dk_42 (dk_at dksX13_side_0 9 rfl rfl)
theorem dX13_side_10 : decode cX13_side 10 = .ok (.getfield 9, 3) := dk_180 0 9 (dk_at dksX13_side_0 10 rfl rfl)
theorem dX13_side_13 : decode cX13_side 13 = .ok (.bipush 8, 2) := dk_16 8 (dk_at dksX13_side_0 13 rfl rfl)
theorem dX13_side_15 : decode cX13_side 15 = .ok (.iaload, 1) := dk_46 (dk_at dksX13_side_0 15 rfl rfl)
theorem dX13_side_16 : decode cX13_side 16 = .ok (.bipush 6, 2) := dk_16 6 (dk_at dksX13_side_0 16 rfl rfl)
theorem dX13_side_18 : decode cX13_side 18 = .ok (.irem, 1) := dk_112 (dk_at dksX13_side_0 18 rfl rfl)
theorem dX13_side_19 : decode cX13_side 19 = .ok (.isub, 1) := dk_100 (dk_at dksX13_side_0 19 rfl rfl)
theorem dX13_side_20 : decode cX13_side 20 = .ok (.invokestatic 122, 3) := dk_184 0 122 (dk_at dksX13_side_0 20 rfl rfl)
theorem dX13_side_23 : decode cX13_side 23 = .ok (.ireturn, 1) := dk_172 (dk_at dksX13_side_0 23 rfl rfl)
abbrev cX13_having : ByteArray := prog_16_method_47_code
def yX13_having : MethodName := ⟨RX13, "having", "()I"⟩
def dkwX13_having_1 : List UInt8 := [28, 120, 167, 0, 4, 3, 128, 60, 132, 2, 1, 167, 255, 225, 27, 172]
abbrev dktX13_having_1 : List UInt8 := dkwX13_having_1 ++ []
def dkwX13_having_0 : List UInt8 := [3, 60, 3, 61, 28, 42, 180, 0, 9, 4, 46, 162, 0, 27, 27, 42, 28, 182, 0, 182, 153, 0, 9, 4]
abbrev dktX13_having_0 : List UInt8 := dkwX13_having_0 ++ dktX13_having_1
theorem dksX13_having_0 : cX13_having.data.toList.drop 0 = dktX13_having_0 := by decide +kernel
theorem dksX13_having_1 : cX13_having.data.toList.drop 24 = dktX13_having_1 := dk_seg dksX13_having_0 24 rfl rfl
theorem dX13_having_0 : decode cX13_having 0 = .ok (.iconst 0, 1) := dk_3 (dk_at dksX13_having_0 0 rfl rfl)
theorem dX13_having_1 : decode cX13_having 1 = .ok (.istore_n 1, 1) := dk_60 (dk_at dksX13_having_0 1 rfl rfl)
theorem dX13_having_2 : decode cX13_having 2 = .ok (.iconst 0, 1) := dk_3 (dk_at dksX13_having_0 2 rfl rfl)
theorem dX13_having_3 : decode cX13_having 3 = .ok (.istore_n 2, 1) := dk_61 (dk_at dksX13_having_0 3 rfl rfl)
theorem dX13_having_4 : decode cX13_having 4 = .ok (.iload_n 2, 1) := dk_28 (dk_at dksX13_having_0 4 rfl rfl)
theorem dX13_having_5 : decode cX13_having 5 = .ok (.aload_n 0, 1) := dk_42 (dk_at dksX13_having_0 5 rfl rfl)
theorem dX13_having_6 : decode cX13_having 6 = .ok (.getfield 9, 3) := dk_180 0 9 (dk_at dksX13_having_0 6 rfl rfl)
theorem dX13_having_9 : decode cX13_having 9 = .ok (.iconst 1, 1) := dk_4 (dk_at dksX13_having_0 9 rfl rfl)
theorem dX13_having_10 : decode cX13_having 10 = .ok (.iaload, 1) := dk_46 (dk_at dksX13_having_0 10 rfl rfl)
theorem dX13_having_11 : decode cX13_having 11 = .ok (.if_icmp .ge 27, 3) := dk_162 0 27 (dk_at dksX13_having_0 11 rfl rfl)
theorem dX13_having_14 : decode cX13_having 14 = .ok (.iload_n 1, 1) := dk_27 (dk_at dksX13_having_0 14 rfl rfl)
theorem dX13_having_15 : decode cX13_having 15 = .ok (.aload_n 0, 1) := dk_42 (dk_at dksX13_having_0 15 rfl rfl)
theorem dX13_having_16 : decode cX13_having 16 = .ok (.iload_n 2, 1) := dk_28 (dk_at dksX13_having_0 16 rfl rfl)
theorem dX13_having_17 : decode cX13_having 17 = .ok (.invokevirtual 182, 3) := dk_182 0 182 (dk_at dksX13_having_0 17 rfl rfl)
theorem dX13_having_20 : decode cX13_having 20 = .ok (.ifCond .eq 9, 3) := dk_153 0 9 (dk_at dksX13_having_0 20 rfl rfl)
theorem dX13_having_23 : decode cX13_having 23 = .ok (.iconst 1, 1) := dk_4 (dk_at dksX13_having_0 23 rfl rfl)
theorem dX13_having_24 : decode cX13_having 24 = .ok (.iload_n 2, 1) := dk_28 (dk_at dksX13_having_1 0 rfl rfl)
theorem dX13_having_25 : decode cX13_having 25 = .ok (.ishl, 1) := dk_120 (dk_at dksX13_having_1 1 rfl rfl)
theorem dX13_having_26 : decode cX13_having 26 = .ok (.goto 4, 3) := dk_167 0 4 (dk_at dksX13_having_1 2 rfl rfl)
theorem dX13_having_29 : decode cX13_having 29 = .ok (.iconst 0, 1) := dk_3 (dk_at dksX13_having_1 5 rfl rfl)
theorem dX13_having_30 : decode cX13_having 30 = .ok (.ior, 1) := dk_128 (dk_at dksX13_having_1 6 rfl rfl)
theorem dX13_having_31 : decode cX13_having 31 = .ok (.istore_n 1, 1) := dk_60 (dk_at dksX13_having_1 7 rfl rfl)
theorem dX13_having_32 : decode cX13_having 32 = .ok (.iinc 2 1, 3) := dk_132 2 1 (dk_at dksX13_having_1 8 rfl rfl)
theorem dX13_having_35 : decode cX13_having 35 = .ok (.goto (-31), 3) := dk_167 255 225 (dk_at dksX13_having_1 11 rfl rfl)
theorem dX13_having_38 : decode cX13_having 38 = .ok (.iload_n 1, 1) := dk_27 (dk_at dksX13_having_1 14 rfl rfl)
theorem dX13_having_39 : decode cX13_having 39 = .ok (.ireturn, 1) := dk_172 (dk_at dksX13_having_1 15 rfl rfl)
abbrev cX13_hadAll : ByteArray := prog_16_method_49_code
def yX13_hadAll : MethodName := ⟨RX13, "hadAll", "()I"⟩
def dkwX13_hadAll_1 : List UInt8 := [132, 2, 1, 167, 255, 234, 27, 172]
abbrev dktX13_hadAll_1 : List UInt8 := dkwX13_hadAll_1 ++ []
def dkwX13_hadAll_0 : List UInt8 := [3, 60, 3, 61, 28, 42, 180, 0, 9, 4, 46, 162, 0, 18, 27, 42, 28, 6, 182, 0, 160, 96, 60]
abbrev dktX13_hadAll_0 : List UInt8 := dkwX13_hadAll_0 ++ dktX13_hadAll_1
theorem dksX13_hadAll_0 : cX13_hadAll.data.toList.drop 0 = dktX13_hadAll_0 := by decide +kernel
theorem dksX13_hadAll_1 : cX13_hadAll.data.toList.drop 23 = dktX13_hadAll_1 := dk_seg dksX13_hadAll_0 23 rfl rfl
theorem dX13_hadAll_0 : decode cX13_hadAll 0 = .ok (.iconst 0, 1) := dk_3 (dk_at dksX13_hadAll_0 0 rfl rfl)
theorem dX13_hadAll_1 : decode cX13_hadAll 1 = .ok (.istore_n 1, 1) := dk_60 (dk_at dksX13_hadAll_0 1 rfl rfl)
theorem dX13_hadAll_2 : decode cX13_hadAll 2 = .ok (.iconst 0, 1) := dk_3 (dk_at dksX13_hadAll_0 2 rfl rfl)
theorem dX13_hadAll_3 : decode cX13_hadAll 3 = .ok (.istore_n 2, 1) := dk_61 (dk_at dksX13_hadAll_0 3 rfl rfl)
theorem dX13_hadAll_4 : decode cX13_hadAll 4 = .ok (.iload_n 2, 1) := dk_28 (dk_at dksX13_hadAll_0 4 rfl rfl)
theorem dX13_hadAll_5 : decode cX13_hadAll 5 = .ok (.aload_n 0, 1) := dk_42 (dk_at dksX13_hadAll_0 5 rfl rfl)
theorem dX13_hadAll_6 : decode cX13_hadAll 6 = .ok (.getfield 9, 3) := dk_180 0 9 (dk_at dksX13_hadAll_0 6 rfl rfl)
theorem dX13_hadAll_9 : decode cX13_hadAll 9 = .ok (.iconst 1, 1) := dk_4 (dk_at dksX13_hadAll_0 9 rfl rfl)
theorem dX13_hadAll_10 : decode cX13_hadAll 10 = .ok (.iaload, 1) := dk_46 (dk_at dksX13_hadAll_0 10 rfl rfl)
theorem dX13_hadAll_11 : decode cX13_hadAll 11 = .ok (.if_icmp .ge 18, 3) := dk_162 0 18 (dk_at dksX13_hadAll_0 11 rfl rfl)
theorem dX13_hadAll_14 : decode cX13_hadAll 14 = .ok (.iload_n 1, 1) := dk_27 (dk_at dksX13_hadAll_0 14 rfl rfl)
theorem dX13_hadAll_15 : decode cX13_hadAll 15 = .ok (.aload_n 0, 1) := dk_42 (dk_at dksX13_hadAll_0 15 rfl rfl)
theorem dX13_hadAll_16 : decode cX13_hadAll 16 = .ok (.iload_n 2, 1) := dk_28 (dk_at dksX13_hadAll_0 16 rfl rfl)
theorem dX13_hadAll_17 : decode cX13_hadAll 17 = .ok (.iconst 3, 1) := dk_6 (dk_at dksX13_hadAll_0 17 rfl rfl)
theorem dX13_hadAll_18 : decode cX13_hadAll 18 = .ok (.invokevirtual 160, 3) := dk_182 0 160 (dk_at dksX13_hadAll_0 18 rfl rfl)
theorem dX13_hadAll_21 : decode cX13_hadAll 21 = .ok (.iadd, 1) := dk_96 (dk_at dksX13_hadAll_0 21 rfl rfl)
theorem dX13_hadAll_22 : decode cX13_hadAll 22 = .ok (.istore_n 1, 1) := dk_60 (dk_at dksX13_hadAll_0 22 rfl rfl)
theorem dX13_hadAll_23 : decode cX13_hadAll 23 = .ok (.iinc 2 1, 3) := dk_132 2 1 (dk_at dksX13_hadAll_1 0 rfl rfl)
theorem dX13_hadAll_26 : decode cX13_hadAll 26 = .ok (.goto (-22), 3) := dk_167 255 234 (dk_at dksX13_hadAll_1 3 rfl rfl)
theorem dX13_hadAll_29 : decode cX13_hadAll 29 = .ok (.iload_n 1, 1) := dk_27 (dk_at dksX13_hadAll_1 6 rfl rfl)
theorem dX13_hadAll_30 : decode cX13_hadAll 30 = .ok (.ireturn, 1) := dk_172 (dk_at dksX13_hadAll_1 7 rfl rfl)
abbrev cX13_snowAll : ByteArray := prog_16_method_50_code
def yX13_snowAll : MethodName := ⟨RX13, "snowAll", "()I"⟩
def dkwX13_snowAll_1 : List UInt8 := [132, 2, 1, 167, 255, 235, 27, 172]
abbrev dktX13_snowAll_1 : List UInt8 := dkwX13_snowAll_1 ++ []
def dkwX13_snowAll_0 : List UInt8 := [3, 60, 3, 61, 28, 16, 36, 162, 0, 21, 27, 42, 180, 0, 9, 16, 20, 28, 96, 46, 96, 60]
abbrev dktX13_snowAll_0 : List UInt8 := dkwX13_snowAll_0 ++ dktX13_snowAll_1
theorem dksX13_snowAll_0 : cX13_snowAll.data.toList.drop 0 = dktX13_snowAll_0 := by decide +kernel
theorem dksX13_snowAll_1 : cX13_snowAll.data.toList.drop 22 = dktX13_snowAll_1 := dk_seg dksX13_snowAll_0 22 rfl rfl
theorem dX13_snowAll_0 : decode cX13_snowAll 0 = .ok (.iconst 0, 1) := dk_3 (dk_at dksX13_snowAll_0 0 rfl rfl)
theorem dX13_snowAll_1 : decode cX13_snowAll 1 = .ok (.istore_n 1, 1) := dk_60 (dk_at dksX13_snowAll_0 1 rfl rfl)
theorem dX13_snowAll_2 : decode cX13_snowAll 2 = .ok (.iconst 0, 1) := dk_3 (dk_at dksX13_snowAll_0 2 rfl rfl)
theorem dX13_snowAll_3 : decode cX13_snowAll 3 = .ok (.istore_n 2, 1) := dk_61 (dk_at dksX13_snowAll_0 3 rfl rfl)
theorem dX13_snowAll_4 : decode cX13_snowAll 4 = .ok (.iload_n 2, 1) := dk_28 (dk_at dksX13_snowAll_0 4 rfl rfl)
theorem dX13_snowAll_5 : decode cX13_snowAll 5 = .ok (.bipush 36, 2) := dk_16 36 (dk_at dksX13_snowAll_0 5 rfl rfl)
theorem dX13_snowAll_7 : decode cX13_snowAll 7 = .ok (.if_icmp .ge 21, 3) := dk_162 0 21 (dk_at dksX13_snowAll_0 7 rfl rfl)
theorem dX13_snowAll_10 : decode cX13_snowAll 10 = .ok (.iload_n 1, 1) := dk_27 (dk_at dksX13_snowAll_0 10 rfl rfl)
theorem dX13_snowAll_11 : decode cX13_snowAll 11 = .ok (.aload_n 0, 1) := dk_42 (dk_at dksX13_snowAll_0 11 rfl rfl)
theorem dX13_snowAll_12 : decode cX13_snowAll 12 = .ok (.getfield 9, 3) := dk_180 0 9 (dk_at dksX13_snowAll_0 12 rfl rfl)
theorem dX13_snowAll_15 : decode cX13_snowAll 15 = .ok (.bipush 20, 2) := dk_16 20 (dk_at dksX13_snowAll_0 15 rfl rfl)
theorem dX13_snowAll_17 : decode cX13_snowAll 17 = .ok (.iload_n 2, 1) := dk_28 (dk_at dksX13_snowAll_0 17 rfl rfl)
theorem dX13_snowAll_18 : decode cX13_snowAll 18 = .ok (.iadd, 1) := dk_96 (dk_at dksX13_snowAll_0 18 rfl rfl)
theorem dX13_snowAll_19 : decode cX13_snowAll 19 = .ok (.iaload, 1) := dk_46 (dk_at dksX13_snowAll_0 19 rfl rfl)
theorem dX13_snowAll_20 : decode cX13_snowAll 20 = .ok (.iadd, 1) := dk_96 (dk_at dksX13_snowAll_0 20 rfl rfl)
theorem dX13_snowAll_21 : decode cX13_snowAll 21 = .ok (.istore_n 1, 1) := dk_60 (dk_at dksX13_snowAll_0 21 rfl rfl)
theorem dX13_snowAll_22 : decode cX13_snowAll 22 = .ok (.iinc 2 1, 3) := dk_132 2 1 (dk_at dksX13_snowAll_1 0 rfl rfl)
theorem dX13_snowAll_25 : decode cX13_snowAll 25 = .ok (.goto (-21), 3) := dk_167 255 235 (dk_at dksX13_snowAll_1 3 rfl rfl)
theorem dX13_snowAll_28 : decode cX13_snowAll 28 = .ok (.iload_n 1, 1) := dk_27 (dk_at dksX13_snowAll_1 6 rfl rfl)
theorem dX13_snowAll_29 : decode cX13_snowAll 29 = .ok (.ireturn, 1) := dk_172 (dk_at dksX13_snowAll_1 7 rfl rfl)
abbrev cX13_ear : ByteArray := prog_16_method_52_code
def yX13_ear : MethodName := ⟨RX13, "ear", "(I)I"⟩
def dkwX13_ear_1 : List UInt8 := [18, 79, 182, 0, 80, 167, 0, 18, 27, 154, 0, 10, 42, 182, 0, 128, 167, 0, 7, 42, 182, 0, 125, 172]
abbrev dktX13_ear_1 : List UInt8 := dkwX13_ear_1 ++ []
def dkwX13_ear_0 : List UInt8 := [27, 3, 4, 184, 0, 84, 154, 0, 10, 42, 18, 74, 182, 0, 80, 172, 42, 182, 0, 196, 154, 0, 12, 42]
abbrev dktX13_ear_0 : List UInt8 := dkwX13_ear_0 ++ dktX13_ear_1
theorem dksX13_ear_0 : cX13_ear.data.toList.drop 0 = dktX13_ear_0 := by decide +kernel
theorem dksX13_ear_1 : cX13_ear.data.toList.drop 24 = dktX13_ear_1 := dk_seg dksX13_ear_0 24 rfl rfl
theorem dX13_ear_0 : decode cX13_ear 0 = .ok (.iload_n 1, 1) := dk_27 (dk_at dksX13_ear_0 0 rfl rfl)
theorem dX13_ear_1 : decode cX13_ear 1 = .ok (.iconst 0, 1) := dk_3 (dk_at dksX13_ear_0 1 rfl rfl)
theorem dX13_ear_2 : decode cX13_ear 2 = .ok (.iconst 1, 1) := dk_4 (dk_at dksX13_ear_0 2 rfl rfl)
theorem dX13_ear_3 : decode cX13_ear 3 = .ok (.invokestatic 84, 3) := dk_184 0 84 (dk_at dksX13_ear_0 3 rfl rfl)
theorem dX13_ear_6 : decode cX13_ear 6 = .ok (.ifCond .ne 10, 3) := dk_154 0 10 (dk_at dksX13_ear_0 6 rfl rfl)
theorem dX13_ear_9 : decode cX13_ear 9 = .ok (.aload_n 0, 1) := dk_42 (dk_at dksX13_ear_0 9 rfl rfl)
theorem dX13_ear_10 : decode cX13_ear 10 = .ok (.ldc 74, 2) := dk_18 74 (dk_at dksX13_ear_0 10 rfl rfl)
theorem dX13_ear_12 : decode cX13_ear 12 = .ok (.invokevirtual 80, 3) := dk_182 0 80 (dk_at dksX13_ear_0 12 rfl rfl)
theorem dX13_ear_15 : decode cX13_ear 15 = .ok (.ireturn, 1) := dk_172 (dk_at dksX13_ear_0 15 rfl rfl)
theorem dX13_ear_16 : decode cX13_ear 16 = .ok (.aload_n 0, 1) := dk_42 (dk_at dksX13_ear_0 16 rfl rfl)
theorem dX13_ear_17 : decode cX13_ear 17 = .ok (.invokevirtual 196, 3) := dk_182 0 196 (dk_at dksX13_ear_0 17 rfl rfl)
theorem dX13_ear_20 : decode cX13_ear 20 = .ok (.ifCond .ne 12, 3) := dk_154 0 12 (dk_at dksX13_ear_0 20 rfl rfl)
theorem dX13_ear_23 : decode cX13_ear 23 = .ok (.aload_n 0, 1) := dk_42 (dk_at dksX13_ear_0 23 rfl rfl)
theorem dX13_ear_24 : decode cX13_ear 24 = .ok (.ldc 79, 2) := dk_18 79 (dk_at dksX13_ear_1 0 rfl rfl)
theorem dX13_ear_26 : decode cX13_ear 26 = .ok (.invokevirtual 80, 3) := dk_182 0 80 (dk_at dksX13_ear_1 2 rfl rfl)
theorem dX13_ear_29 : decode cX13_ear 29 = .ok (.goto 18, 3) := dk_167 0 18 (dk_at dksX13_ear_1 5 rfl rfl)
theorem dX13_ear_32 : decode cX13_ear 32 = .ok (.iload_n 1, 1) := dk_27 (dk_at dksX13_ear_1 8 rfl rfl)
theorem dX13_ear_33 : decode cX13_ear 33 = .ok (.ifCond .ne 10, 3) := dk_154 0 10 (dk_at dksX13_ear_1 9 rfl rfl)
theorem dX13_ear_36 : decode cX13_ear 36 = .ok (.aload_n 0, 1) := dk_42 (dk_at dksX13_ear_1 12 rfl rfl)
theorem dX13_ear_37 : decode cX13_ear 37 = .ok (.invokevirtual 128, 3) := dk_182 0 128 (dk_at dksX13_ear_1 13 rfl rfl)
theorem dX13_ear_40 : decode cX13_ear 40 = .ok (.goto 7, 3) := dk_167 0 7 (dk_at dksX13_ear_1 16 rfl rfl)
theorem dX13_ear_43 : decode cX13_ear 43 = .ok (.aload_n 0, 1) := dk_42 (dk_at dksX13_ear_1 19 rfl rfl)
theorem dX13_ear_44 : decode cX13_ear 44 = .ok (.invokevirtual 125, 3) := dk_182 0 125 (dk_at dksX13_ear_1 20 rfl rfl)
theorem dX13_ear_47 : decode cX13_ear 47 = .ok (.ireturn, 1) := dk_172 (dk_at dksX13_ear_1 23 rfl rfl)
abbrev cX13_where : ByteArray := prog_16_method_54_code
def yX13_where : MethodName := ⟨RX13, "where", "(I)I"⟩
def dkwX13_where_1 : List UInt8 := [184, 0, 75, 42, 27, 182, 0, 172, 42, 42, 180, 0, 9, 6, 46, 182, 0, 211, 172]
abbrev dktX13_where_1 : List UInt8 := dkwX13_where_1 ++ []
def dkwX13_where_0 : List UInt8 := [27, 184, 0, 208, 154, 0, 10, 42, 18, 74, 182, 0, 80, 172, 42, 180, 0, 9, 42, 180, 0, 16]
abbrev dktX13_where_0 : List UInt8 := dkwX13_where_0 ++ dktX13_where_1
theorem dksX13_where_0 : cX13_where.data.toList.drop 0 = dktX13_where_0 := by decide +kernel
theorem dksX13_where_1 : cX13_where.data.toList.drop 22 = dktX13_where_1 := dk_seg dksX13_where_0 22 rfl rfl
theorem dX13_where_0 : decode cX13_where 0 = .ok (.iload_n 1, 1) := dk_27 (dk_at dksX13_where_0 0 rfl rfl)
theorem dX13_where_1 : decode cX13_where 1 = .ok (.invokestatic 208, 3) := dk_184 0 208 (dk_at dksX13_where_0 1 rfl rfl)
theorem dX13_where_4 : decode cX13_where 4 = .ok (.ifCond .ne 10, 3) := dk_154 0 10 (dk_at dksX13_where_0 4 rfl rfl)
theorem dX13_where_7 : decode cX13_where 7 = .ok (.aload_n 0, 1) := dk_42 (dk_at dksX13_where_0 7 rfl rfl)
theorem dX13_where_8 : decode cX13_where 8 = .ok (.ldc 74, 2) := dk_18 74 (dk_at dksX13_where_0 8 rfl rfl)
theorem dX13_where_10 : decode cX13_where 10 = .ok (.invokevirtual 80, 3) := dk_182 0 80 (dk_at dksX13_where_0 10 rfl rfl)
theorem dX13_where_13 : decode cX13_where 13 = .ok (.ireturn, 1) := dk_172 (dk_at dksX13_where_0 13 rfl rfl)
theorem dX13_where_14 : decode cX13_where 14 = .ok (.aload_n 0, 1) := dk_42 (dk_at dksX13_where_0 14 rfl rfl)
theorem dX13_where_15 : decode cX13_where 15 = .ok (.getfield 9, 3) := dk_180 0 9 (dk_at dksX13_where_0 15 rfl rfl)
theorem dX13_where_18 : decode cX13_where 18 = .ok (.aload_n 0, 1) := dk_42 (dk_at dksX13_where_0 18 rfl rfl)
theorem dX13_where_19 : decode cX13_where 19 = .ok (.getfield 16, 3) := dk_180 0 16 (dk_at dksX13_where_0 19 rfl rfl)
theorem dX13_where_22 : decode cX13_where 22 = .ok (.invokestatic 75, 3) := dk_184 0 75 (dk_at dksX13_where_1 0 rfl rfl)
theorem dX13_where_25 : decode cX13_where 25 = .ok (.aload_n 0, 1) := dk_42 (dk_at dksX13_where_1 3 rfl rfl)
theorem dX13_where_26 : decode cX13_where 26 = .ok (.iload_n 1, 1) := dk_27 (dk_at dksX13_where_1 4 rfl rfl)
theorem dX13_where_27 : decode cX13_where 27 = .ok (.invokevirtual 172, 3) := dk_182 0 172 (dk_at dksX13_where_1 5 rfl rfl)
theorem dX13_where_30 : decode cX13_where 30 = .ok (.aload_n 0, 1) := dk_42 (dk_at dksX13_where_1 8 rfl rfl)
theorem dX13_where_31 : decode cX13_where 31 = .ok (.aload_n 0, 1) := dk_42 (dk_at dksX13_where_1 9 rfl rfl)
theorem dX13_where_32 : decode cX13_where 32 = .ok (.getfield 9, 3) := dk_180 0 9 (dk_at dksX13_where_1 10 rfl rfl)
theorem dX13_where_35 : decode cX13_where 35 = .ok (.iconst 3, 1) := dk_6 (dk_at dksX13_where_1 13 rfl rfl)
theorem dX13_where_36 : decode cX13_where 36 = .ok (.iaload, 1) := dk_46 (dk_at dksX13_where_1 14 rfl rfl)
theorem dX13_where_37 : decode cX13_where 37 = .ok (.invokevirtual 211, 3) := dk_182 0 211 (dk_at dksX13_where_1 15 rfl rfl)
theorem dX13_where_40 : decode cX13_where 40 = .ok (.ireturn, 1) := dk_172 (dk_at dksX13_where_1 18 rfl rfl)
abbrev cX13_isAheadBy : ByteArray := prog_16_method_53_code
def yX13_isAheadBy : MethodName := ⟨RX13, "isAheadBy", "(I)Z"⟩
def dkwX13_isAheadBy_0 : List UInt8 := [26, 3, 17, 0, 200, 184, 0, 84, 172]
abbrev dktX13_isAheadBy_0 : List UInt8 := dkwX13_isAheadBy_0 ++ []
theorem dksX13_isAheadBy_0 : cX13_isAheadBy.data.toList.drop 0 = dktX13_isAheadBy_0 := by decide +kernel
theorem dX13_isAheadBy_0 : decode cX13_isAheadBy 0 = .ok (.iload_n 0, 1) := dk_26 (dk_at dksX13_isAheadBy_0 0 rfl rfl)
theorem dX13_isAheadBy_1 : decode cX13_isAheadBy 1 = .ok (.iconst 0, 1) := dk_3 (dk_at dksX13_isAheadBy_0 1 rfl rfl)
theorem dX13_isAheadBy_2 : decode cX13_isAheadBy 2 = .ok (.sipush 200, 3) := dk_17 0 200 (dk_at dksX13_isAheadBy_0 2 rfl rfl)
theorem dX13_isAheadBy_5 : decode cX13_isAheadBy 5 = .ok (.invokestatic 84, 3) := dk_184 0 84 (dk_at dksX13_isAheadBy_0 5 rfl rfl)
theorem dX13_isAheadBy_8 : decode cX13_isAheadBy 8 = .ok (.ireturn, 1) := dk_172 (dk_at dksX13_isAheadBy_0 8 rfl rfl)
abbrev cX13_putBack : ByteArray := prog_16_method_6_code
def yX13_putBack : MethodName := ⟨RX13, "putBack", "(I)I"⟩
def dkwX13_putBack_0 : List UInt8 := [42, 180, 0, 16, 42, 180, 0, 9, 184, 0, 75, 27, 172]
abbrev dktX13_putBack_0 : List UInt8 := dkwX13_putBack_0 ++ []
theorem dksX13_putBack_0 : cX13_putBack.data.toList.drop 0 = dktX13_putBack_0 := by decide +kernel
theorem dX13_putBack_0 : decode cX13_putBack 0 = .ok (.aload_n 0, 1) := dk_42 (dk_at dksX13_putBack_0 0 rfl rfl)
theorem dX13_putBack_1 : decode cX13_putBack 1 = .ok (.getfield 16, 3) := dk_180 0 16 (dk_at dksX13_putBack_0 1 rfl rfl)
theorem dX13_putBack_4 : decode cX13_putBack 4 = .ok (.aload_n 0, 1) := dk_42 (dk_at dksX13_putBack_0 4 rfl rfl)
theorem dX13_putBack_5 : decode cX13_putBack 5 = .ok (.getfield 9, 3) := dk_180 0 9 (dk_at dksX13_putBack_0 5 rfl rfl)
theorem dX13_putBack_8 : decode cX13_putBack 8 = .ok (.invokestatic 75, 3) := dk_184 0 75 (dk_at dksX13_putBack_0 8 rfl rfl)
theorem dX13_putBack_11 : decode cX13_putBack 11 = .ok (.iload_n 1, 1) := dk_27 (dk_at dksX13_putBack_0 11 rfl rfl)
theorem dX13_putBack_12 : decode cX13_putBack 12 = .ok (.ireturn, 1) := dk_172 (dk_at dksX13_putBack_0 12 rfl rfl)
abbrev cX13_heard : ByteArray := prog_16_method_56_code
def yX13_heard : MethodName := ⟨RX13, "heard", "(I)I"⟩
def dkwX13_heard_0 : List UInt8 := [27, 184, 0, 208, 153, 0, 11, 42, 27, 182, 0, 218, 167, 0, 9, 42, 18, 74, 182, 0, 80, 172]
abbrev dktX13_heard_0 : List UInt8 := dkwX13_heard_0 ++ []
theorem dksX13_heard_0 : cX13_heard.data.toList.drop 0 = dktX13_heard_0 := by decide +kernel
theorem dX13_heard_0 : decode cX13_heard 0 = .ok (.iload_n 1, 1) := dk_27 (dk_at dksX13_heard_0 0 rfl rfl)
theorem dX13_heard_1 : decode cX13_heard 1 = .ok (.invokestatic 208, 3) := dk_184 0 208 (dk_at dksX13_heard_0 1 rfl rfl)
theorem dX13_heard_4 : decode cX13_heard 4 = .ok (.ifCond .eq 11, 3) := dk_153 0 11 (dk_at dksX13_heard_0 4 rfl rfl)
theorem dX13_heard_7 : decode cX13_heard 7 = .ok (.aload_n 0, 1) := dk_42 (dk_at dksX13_heard_0 7 rfl rfl)
theorem dX13_heard_8 : decode cX13_heard 8 = .ok (.iload_n 1, 1) := dk_27 (dk_at dksX13_heard_0 8 rfl rfl)
theorem dX13_heard_9 : decode cX13_heard 9 = .ok (.invokevirtual 218, 3) := dk_182 0 218 (dk_at dksX13_heard_0 9 rfl rfl)
theorem dX13_heard_12 : decode cX13_heard 12 = .ok (.goto 9, 3) := dk_167 0 9 (dk_at dksX13_heard_0 12 rfl rfl)
theorem dX13_heard_15 : decode cX13_heard 15 = .ok (.aload_n 0, 1) := dk_42 (dk_at dksX13_heard_0 15 rfl rfl)
theorem dX13_heard_16 : decode cX13_heard 16 = .ok (.ldc 74, 2) := dk_18 74 (dk_at dksX13_heard_0 16 rfl rfl)
theorem dX13_heard_18 : decode cX13_heard 18 = .ok (.invokevirtual 80, 3) := dk_182 0 80 (dk_at dksX13_heard_0 18 rfl rfl)
theorem dX13_heard_21 : decode cX13_heard 21 = .ok (.ireturn, 1) := dk_172 (dk_at dksX13_heard_0 21 rfl rfl)
abbrev cX13_heardIn : ByteArray := prog_16_method_55_code
def yX13_heardIn : MethodName := ⟨RX13, "heardIn", "(I)I"⟩
def dkwX13_heardIn_3 : List UInt8 := [167, 255, 208, 42, 28, 182, 0, 211, 172]
abbrev dktX13_heardIn_3 : List UInt8 := dkwX13_heardIn_3 ++ []
def dkwX13_heardIn_2 : List UInt8 := [182, 0, 108, 153, 0, 7, 4, 167, 0, 4, 3, 96, 181, 0, 214, 42, 182, 0, 146, 132, 3, 1]
abbrev dktX13_heardIn_2 : List UInt8 := dkwX13_heardIn_2 ++ dktX13_heardIn_3
def dkwX13_heardIn_1 : List UInt8 := [162, 0, 49, 28, 42, 182, 0, 196, 153, 0, 7, 4, 167, 0, 4, 3, 96, 61, 42, 89, 180, 0, 214, 42]
abbrev dktX13_heardIn_1 : List UInt8 := dkwX13_heardIn_1 ++ dktX13_heardIn_2
def dkwX13_heardIn_0 : List UInt8 := [42, 180, 0, 9, 42, 180, 0, 16, 184, 0, 75, 3, 61, 42, 3, 181, 0, 214, 3, 62, 29, 27]
abbrev dktX13_heardIn_0 : List UInt8 := dkwX13_heardIn_0 ++ dktX13_heardIn_1
theorem dksX13_heardIn_0 : cX13_heardIn.data.toList.drop 0 = dktX13_heardIn_0 := by decide +kernel
theorem dksX13_heardIn_1 : cX13_heardIn.data.toList.drop 22 = dktX13_heardIn_1 := dk_seg dksX13_heardIn_0 22 rfl rfl
theorem dksX13_heardIn_2 : cX13_heardIn.data.toList.drop 46 = dktX13_heardIn_2 := dk_seg dksX13_heardIn_1 24 rfl rfl
theorem dksX13_heardIn_3 : cX13_heardIn.data.toList.drop 68 = dktX13_heardIn_3 := dk_seg dksX13_heardIn_2 22 rfl rfl
theorem dX13_heardIn_0 : decode cX13_heardIn 0 = .ok (.aload_n 0, 1) := dk_42 (dk_at dksX13_heardIn_0 0 rfl rfl)
theorem dX13_heardIn_1 : decode cX13_heardIn 1 = .ok (.getfield 9, 3) := dk_180 0 9 (dk_at dksX13_heardIn_0 1 rfl rfl)
theorem dX13_heardIn_4 : decode cX13_heardIn 4 = .ok (.aload_n 0, 1) := dk_42 (dk_at dksX13_heardIn_0 4 rfl rfl)
theorem dX13_heardIn_5 : decode cX13_heardIn 5 = .ok (.getfield 16, 3) := dk_180 0 16 (dk_at dksX13_heardIn_0 5 rfl rfl)
theorem dX13_heardIn_8 : decode cX13_heardIn 8 = .ok (.invokestatic 75, 3) := dk_184 0 75 (dk_at dksX13_heardIn_0 8 rfl rfl)
theorem dX13_heardIn_11 : decode cX13_heardIn 11 = .ok (.iconst 0, 1) := dk_3 (dk_at dksX13_heardIn_0 11 rfl rfl)
theorem dX13_heardIn_12 : decode cX13_heardIn 12 = .ok (.istore_n 2, 1) := dk_61 (dk_at dksX13_heardIn_0 12 rfl rfl)
theorem dX13_heardIn_13 : decode cX13_heardIn 13 = .ok (.aload_n 0, 1) := dk_42 (dk_at dksX13_heardIn_0 13 rfl rfl)
theorem dX13_heardIn_14 : decode cX13_heardIn 14 = .ok (.iconst 0, 1) := dk_3 (dk_at dksX13_heardIn_0 14 rfl rfl)
theorem dX13_heardIn_15 : decode cX13_heardIn 15 = .ok (.putfield 214, 3) := dk_181 0 214 (dk_at dksX13_heardIn_0 15 rfl rfl)
theorem dX13_heardIn_18 : decode cX13_heardIn 18 = .ok (.iconst 0, 1) := dk_3 (dk_at dksX13_heardIn_0 18 rfl rfl)
theorem dX13_heardIn_19 : decode cX13_heardIn 19 = .ok (.istore_n 3, 1) := dk_62 (dk_at dksX13_heardIn_0 19 rfl rfl)
theorem dX13_heardIn_20 : decode cX13_heardIn 20 = .ok (.iload_n 3, 1) := dk_29 (dk_at dksX13_heardIn_0 20 rfl rfl)
theorem dX13_heardIn_21 : decode cX13_heardIn 21 = .ok (.iload_n 1, 1) := dk_27 (dk_at dksX13_heardIn_0 21 rfl rfl)
theorem dX13_heardIn_22 : decode cX13_heardIn 22 = .ok (.if_icmp .ge 49, 3) := dk_162 0 49 (dk_at dksX13_heardIn_1 0 rfl rfl)
theorem dX13_heardIn_25 : decode cX13_heardIn 25 = .ok (.iload_n 2, 1) := dk_28 (dk_at dksX13_heardIn_1 3 rfl rfl)
theorem dX13_heardIn_26 : decode cX13_heardIn 26 = .ok (.aload_n 0, 1) := dk_42 (dk_at dksX13_heardIn_1 4 rfl rfl)
theorem dX13_heardIn_27 : decode cX13_heardIn 27 = .ok (.invokevirtual 196, 3) := dk_182 0 196 (dk_at dksX13_heardIn_1 5 rfl rfl)
theorem dX13_heardIn_30 : decode cX13_heardIn 30 = .ok (.ifCond .eq 7, 3) := dk_153 0 7 (dk_at dksX13_heardIn_1 8 rfl rfl)
theorem dX13_heardIn_33 : decode cX13_heardIn 33 = .ok (.iconst 1, 1) := dk_4 (dk_at dksX13_heardIn_1 11 rfl rfl)
theorem dX13_heardIn_34 : decode cX13_heardIn 34 = .ok (.goto 4, 3) := dk_167 0 4 (dk_at dksX13_heardIn_1 12 rfl rfl)
theorem dX13_heardIn_37 : decode cX13_heardIn 37 = .ok (.iconst 0, 1) := dk_3 (dk_at dksX13_heardIn_1 15 rfl rfl)
theorem dX13_heardIn_38 : decode cX13_heardIn 38 = .ok (.iadd, 1) := dk_96 (dk_at dksX13_heardIn_1 16 rfl rfl)
theorem dX13_heardIn_39 : decode cX13_heardIn 39 = .ok (.istore_n 2, 1) := dk_61 (dk_at dksX13_heardIn_1 17 rfl rfl)
theorem dX13_heardIn_40 : decode cX13_heardIn 40 = .ok (.aload_n 0, 1) := dk_42 (dk_at dksX13_heardIn_1 18 rfl rfl)
theorem dX13_heardIn_41 : decode cX13_heardIn 41 = .ok (.dup, 1) := dk_89 (dk_at dksX13_heardIn_1 19 rfl rfl)
theorem dX13_heardIn_42 : decode cX13_heardIn 42 = .ok (.getfield 214, 3) := dk_180 0 214 (dk_at dksX13_heardIn_1 20 rfl rfl)
theorem dX13_heardIn_45 : decode cX13_heardIn 45 = .ok (.aload_n 0, 1) := dk_42 (dk_at dksX13_heardIn_1 23 rfl rfl)
theorem dX13_heardIn_46 : decode cX13_heardIn 46 = .ok (.invokevirtual 108, 3) := dk_182 0 108 (dk_at dksX13_heardIn_2 0 rfl rfl)
theorem dX13_heardIn_49 : decode cX13_heardIn 49 = .ok (.ifCond .eq 7, 3) := dk_153 0 7 (dk_at dksX13_heardIn_2 3 rfl rfl)
theorem dX13_heardIn_52 : decode cX13_heardIn 52 = .ok (.iconst 1, 1) := dk_4 (dk_at dksX13_heardIn_2 6 rfl rfl)
theorem dX13_heardIn_53 : decode cX13_heardIn 53 = .ok (.goto 4, 3) := dk_167 0 4 (dk_at dksX13_heardIn_2 7 rfl rfl)
theorem dX13_heardIn_56 : decode cX13_heardIn 56 = .ok (.iconst 0, 1) := dk_3 (dk_at dksX13_heardIn_2 10 rfl rfl)
theorem dX13_heardIn_57 : decode cX13_heardIn 57 = .ok (.iadd, 1) := dk_96 (dk_at dksX13_heardIn_2 11 rfl rfl)
theorem dX13_heardIn_58 : decode cX13_heardIn 58 = .ok (.putfield 214, 3) := dk_181 0 214 (dk_at dksX13_heardIn_2 12 rfl rfl)
theorem dX13_heardIn_61 : decode cX13_heardIn 61 = .ok (.aload_n 0, 1) := dk_42 (dk_at dksX13_heardIn_2 15 rfl rfl)
theorem dX13_heardIn_62 : decode cX13_heardIn 62 = .ok (.invokevirtual 146, 3) := dk_182 0 146 (dk_at dksX13_heardIn_2 16 rfl rfl)
theorem dX13_heardIn_65 : decode cX13_heardIn 65 = .ok (.iinc 3 1, 3) := dk_132 3 1 (dk_at dksX13_heardIn_2 19 rfl rfl)
theorem dX13_heardIn_68 : decode cX13_heardIn 68 = .ok (.goto (-48), 3) := dk_167 255 208 (dk_at dksX13_heardIn_3 0 rfl rfl)
theorem dX13_heardIn_71 : decode cX13_heardIn 71 = .ok (.aload_n 0, 1) := dk_42 (dk_at dksX13_heardIn_3 3 rfl rfl)
theorem dX13_heardIn_72 : decode cX13_heardIn 72 = .ok (.iload_n 2, 1) := dk_28 (dk_at dksX13_heardIn_3 4 rfl rfl)
theorem dX13_heardIn_73 : decode cX13_heardIn 73 = .ok (.invokevirtual 211, 3) := dk_182 0 211 (dk_at dksX13_heardIn_3 5 rfl rfl)
theorem dX13_heardIn_76 : decode cX13_heardIn 76 = .ok (.ireturn, 1) := dk_172 (dk_at dksX13_heardIn_3 8 rfl rfl)
abbrev cX13_when : ByteArray := prog_16_method_57_code
def yX13_when : MethodName := ⟨RX13, "when", "(I)I"⟩
def dkwX13_when_3 : List UInt8 := [167, 0, 4, 2, 182, 0, 211, 182, 0, 221, 172]
abbrev dktX13_when_3 : List UInt8 := dkwX13_when_3 ++ []
def dkwX13_when_2 : List UInt8 := [182, 0, 146, 132, 2, 1, 167, 255, 232, 42, 42, 42, 180, 0, 9, 6, 46, 27, 160, 0, 7, 28]
abbrev dktX13_when_2 : List UInt8 := dkwX13_when_2 ++ dktX13_when_3
def dkwX13_when_1 : List UInt8 := [184, 0, 75, 3, 61, 28, 17, 0, 200, 162, 0, 23, 42, 180, 0, 9, 6, 46, 27, 159, 0, 13, 42]
abbrev dktX13_when_1 : List UInt8 := dkwX13_when_1 ++ dktX13_when_2
def dkwX13_when_0 : List UInt8 := [27, 184, 0, 93, 154, 0, 10, 42, 18, 74, 182, 0, 80, 172, 42, 180, 0, 9, 42, 180, 0, 16]
abbrev dktX13_when_0 : List UInt8 := dkwX13_when_0 ++ dktX13_when_1
theorem dksX13_when_0 : cX13_when.data.toList.drop 0 = dktX13_when_0 := by decide +kernel
theorem dksX13_when_1 : cX13_when.data.toList.drop 22 = dktX13_when_1 := dk_seg dksX13_when_0 22 rfl rfl
theorem dksX13_when_2 : cX13_when.data.toList.drop 45 = dktX13_when_2 := dk_seg dksX13_when_1 23 rfl rfl
theorem dksX13_when_3 : cX13_when.data.toList.drop 67 = dktX13_when_3 := dk_seg dksX13_when_2 22 rfl rfl
theorem dX13_when_0 : decode cX13_when 0 = .ok (.iload_n 1, 1) := dk_27 (dk_at dksX13_when_0 0 rfl rfl)
theorem dX13_when_1 : decode cX13_when 1 = .ok (.invokestatic 93, 3) := dk_184 0 93 (dk_at dksX13_when_0 1 rfl rfl)
theorem dX13_when_4 : decode cX13_when 4 = .ok (.ifCond .ne 10, 3) := dk_154 0 10 (dk_at dksX13_when_0 4 rfl rfl)
theorem dX13_when_7 : decode cX13_when 7 = .ok (.aload_n 0, 1) := dk_42 (dk_at dksX13_when_0 7 rfl rfl)
theorem dX13_when_8 : decode cX13_when 8 = .ok (.ldc 74, 2) := dk_18 74 (dk_at dksX13_when_0 8 rfl rfl)
theorem dX13_when_10 : decode cX13_when 10 = .ok (.invokevirtual 80, 3) := dk_182 0 80 (dk_at dksX13_when_0 10 rfl rfl)
theorem dX13_when_13 : decode cX13_when 13 = .ok (.ireturn, 1) := dk_172 (dk_at dksX13_when_0 13 rfl rfl)
theorem dX13_when_14 : decode cX13_when 14 = .ok (.aload_n 0, 1) := dk_42 (dk_at dksX13_when_0 14 rfl rfl)
theorem dX13_when_15 : decode cX13_when 15 = .ok (.getfield 9, 3) := dk_180 0 9 (dk_at dksX13_when_0 15 rfl rfl)
theorem dX13_when_18 : decode cX13_when 18 = .ok (.aload_n 0, 1) := dk_42 (dk_at dksX13_when_0 18 rfl rfl)
theorem dX13_when_19 : decode cX13_when 19 = .ok (.getfield 16, 3) := dk_180 0 16 (dk_at dksX13_when_0 19 rfl rfl)
theorem dX13_when_22 : decode cX13_when 22 = .ok (.invokestatic 75, 3) := dk_184 0 75 (dk_at dksX13_when_1 0 rfl rfl)
theorem dX13_when_25 : decode cX13_when 25 = .ok (.iconst 0, 1) := dk_3 (dk_at dksX13_when_1 3 rfl rfl)
theorem dX13_when_26 : decode cX13_when 26 = .ok (.istore_n 2, 1) := dk_61 (dk_at dksX13_when_1 4 rfl rfl)
theorem dX13_when_27 : decode cX13_when 27 = .ok (.iload_n 2, 1) := dk_28 (dk_at dksX13_when_1 5 rfl rfl)
theorem dX13_when_28 : decode cX13_when 28 = .ok (.sipush 200, 3) := dk_17 0 200 (dk_at dksX13_when_1 6 rfl rfl)
theorem dX13_when_31 : decode cX13_when 31 = .ok (.if_icmp .ge 23, 3) := dk_162 0 23 (dk_at dksX13_when_1 9 rfl rfl)
theorem dX13_when_34 : decode cX13_when 34 = .ok (.aload_n 0, 1) := dk_42 (dk_at dksX13_when_1 12 rfl rfl)
theorem dX13_when_35 : decode cX13_when 35 = .ok (.getfield 9, 3) := dk_180 0 9 (dk_at dksX13_when_1 13 rfl rfl)
theorem dX13_when_38 : decode cX13_when 38 = .ok (.iconst 3, 1) := dk_6 (dk_at dksX13_when_1 16 rfl rfl)
theorem dX13_when_39 : decode cX13_when 39 = .ok (.iaload, 1) := dk_46 (dk_at dksX13_when_1 17 rfl rfl)
theorem dX13_when_40 : decode cX13_when 40 = .ok (.iload_n 1, 1) := dk_27 (dk_at dksX13_when_1 18 rfl rfl)
theorem dX13_when_41 : decode cX13_when 41 = .ok (.if_icmp .eq 13, 3) := dk_159 0 13 (dk_at dksX13_when_1 19 rfl rfl)
theorem dX13_when_44 : decode cX13_when 44 = .ok (.aload_n 0, 1) := dk_42 (dk_at dksX13_when_1 22 rfl rfl)
theorem dX13_when_45 : decode cX13_when 45 = .ok (.invokevirtual 146, 3) := dk_182 0 146 (dk_at dksX13_when_2 0 rfl rfl)
theorem dX13_when_48 : decode cX13_when 48 = .ok (.iinc 2 1, 3) := dk_132 2 1 (dk_at dksX13_when_2 3 rfl rfl)
theorem dX13_when_51 : decode cX13_when 51 = .ok (.goto (-24), 3) := dk_167 255 232 (dk_at dksX13_when_2 6 rfl rfl)
theorem dX13_when_54 : decode cX13_when 54 = .ok (.aload_n 0, 1) := dk_42 (dk_at dksX13_when_2 9 rfl rfl)
theorem dX13_when_55 : decode cX13_when 55 = .ok (.aload_n 0, 1) := dk_42 (dk_at dksX13_when_2 10 rfl rfl)
theorem dX13_when_56 : decode cX13_when 56 = .ok (.aload_n 0, 1) := dk_42 (dk_at dksX13_when_2 11 rfl rfl)
theorem dX13_when_57 : decode cX13_when 57 = .ok (.getfield 9, 3) := dk_180 0 9 (dk_at dksX13_when_2 12 rfl rfl)
theorem dX13_when_60 : decode cX13_when 60 = .ok (.iconst 3, 1) := dk_6 (dk_at dksX13_when_2 15 rfl rfl)
theorem dX13_when_61 : decode cX13_when 61 = .ok (.iaload, 1) := dk_46 (dk_at dksX13_when_2 16 rfl rfl)
theorem dX13_when_62 : decode cX13_when 62 = .ok (.iload_n 1, 1) := dk_27 (dk_at dksX13_when_2 17 rfl rfl)
theorem dX13_when_63 : decode cX13_when 63 = .ok (.if_icmp .ne 7, 3) := dk_160 0 7 (dk_at dksX13_when_2 18 rfl rfl)
theorem dX13_when_66 : decode cX13_when 66 = .ok (.iload_n 2, 1) := dk_28 (dk_at dksX13_when_2 21 rfl rfl)
theorem dX13_when_67 : decode cX13_when 67 = .ok (.goto 4, 3) := dk_167 0 4 (dk_at dksX13_when_3 0 rfl rfl)
theorem dX13_when_70 : decode cX13_when 70 = .ok (.iconst (-1), 1) := dk_2 (dk_at dksX13_when_3 3 rfl rfl)
theorem dX13_when_71 : decode cX13_when 71 = .ok (.invokevirtual 211, 3) := dk_182 0 211 (dk_at dksX13_when_3 4 rfl rfl)
theorem dX13_when_74 : decode cX13_when 74 = .ok (.invokevirtual 221, 3) := dk_182 0 221 (dk_at dksX13_when_3 7 rfl rfl)
theorem dX13_when_77 : decode cX13_when 77 = .ok (.ireturn, 1) := dk_172 (dk_at dksX13_when_3 10 rfl rfl)
abbrev cX13_orNone : ByteArray := prog_16_method_7_code
def yX13_orNone : MethodName := ⟨RX13, "orNone", "(I)I"⟩
def dkwX13_orNone_0 : List UInt8 := [27, 156, 0, 12, 42, 18, 79, 182, 0, 80, 167, 0, 4, 27, 172]
abbrev dktX13_orNone_0 : List UInt8 := dkwX13_orNone_0 ++ []
theorem dksX13_orNone_0 : cX13_orNone.data.toList.drop 0 = dktX13_orNone_0 := by decide +kernel
theorem dX13_orNone_0 : decode cX13_orNone 0 = .ok (.iload_n 1, 1) := dk_27 (dk_at dksX13_orNone_0 0 rfl rfl)
theorem dX13_orNone_1 : decode cX13_orNone 1 = .ok (.ifCond .ge 12, 3) := dk_156 0 12 (dk_at dksX13_orNone_0 1 rfl rfl)
theorem dX13_orNone_4 : decode cX13_orNone 4 = .ok (.aload_n 0, 1) := dk_42 (dk_at dksX13_orNone_0 4 rfl rfl)
theorem dX13_orNone_5 : decode cX13_orNone 5 = .ok (.ldc 79, 2) := dk_18 79 (dk_at dksX13_orNone_0 5 rfl rfl)
theorem dX13_orNone_7 : decode cX13_orNone 7 = .ok (.invokevirtual 80, 3) := dk_182 0 80 (dk_at dksX13_orNone_0 7 rfl rfl)
theorem dX13_orNone_10 : decode cX13_orNone 10 = .ok (.goto 4, 3) := dk_167 0 4 (dk_at dksX13_orNone_0 10 rfl rfl)
theorem dX13_orNone_13 : decode cX13_orNone 13 = .ok (.iload_n 1, 1) := dk_27 (dk_at dksX13_orNone_0 13 rfl rfl)
theorem dX13_orNone_14 : decode cX13_orNone 14 = .ok (.ireturn, 1) := dk_172 (dk_at dksX13_orNone_0 14 rfl rfl)
abbrev cX13_rustle : ByteArray := prog_16_method_58_code
def yX13_rustle : MethodName := ⟨RX13, "rustle", "()I"⟩
def dkwX13_rustle_2 : List UInt8 := [167, 0, 4, 2, 182, 0, 211, 182, 0, 221, 172]
abbrev dktX13_rustle_2 : List UInt8 := dkwX13_rustle_2 ++ []
def dkwX13_rustle_1 : List UInt8 := [154, 0, 13, 42, 182, 0, 146, 132, 1, 1, 167, 255, 235, 42, 42, 42, 182, 0, 196, 153, 0, 7, 27]
abbrev dktX13_rustle_1 : List UInt8 := dkwX13_rustle_1 ++ dktX13_rustle_2
def dkwX13_rustle_0 : List UInt8 := [42, 180, 0, 9, 42, 180, 0, 16, 184, 0, 75, 3, 60, 27, 17, 0, 200, 162, 0, 20, 42, 182, 0, 196]
abbrev dktX13_rustle_0 : List UInt8 := dkwX13_rustle_0 ++ dktX13_rustle_1
theorem dksX13_rustle_0 : cX13_rustle.data.toList.drop 0 = dktX13_rustle_0 := by decide +kernel
theorem dksX13_rustle_1 : cX13_rustle.data.toList.drop 24 = dktX13_rustle_1 := dk_seg dksX13_rustle_0 24 rfl rfl
theorem dksX13_rustle_2 : cX13_rustle.data.toList.drop 47 = dktX13_rustle_2 := dk_seg dksX13_rustle_1 23 rfl rfl
theorem dX13_rustle_0 : decode cX13_rustle 0 = .ok (.aload_n 0, 1) := dk_42 (dk_at dksX13_rustle_0 0 rfl rfl)
theorem dX13_rustle_1 : decode cX13_rustle 1 = .ok (.getfield 9, 3) := dk_180 0 9 (dk_at dksX13_rustle_0 1 rfl rfl)
theorem dX13_rustle_4 : decode cX13_rustle 4 = .ok (.aload_n 0, 1) := dk_42 (dk_at dksX13_rustle_0 4 rfl rfl)
theorem dX13_rustle_5 : decode cX13_rustle 5 = .ok (.getfield 16, 3) := dk_180 0 16 (dk_at dksX13_rustle_0 5 rfl rfl)
theorem dX13_rustle_8 : decode cX13_rustle 8 = .ok (.invokestatic 75, 3) := dk_184 0 75 (dk_at dksX13_rustle_0 8 rfl rfl)
theorem dX13_rustle_11 : decode cX13_rustle 11 = .ok (.iconst 0, 1) := dk_3 (dk_at dksX13_rustle_0 11 rfl rfl)
theorem dX13_rustle_12 : decode cX13_rustle 12 = .ok (.istore_n 1, 1) := dk_60 (dk_at dksX13_rustle_0 12 rfl rfl)
theorem dX13_rustle_13 : decode cX13_rustle 13 = .ok (.iload_n 1, 1) := dk_27 (dk_at dksX13_rustle_0 13 rfl rfl)
theorem dX13_rustle_14 : decode cX13_rustle 14 = .ok (.sipush 200, 3) := dk_17 0 200 (dk_at dksX13_rustle_0 14 rfl rfl)
theorem dX13_rustle_17 : decode cX13_rustle 17 = .ok (.if_icmp .ge 20, 3) := dk_162 0 20 (dk_at dksX13_rustle_0 17 rfl rfl)
theorem dX13_rustle_20 : decode cX13_rustle 20 = .ok (.aload_n 0, 1) := dk_42 (dk_at dksX13_rustle_0 20 rfl rfl)
theorem dX13_rustle_21 : decode cX13_rustle 21 = .ok (.invokevirtual 196, 3) := dk_182 0 196 (dk_at dksX13_rustle_0 21 rfl rfl)
theorem dX13_rustle_24 : decode cX13_rustle 24 = .ok (.ifCond .ne 13, 3) := dk_154 0 13 (dk_at dksX13_rustle_1 0 rfl rfl)
theorem dX13_rustle_27 : decode cX13_rustle 27 = .ok (.aload_n 0, 1) := dk_42 (dk_at dksX13_rustle_1 3 rfl rfl)
theorem dX13_rustle_28 : decode cX13_rustle 28 = .ok (.invokevirtual 146, 3) := dk_182 0 146 (dk_at dksX13_rustle_1 4 rfl rfl)
theorem dX13_rustle_31 : decode cX13_rustle 31 = .ok (.iinc 1 1, 3) := dk_132 1 1 (dk_at dksX13_rustle_1 7 rfl rfl)
theorem dX13_rustle_34 : decode cX13_rustle 34 = .ok (.goto (-21), 3) := dk_167 255 235 (dk_at dksX13_rustle_1 10 rfl rfl)
theorem dX13_rustle_37 : decode cX13_rustle 37 = .ok (.aload_n 0, 1) := dk_42 (dk_at dksX13_rustle_1 13 rfl rfl)
theorem dX13_rustle_38 : decode cX13_rustle 38 = .ok (.aload_n 0, 1) := dk_42 (dk_at dksX13_rustle_1 14 rfl rfl)
theorem dX13_rustle_39 : decode cX13_rustle 39 = .ok (.aload_n 0, 1) := dk_42 (dk_at dksX13_rustle_1 15 rfl rfl)
theorem dX13_rustle_40 : decode cX13_rustle 40 = .ok (.invokevirtual 196, 3) := dk_182 0 196 (dk_at dksX13_rustle_1 16 rfl rfl)
theorem dX13_rustle_43 : decode cX13_rustle 43 = .ok (.ifCond .eq 7, 3) := dk_153 0 7 (dk_at dksX13_rustle_1 19 rfl rfl)
theorem dX13_rustle_46 : decode cX13_rustle 46 = .ok (.iload_n 1, 1) := dk_27 (dk_at dksX13_rustle_1 22 rfl rfl)
theorem dX13_rustle_47 : decode cX13_rustle 47 = .ok (.goto 4, 3) := dk_167 0 4 (dk_at dksX13_rustle_2 0 rfl rfl)
theorem dX13_rustle_50 : decode cX13_rustle 50 = .ok (.iconst (-1), 1) := dk_2 (dk_at dksX13_rustle_2 3 rfl rfl)
theorem dX13_rustle_51 : decode cX13_rustle 51 = .ok (.invokevirtual 211, 3) := dk_182 0 211 (dk_at dksX13_rustle_2 4 rfl rfl)
theorem dX13_rustle_54 : decode cX13_rustle 54 = .ok (.invokevirtual 221, 3) := dk_182 0 221 (dk_at dksX13_rustle_2 7 rfl rfl)
theorem dX13_rustle_57 : decode cX13_rustle 57 = .ok (.ireturn, 1) := dk_172 (dk_at dksX13_rustle_2 10 rfl rfl)
abbrev cX13_run : ByteArray := prog_16_method_59_code
def yX13_run : MethodName := ⟨RX13, "run", "(I)J"⟩
def dkwX13_run_3 : List UInt8 := [42, 180, 0, 9, 184, 0, 75, 32, 173]
abbrev dktX13_run_3 : List UInt8 := dkwX13_run_3 ++ []
def dkwX13_run_2 : List UInt8 := [182, 0, 146, 32, 10, 42, 180, 0, 9, 6, 46, 121, 129, 65, 132, 4, 1, 167, 255, 232, 42, 180, 0, 16]
abbrev dktX13_run_2 : List UInt8 := dkwX13_run_2 ++ dktX13_run_3
def dkwX13_run_1 : List UInt8 := [184, 0, 75, 10, 42, 180, 0, 9, 6, 46, 121, 65, 3, 54, 4, 21, 4, 27, 162, 0, 24, 42]
abbrev dktX13_run_1 : List UInt8 := dkwX13_run_1 ++ dktX13_run_2
def dkwX13_run_0 : List UInt8 := [27, 184, 0, 208, 154, 0, 11, 42, 18, 74, 182, 0, 80, 133, 173, 42, 180, 0, 9, 42, 180, 0, 16]
abbrev dktX13_run_0 : List UInt8 := dkwX13_run_0 ++ dktX13_run_1
theorem dksX13_run_0 : cX13_run.data.toList.drop 0 = dktX13_run_0 := by decide +kernel
theorem dksX13_run_1 : cX13_run.data.toList.drop 23 = dktX13_run_1 := dk_seg dksX13_run_0 23 rfl rfl
theorem dksX13_run_2 : cX13_run.data.toList.drop 45 = dktX13_run_2 := dk_seg dksX13_run_1 22 rfl rfl
theorem dksX13_run_3 : cX13_run.data.toList.drop 69 = dktX13_run_3 := dk_seg dksX13_run_2 24 rfl rfl
theorem dX13_run_0 : decode cX13_run 0 = .ok (.iload_n 1, 1) := dk_27 (dk_at dksX13_run_0 0 rfl rfl)
theorem dX13_run_1 : decode cX13_run 1 = .ok (.invokestatic 208, 3) := dk_184 0 208 (dk_at dksX13_run_0 1 rfl rfl)
theorem dX13_run_4 : decode cX13_run 4 = .ok (.ifCond .ne 11, 3) := dk_154 0 11 (dk_at dksX13_run_0 4 rfl rfl)
theorem dX13_run_7 : decode cX13_run 7 = .ok (.aload_n 0, 1) := dk_42 (dk_at dksX13_run_0 7 rfl rfl)
theorem dX13_run_8 : decode cX13_run 8 = .ok (.ldc 74, 2) := dk_18 74 (dk_at dksX13_run_0 8 rfl rfl)
theorem dX13_run_10 : decode cX13_run 10 = .ok (.invokevirtual 80, 3) := dk_182 0 80 (dk_at dksX13_run_0 10 rfl rfl)
theorem dX13_run_13 : decode cX13_run 13 = .ok (.i2l, 1) := dk_133 (dk_at dksX13_run_0 13 rfl rfl)
theorem dX13_run_14 : decode cX13_run 14 = .ok (.lreturn, 1) := dk_173 (dk_at dksX13_run_0 14 rfl rfl)
theorem dX13_run_15 : decode cX13_run 15 = .ok (.aload_n 0, 1) := dk_42 (dk_at dksX13_run_0 15 rfl rfl)
theorem dX13_run_16 : decode cX13_run 16 = .ok (.getfield 9, 3) := dk_180 0 9 (dk_at dksX13_run_0 16 rfl rfl)
theorem dX13_run_19 : decode cX13_run 19 = .ok (.aload_n 0, 1) := dk_42 (dk_at dksX13_run_0 19 rfl rfl)
theorem dX13_run_20 : decode cX13_run 20 = .ok (.getfield 16, 3) := dk_180 0 16 (dk_at dksX13_run_0 20 rfl rfl)
theorem dX13_run_23 : decode cX13_run 23 = .ok (.invokestatic 75, 3) := dk_184 0 75 (dk_at dksX13_run_1 0 rfl rfl)
theorem dX13_run_26 : decode cX13_run 26 = .ok (.lconst 1, 1) := dk_10 (dk_at dksX13_run_1 3 rfl rfl)
theorem dX13_run_27 : decode cX13_run 27 = .ok (.aload_n 0, 1) := dk_42 (dk_at dksX13_run_1 4 rfl rfl)
theorem dX13_run_28 : decode cX13_run 28 = .ok (.getfield 9, 3) := dk_180 0 9 (dk_at dksX13_run_1 5 rfl rfl)
theorem dX13_run_31 : decode cX13_run 31 = .ok (.iconst 3, 1) := dk_6 (dk_at dksX13_run_1 8 rfl rfl)
theorem dX13_run_32 : decode cX13_run 32 = .ok (.iaload, 1) := dk_46 (dk_at dksX13_run_1 9 rfl rfl)
theorem dX13_run_33 : decode cX13_run 33 = .ok (.lshl, 1) := dk_121 (dk_at dksX13_run_1 10 rfl rfl)
theorem dX13_run_34 : decode cX13_run 34 = .ok (.lstore_n 2, 1) := dk_65 (dk_at dksX13_run_1 11 rfl rfl)
theorem dX13_run_35 : decode cX13_run 35 = .ok (.iconst 0, 1) := dk_3 (dk_at dksX13_run_1 12 rfl rfl)
theorem dX13_run_36 : decode cX13_run 36 = .ok (.istore 4, 2) := dk_54 4 (dk_at dksX13_run_1 13 rfl rfl)
theorem dX13_run_38 : decode cX13_run 38 = .ok (.iload 4, 2) := dk_21 4 (dk_at dksX13_run_1 15 rfl rfl)
theorem dX13_run_40 : decode cX13_run 40 = .ok (.iload_n 1, 1) := dk_27 (dk_at dksX13_run_1 17 rfl rfl)
theorem dX13_run_41 : decode cX13_run 41 = .ok (.if_icmp .ge 24, 3) := dk_162 0 24 (dk_at dksX13_run_1 18 rfl rfl)
theorem dX13_run_44 : decode cX13_run 44 = .ok (.aload_n 0, 1) := dk_42 (dk_at dksX13_run_1 21 rfl rfl)
theorem dX13_run_45 : decode cX13_run 45 = .ok (.invokevirtual 146, 3) := dk_182 0 146 (dk_at dksX13_run_2 0 rfl rfl)
theorem dX13_run_48 : decode cX13_run 48 = .ok (.lload_n 2, 1) := dk_32 (dk_at dksX13_run_2 3 rfl rfl)
theorem dX13_run_49 : decode cX13_run 49 = .ok (.lconst 1, 1) := dk_10 (dk_at dksX13_run_2 4 rfl rfl)
theorem dX13_run_50 : decode cX13_run 50 = .ok (.aload_n 0, 1) := dk_42 (dk_at dksX13_run_2 5 rfl rfl)
theorem dX13_run_51 : decode cX13_run 51 = .ok (.getfield 9, 3) := dk_180 0 9 (dk_at dksX13_run_2 6 rfl rfl)
theorem dX13_run_54 : decode cX13_run 54 = .ok (.iconst 3, 1) := dk_6 (dk_at dksX13_run_2 9 rfl rfl)
theorem dX13_run_55 : decode cX13_run 55 = .ok (.iaload, 1) := dk_46 (dk_at dksX13_run_2 10 rfl rfl)
theorem dX13_run_56 : decode cX13_run 56 = .ok (.lshl, 1) := dk_121 (dk_at dksX13_run_2 11 rfl rfl)
theorem dX13_run_57 : decode cX13_run 57 = .ok (.lor, 1) := dk_129 (dk_at dksX13_run_2 12 rfl rfl)
theorem dX13_run_58 : decode cX13_run 58 = .ok (.lstore_n 2, 1) := dk_65 (dk_at dksX13_run_2 13 rfl rfl)
theorem dX13_run_59 : decode cX13_run 59 = .ok (.iinc 4 1, 3) := dk_132 4 1 (dk_at dksX13_run_2 14 rfl rfl)
theorem dX13_run_62 : decode cX13_run 62 = .ok (.goto (-24), 3) := dk_167 255 232 (dk_at dksX13_run_2 17 rfl rfl)
theorem dX13_run_65 : decode cX13_run 65 = .ok (.aload_n 0, 1) := dk_42 (dk_at dksX13_run_2 20 rfl rfl)
theorem dX13_run_66 : decode cX13_run 66 = .ok (.getfield 16, 3) := dk_180 0 16 (dk_at dksX13_run_2 21 rfl rfl)
theorem dX13_run_69 : decode cX13_run 69 = .ok (.aload_n 0, 1) := dk_42 (dk_at dksX13_run_3 0 rfl rfl)
theorem dX13_run_70 : decode cX13_run 70 = .ok (.getfield 9, 3) := dk_180 0 9 (dk_at dksX13_run_3 1 rfl rfl)
theorem dX13_run_73 : decode cX13_run 73 = .ok (.invokestatic 75, 3) := dk_184 0 75 (dk_at dksX13_run_3 4 rfl rfl)
theorem dX13_run_76 : decode cX13_run 76 = .ok (.lload_n 2, 1) := dk_32 (dk_at dksX13_run_3 7 rfl rfl)
theorem dX13_run_77 : decode cX13_run 77 = .ok (.lreturn, 1) := dk_173 (dk_at dksX13_run_3 8 rfl rfl)
abbrev cX13_soonest : ByteArray := prog_16_method_60_code
def yX13_soonest : MethodName := ⟨RX13, "soonest", "(I)I"⟩
def dkwX13_soonest_3 : List UInt8 := [182, 0, 221, 172]
abbrev dktX13_soonest_3 : List UInt8 := dkwX13_soonest_3 ++ []
def dkwX13_soonest_2 : List UInt8 := [132, 2, 1, 167, 255, 234, 42, 42, 42, 27, 182, 0, 182, 153, 0, 7, 28, 167, 0, 4, 2, 182, 0, 211]
abbrev dktX13_soonest_2 : List UInt8 := dkwX13_soonest_2 ++ dktX13_soonest_3
def dkwX13_soonest_1 : List UInt8 := [184, 0, 75, 3, 61, 28, 17, 0, 200, 162, 0, 21, 42, 27, 182, 0, 182, 154, 0, 13, 42, 182, 0, 146]
abbrev dktX13_soonest_1 : List UInt8 := dkwX13_soonest_1 ++ dktX13_soonest_2
def dkwX13_soonest_0 : List UInt8 := [42, 27, 182, 0, 179, 154, 0, 10, 42, 18, 74, 182, 0, 80, 172, 42, 180, 0, 9, 42, 180, 0, 16]
abbrev dktX13_soonest_0 : List UInt8 := dkwX13_soonest_0 ++ dktX13_soonest_1
theorem dksX13_soonest_0 : cX13_soonest.data.toList.drop 0 = dktX13_soonest_0 := by decide +kernel
theorem dksX13_soonest_1 : cX13_soonest.data.toList.drop 23 = dktX13_soonest_1 := dk_seg dksX13_soonest_0 23 rfl rfl
theorem dksX13_soonest_2 : cX13_soonest.data.toList.drop 47 = dktX13_soonest_2 := dk_seg dksX13_soonest_1 24 rfl rfl
theorem dksX13_soonest_3 : cX13_soonest.data.toList.drop 71 = dktX13_soonest_3 := dk_seg dksX13_soonest_2 24 rfl rfl
theorem dX13_soonest_0 : decode cX13_soonest 0 = .ok (.aload_n 0, 1) := dk_42 (dk_at dksX13_soonest_0 0 rfl rfl)
theorem dX13_soonest_1 : decode cX13_soonest 1 = .ok (.iload_n 1, 1) := dk_27 (dk_at dksX13_soonest_0 1 rfl rfl)
theorem dX13_soonest_2 : decode cX13_soonest 2 = .ok (.invokevirtual 179, 3) := dk_182 0 179 (dk_at dksX13_soonest_0 2 rfl rfl)
theorem dX13_soonest_5 : decode cX13_soonest 5 = .ok (.ifCond .ne 10, 3) := dk_154 0 10 (dk_at dksX13_soonest_0 5 rfl rfl)
theorem dX13_soonest_8 : decode cX13_soonest 8 = .ok (.aload_n 0, 1) := dk_42 (dk_at dksX13_soonest_0 8 rfl rfl)
theorem dX13_soonest_9 : decode cX13_soonest 9 = .ok (.ldc 74, 2) := dk_18 74 (dk_at dksX13_soonest_0 9 rfl rfl)
theorem dX13_soonest_11 : decode cX13_soonest 11 = .ok (.invokevirtual 80, 3) := dk_182 0 80 (dk_at dksX13_soonest_0 11 rfl rfl)
theorem dX13_soonest_14 : decode cX13_soonest 14 = .ok (.ireturn, 1) := dk_172 (dk_at dksX13_soonest_0 14 rfl rfl)
theorem dX13_soonest_15 : decode cX13_soonest 15 = .ok (.aload_n 0, 1) := dk_42 (dk_at dksX13_soonest_0 15 rfl rfl)
theorem dX13_soonest_16 : decode cX13_soonest 16 = .ok (.getfield 9, 3) := dk_180 0 9 (dk_at dksX13_soonest_0 16 rfl rfl)
theorem dX13_soonest_19 : decode cX13_soonest 19 = .ok (.aload_n 0, 1) := dk_42 (dk_at dksX13_soonest_0 19 rfl rfl)
theorem dX13_soonest_20 : decode cX13_soonest 20 = .ok (.getfield 16, 3) := dk_180 0 16 (dk_at dksX13_soonest_0 20 rfl rfl)
theorem dX13_soonest_23 : decode cX13_soonest 23 = .ok (.invokestatic 75, 3) := dk_184 0 75 (dk_at dksX13_soonest_1 0 rfl rfl)
theorem dX13_soonest_26 : decode cX13_soonest 26 = .ok (.iconst 0, 1) := dk_3 (dk_at dksX13_soonest_1 3 rfl rfl)
theorem dX13_soonest_27 : decode cX13_soonest 27 = .ok (.istore_n 2, 1) := dk_61 (dk_at dksX13_soonest_1 4 rfl rfl)
theorem dX13_soonest_28 : decode cX13_soonest 28 = .ok (.iload_n 2, 1) := dk_28 (dk_at dksX13_soonest_1 5 rfl rfl)
theorem dX13_soonest_29 : decode cX13_soonest 29 = .ok (.sipush 200, 3) := dk_17 0 200 (dk_at dksX13_soonest_1 6 rfl rfl)
theorem dX13_soonest_32 : decode cX13_soonest 32 = .ok (.if_icmp .ge 21, 3) := dk_162 0 21 (dk_at dksX13_soonest_1 9 rfl rfl)
theorem dX13_soonest_35 : decode cX13_soonest 35 = .ok (.aload_n 0, 1) := dk_42 (dk_at dksX13_soonest_1 12 rfl rfl)
theorem dX13_soonest_36 : decode cX13_soonest 36 = .ok (.iload_n 1, 1) := dk_27 (dk_at dksX13_soonest_1 13 rfl rfl)
theorem dX13_soonest_37 : decode cX13_soonest 37 = .ok (.invokevirtual 182, 3) := dk_182 0 182 (dk_at dksX13_soonest_1 14 rfl rfl)
theorem dX13_soonest_40 : decode cX13_soonest 40 = .ok (.ifCond .ne 13, 3) := dk_154 0 13 (dk_at dksX13_soonest_1 17 rfl rfl)
theorem dX13_soonest_43 : decode cX13_soonest 43 = .ok (.aload_n 0, 1) := dk_42 (dk_at dksX13_soonest_1 20 rfl rfl)
theorem dX13_soonest_44 : decode cX13_soonest 44 = .ok (.invokevirtual 146, 3) := dk_182 0 146 (dk_at dksX13_soonest_1 21 rfl rfl)
theorem dX13_soonest_47 : decode cX13_soonest 47 = .ok (.iinc 2 1, 3) := dk_132 2 1 (dk_at dksX13_soonest_2 0 rfl rfl)
theorem dX13_soonest_50 : decode cX13_soonest 50 = .ok (.goto (-22), 3) := dk_167 255 234 (dk_at dksX13_soonest_2 3 rfl rfl)
theorem dX13_soonest_53 : decode cX13_soonest 53 = .ok (.aload_n 0, 1) := dk_42 (dk_at dksX13_soonest_2 6 rfl rfl)
theorem dX13_soonest_54 : decode cX13_soonest 54 = .ok (.aload_n 0, 1) := dk_42 (dk_at dksX13_soonest_2 7 rfl rfl)
theorem dX13_soonest_55 : decode cX13_soonest 55 = .ok (.aload_n 0, 1) := dk_42 (dk_at dksX13_soonest_2 8 rfl rfl)
theorem dX13_soonest_56 : decode cX13_soonest 56 = .ok (.iload_n 1, 1) := dk_27 (dk_at dksX13_soonest_2 9 rfl rfl)
theorem dX13_soonest_57 : decode cX13_soonest 57 = .ok (.invokevirtual 182, 3) := dk_182 0 182 (dk_at dksX13_soonest_2 10 rfl rfl)
theorem dX13_soonest_60 : decode cX13_soonest 60 = .ok (.ifCond .eq 7, 3) := dk_153 0 7 (dk_at dksX13_soonest_2 13 rfl rfl)
theorem dX13_soonest_63 : decode cX13_soonest 63 = .ok (.iload_n 2, 1) := dk_28 (dk_at dksX13_soonest_2 16 rfl rfl)
theorem dX13_soonest_64 : decode cX13_soonest 64 = .ok (.goto 4, 3) := dk_167 0 4 (dk_at dksX13_soonest_2 17 rfl rfl)
theorem dX13_soonest_67 : decode cX13_soonest 67 = .ok (.iconst (-1), 1) := dk_2 (dk_at dksX13_soonest_2 20 rfl rfl)
theorem dX13_soonest_68 : decode cX13_soonest 68 = .ok (.invokevirtual 211, 3) := dk_182 0 211 (dk_at dksX13_soonest_2 21 rfl rfl)
theorem dX13_soonest_71 : decode cX13_soonest 71 = .ok (.invokevirtual 221, 3) := dk_182 0 221 (dk_at dksX13_soonest_3 0 rfl rfl)
theorem dX13_soonest_74 : decode cX13_soonest 74 = .ok (.ireturn, 1) := dk_172 (dk_at dksX13_soonest_3 3 rfl rfl)
abbrev cX13_chances : ByteArray := prog_16_method_62_code
def yX13_chances : MethodName := ⟨RX13, "chances", "(II)I"⟩
def dkwX13_chances_1 : List UInt8 := [42, 18, 74, 182, 0, 80, 172]
abbrev dktX13_chances_1 : List UInt8 := dkwX13_chances_1 ++ []
def dkwX13_chances_0 : List UInt8 := [42, 27, 182, 0, 179, 153, 0, 19, 28, 184, 0, 208, 153, 0, 12, 42, 27, 28, 182, 0, 224, 167, 0, 9]
abbrev dktX13_chances_0 : List UInt8 := dkwX13_chances_0 ++ dktX13_chances_1
theorem dksX13_chances_0 : cX13_chances.data.toList.drop 0 = dktX13_chances_0 := by decide +kernel
theorem dksX13_chances_1 : cX13_chances.data.toList.drop 24 = dktX13_chances_1 := dk_seg dksX13_chances_0 24 rfl rfl
theorem dX13_chances_0 : decode cX13_chances 0 = .ok (.aload_n 0, 1) := dk_42 (dk_at dksX13_chances_0 0 rfl rfl)
theorem dX13_chances_1 : decode cX13_chances 1 = .ok (.iload_n 1, 1) := dk_27 (dk_at dksX13_chances_0 1 rfl rfl)
theorem dX13_chances_2 : decode cX13_chances 2 = .ok (.invokevirtual 179, 3) := dk_182 0 179 (dk_at dksX13_chances_0 2 rfl rfl)
theorem dX13_chances_5 : decode cX13_chances 5 = .ok (.ifCond .eq 19, 3) := dk_153 0 19 (dk_at dksX13_chances_0 5 rfl rfl)
theorem dX13_chances_8 : decode cX13_chances 8 = .ok (.iload_n 2, 1) := dk_28 (dk_at dksX13_chances_0 8 rfl rfl)
theorem dX13_chances_9 : decode cX13_chances 9 = .ok (.invokestatic 208, 3) := dk_184 0 208 (dk_at dksX13_chances_0 9 rfl rfl)
theorem dX13_chances_12 : decode cX13_chances 12 = .ok (.ifCond .eq 12, 3) := dk_153 0 12 (dk_at dksX13_chances_0 12 rfl rfl)
theorem dX13_chances_15 : decode cX13_chances 15 = .ok (.aload_n 0, 1) := dk_42 (dk_at dksX13_chances_0 15 rfl rfl)
theorem dX13_chances_16 : decode cX13_chances 16 = .ok (.iload_n 1, 1) := dk_27 (dk_at dksX13_chances_0 16 rfl rfl)
theorem dX13_chances_17 : decode cX13_chances 17 = .ok (.iload_n 2, 1) := dk_28 (dk_at dksX13_chances_0 17 rfl rfl)
theorem dX13_chances_18 : decode cX13_chances 18 = .ok (.invokevirtual 224, 3) := dk_182 0 224 (dk_at dksX13_chances_0 18 rfl rfl)
theorem dX13_chances_21 : decode cX13_chances 21 = .ok (.goto 9, 3) := dk_167 0 9 (dk_at dksX13_chances_0 21 rfl rfl)
theorem dX13_chances_24 : decode cX13_chances 24 = .ok (.aload_n 0, 1) := dk_42 (dk_at dksX13_chances_1 0 rfl rfl)
theorem dX13_chances_25 : decode cX13_chances 25 = .ok (.ldc 74, 2) := dk_18 74 (dk_at dksX13_chances_1 1 rfl rfl)
theorem dX13_chances_27 : decode cX13_chances 27 = .ok (.invokevirtual 80, 3) := dk_182 0 80 (dk_at dksX13_chances_1 3 rfl rfl)
theorem dX13_chances_30 : decode cX13_chances 30 = .ok (.ireturn, 1) := dk_172 (dk_at dksX13_chances_1 6 rfl rfl)
abbrev cX13_chancesIn : ByteArray := prog_16_method_61_code
def yX13_chancesIn : MethodName := ⟨RX13, "chancesIn", "(II)I"⟩
def dkwX13_chancesIn_2 : List UInt8 := [42, 29, 182, 0, 211, 172]
abbrev dktX13_chancesIn_2 : List UInt8 := dkwX13_chancesIn_2 ++ []
def dkwX13_chancesIn_1 : List UInt8 := [27, 182, 0, 182, 153, 0, 7, 4, 167, 0, 4, 3, 96, 62, 42, 182, 0, 146, 132, 4, 1, 167, 255, 227]
abbrev dktX13_chancesIn_1 : List UInt8 := dkwX13_chancesIn_1 ++ dktX13_chancesIn_2
def dkwX13_chancesIn_0 : List UInt8 := [42, 180, 0, 9, 42, 180, 0, 16, 184, 0, 75, 3, 62, 3, 54, 4, 21, 4, 28, 162, 0, 29, 29, 42]
abbrev dktX13_chancesIn_0 : List UInt8 := dkwX13_chancesIn_0 ++ dktX13_chancesIn_1
theorem dksX13_chancesIn_0 : cX13_chancesIn.data.toList.drop 0 = dktX13_chancesIn_0 := by decide +kernel
theorem dksX13_chancesIn_1 : cX13_chancesIn.data.toList.drop 24 = dktX13_chancesIn_1 := dk_seg dksX13_chancesIn_0 24 rfl rfl
theorem dksX13_chancesIn_2 : cX13_chancesIn.data.toList.drop 48 = dktX13_chancesIn_2 := dk_seg dksX13_chancesIn_1 24 rfl rfl
theorem dX13_chancesIn_0 : decode cX13_chancesIn 0 = .ok (.aload_n 0, 1) := dk_42 (dk_at dksX13_chancesIn_0 0 rfl rfl)
theorem dX13_chancesIn_1 : decode cX13_chancesIn 1 = .ok (.getfield 9, 3) := dk_180 0 9 (dk_at dksX13_chancesIn_0 1 rfl rfl)
theorem dX13_chancesIn_4 : decode cX13_chancesIn 4 = .ok (.aload_n 0, 1) := dk_42 (dk_at dksX13_chancesIn_0 4 rfl rfl)
theorem dX13_chancesIn_5 : decode cX13_chancesIn 5 = .ok (.getfield 16, 3) := dk_180 0 16 (dk_at dksX13_chancesIn_0 5 rfl rfl)
theorem dX13_chancesIn_8 : decode cX13_chancesIn 8 = .ok (.invokestatic 75, 3) := dk_184 0 75 (dk_at dksX13_chancesIn_0 8 rfl rfl)
theorem dX13_chancesIn_11 : decode cX13_chancesIn 11 = .ok (.iconst 0, 1) := dk_3 (dk_at dksX13_chancesIn_0 11 rfl rfl)
theorem dX13_chancesIn_12 : decode cX13_chancesIn 12 = .ok (.istore_n 3, 1) := dk_62 (dk_at dksX13_chancesIn_0 12 rfl rfl)
theorem dX13_chancesIn_13 : decode cX13_chancesIn 13 = .ok (.iconst 0, 1) := dk_3 (dk_at dksX13_chancesIn_0 13 rfl rfl)
theorem dX13_chancesIn_14 : decode cX13_chancesIn 14 = .ok (.istore 4, 2) := dk_54 4 (dk_at dksX13_chancesIn_0 14 rfl rfl)
theorem dX13_chancesIn_16 : decode cX13_chancesIn 16 = .ok (.iload 4, 2) := dk_21 4 (dk_at dksX13_chancesIn_0 16 rfl rfl)
theorem dX13_chancesIn_18 : decode cX13_chancesIn 18 = .ok (.iload_n 2, 1) := dk_28 (dk_at dksX13_chancesIn_0 18 rfl rfl)
theorem dX13_chancesIn_19 : decode cX13_chancesIn 19 = .ok (.if_icmp .ge 29, 3) := dk_162 0 29 (dk_at dksX13_chancesIn_0 19 rfl rfl)
theorem dX13_chancesIn_22 : decode cX13_chancesIn 22 = .ok (.iload_n 3, 1) := dk_29 (dk_at dksX13_chancesIn_0 22 rfl rfl)
theorem dX13_chancesIn_23 : decode cX13_chancesIn 23 = .ok (.aload_n 0, 1) := dk_42 (dk_at dksX13_chancesIn_0 23 rfl rfl)
theorem dX13_chancesIn_24 : decode cX13_chancesIn 24 = .ok (.iload_n 1, 1) := dk_27 (dk_at dksX13_chancesIn_1 0 rfl rfl)
theorem dX13_chancesIn_25 : decode cX13_chancesIn 25 = .ok (.invokevirtual 182, 3) := dk_182 0 182 (dk_at dksX13_chancesIn_1 1 rfl rfl)
theorem dX13_chancesIn_28 : decode cX13_chancesIn 28 = .ok (.ifCond .eq 7, 3) := dk_153 0 7 (dk_at dksX13_chancesIn_1 4 rfl rfl)
theorem dX13_chancesIn_31 : decode cX13_chancesIn 31 = .ok (.iconst 1, 1) := dk_4 (dk_at dksX13_chancesIn_1 7 rfl rfl)
theorem dX13_chancesIn_32 : decode cX13_chancesIn 32 = .ok (.goto 4, 3) := dk_167 0 4 (dk_at dksX13_chancesIn_1 8 rfl rfl)
theorem dX13_chancesIn_35 : decode cX13_chancesIn 35 = .ok (.iconst 0, 1) := dk_3 (dk_at dksX13_chancesIn_1 11 rfl rfl)
theorem dX13_chancesIn_36 : decode cX13_chancesIn 36 = .ok (.iadd, 1) := dk_96 (dk_at dksX13_chancesIn_1 12 rfl rfl)
theorem dX13_chancesIn_37 : decode cX13_chancesIn 37 = .ok (.istore_n 3, 1) := dk_62 (dk_at dksX13_chancesIn_1 13 rfl rfl)
theorem dX13_chancesIn_38 : decode cX13_chancesIn 38 = .ok (.aload_n 0, 1) := dk_42 (dk_at dksX13_chancesIn_1 14 rfl rfl)
theorem dX13_chancesIn_39 : decode cX13_chancesIn 39 = .ok (.invokevirtual 146, 3) := dk_182 0 146 (dk_at dksX13_chancesIn_1 15 rfl rfl)
theorem dX13_chancesIn_42 : decode cX13_chancesIn 42 = .ok (.iinc 4 1, 3) := dk_132 4 1 (dk_at dksX13_chancesIn_1 18 rfl rfl)
theorem dX13_chancesIn_45 : decode cX13_chancesIn 45 = .ok (.goto (-29), 3) := dk_167 255 227 (dk_at dksX13_chancesIn_1 21 rfl rfl)
theorem dX13_chancesIn_48 : decode cX13_chancesIn 48 = .ok (.aload_n 0, 1) := dk_42 (dk_at dksX13_chancesIn_2 0 rfl rfl)
theorem dX13_chancesIn_49 : decode cX13_chancesIn 49 = .ok (.iload_n 3, 1) := dk_29 (dk_at dksX13_chancesIn_2 1 rfl rfl)
theorem dX13_chancesIn_50 : decode cX13_chancesIn 50 = .ok (.invokevirtual 211, 3) := dk_182 0 211 (dk_at dksX13_chancesIn_2 2 rfl rfl)
theorem dX13_chancesIn_53 : decode cX13_chancesIn 53 = .ok (.ireturn, 1) := dk_172 (dk_at dksX13_chancesIn_2 5 rfl rfl)
abbrev cX13_aim : ByteArray := prog_16_method_64_code
def yX13_aim : MethodName := ⟨RX13, "aim", "(I)I"⟩
def dkwX13_aim_2 : List UInt8 := [42, 21, 4, 16, 36, 162, 0, 8, 21, 4, 167, 0, 4, 2, 182, 0, 221, 172]
abbrev dktX13_aim_2 : List UInt8 := dkwX13_aim_2 ++ []
def dkwX13_aim_1 : List UInt8 := [21, 4, 16, 36, 162, 0, 20, 32, 21, 4, 123, 10, 127, 9, 148, 154, 0, 9, 132, 4, 1, 167, 255, 235]
abbrev dktX13_aim_1 : List UInt8 := dkwX13_aim_1 ++ dktX13_aim_2
def dkwX13_aim_0 : List UInt8 := [42, 27, 182, 0, 179, 154, 0, 10, 42, 18, 74, 182, 0, 80, 172, 42, 27, 182, 0, 227, 65, 3, 54, 4]
abbrev dktX13_aim_0 : List UInt8 := dkwX13_aim_0 ++ dktX13_aim_1
theorem dksX13_aim_0 : cX13_aim.data.toList.drop 0 = dktX13_aim_0 := by decide +kernel
theorem dksX13_aim_1 : cX13_aim.data.toList.drop 24 = dktX13_aim_1 := dk_seg dksX13_aim_0 24 rfl rfl
theorem dksX13_aim_2 : cX13_aim.data.toList.drop 48 = dktX13_aim_2 := dk_seg dksX13_aim_1 24 rfl rfl
theorem dX13_aim_0 : decode cX13_aim 0 = .ok (.aload_n 0, 1) := dk_42 (dk_at dksX13_aim_0 0 rfl rfl)
theorem dX13_aim_1 : decode cX13_aim 1 = .ok (.iload_n 1, 1) := dk_27 (dk_at dksX13_aim_0 1 rfl rfl)
theorem dX13_aim_2 : decode cX13_aim 2 = .ok (.invokevirtual 179, 3) := dk_182 0 179 (dk_at dksX13_aim_0 2 rfl rfl)
theorem dX13_aim_5 : decode cX13_aim 5 = .ok (.ifCond .ne 10, 3) := dk_154 0 10 (dk_at dksX13_aim_0 5 rfl rfl)
theorem dX13_aim_8 : decode cX13_aim 8 = .ok (.aload_n 0, 1) := dk_42 (dk_at dksX13_aim_0 8 rfl rfl)
theorem dX13_aim_9 : decode cX13_aim 9 = .ok (.ldc 74, 2) := dk_18 74 (dk_at dksX13_aim_0 9 rfl rfl)
theorem dX13_aim_11 : decode cX13_aim 11 = .ok (.invokevirtual 80, 3) := dk_182 0 80 (dk_at dksX13_aim_0 11 rfl rfl)
theorem dX13_aim_14 : decode cX13_aim 14 = .ok (.ireturn, 1) := dk_172 (dk_at dksX13_aim_0 14 rfl rfl)
theorem dX13_aim_15 : decode cX13_aim 15 = .ok (.aload_n 0, 1) := dk_42 (dk_at dksX13_aim_0 15 rfl rfl)
theorem dX13_aim_16 : decode cX13_aim 16 = .ok (.iload_n 1, 1) := dk_27 (dk_at dksX13_aim_0 16 rfl rfl)
theorem dX13_aim_17 : decode cX13_aim 17 = .ok (.invokevirtual 227, 3) := dk_182 0 227 (dk_at dksX13_aim_0 17 rfl rfl)
theorem dX13_aim_20 : decode cX13_aim 20 = .ok (.lstore_n 2, 1) := dk_65 (dk_at dksX13_aim_0 20 rfl rfl)
theorem dX13_aim_21 : decode cX13_aim 21 = .ok (.iconst 0, 1) := dk_3 (dk_at dksX13_aim_0 21 rfl rfl)
theorem dX13_aim_22 : decode cX13_aim 22 = .ok (.istore 4, 2) := dk_54 4 (dk_at dksX13_aim_0 22 rfl rfl)
theorem dX13_aim_24 : decode cX13_aim 24 = .ok (.iload 4, 2) := dk_21 4 (dk_at dksX13_aim_1 0 rfl rfl)
theorem dX13_aim_26 : decode cX13_aim 26 = .ok (.bipush 36, 2) := dk_16 36 (dk_at dksX13_aim_1 2 rfl rfl)
theorem dX13_aim_28 : decode cX13_aim 28 = .ok (.if_icmp .ge 20, 3) := dk_162 0 20 (dk_at dksX13_aim_1 4 rfl rfl)
theorem dX13_aim_31 : decode cX13_aim 31 = .ok (.lload_n 2, 1) := dk_32 (dk_at dksX13_aim_1 7 rfl rfl)
theorem dX13_aim_32 : decode cX13_aim 32 = .ok (.iload 4, 2) := dk_21 4 (dk_at dksX13_aim_1 8 rfl rfl)
theorem dX13_aim_34 : decode cX13_aim 34 = .ok (.lshr, 1) := dk_123 (dk_at dksX13_aim_1 10 rfl rfl)
theorem dX13_aim_35 : decode cX13_aim 35 = .ok (.lconst 1, 1) := dk_10 (dk_at dksX13_aim_1 11 rfl rfl)
theorem dX13_aim_36 : decode cX13_aim 36 = .ok (.land, 1) := dk_127 (dk_at dksX13_aim_1 12 rfl rfl)
theorem dX13_aim_37 : decode cX13_aim 37 = .ok (.lconst 0, 1) := dk_9 (dk_at dksX13_aim_1 13 rfl rfl)
theorem dX13_aim_38 : decode cX13_aim 38 = .ok (.lcmp, 1) := dk_148 (dk_at dksX13_aim_1 14 rfl rfl)
theorem dX13_aim_39 : decode cX13_aim 39 = .ok (.ifCond .ne 9, 3) := dk_154 0 9 (dk_at dksX13_aim_1 15 rfl rfl)
theorem dX13_aim_42 : decode cX13_aim 42 = .ok (.iinc 4 1, 3) := dk_132 4 1 (dk_at dksX13_aim_1 18 rfl rfl)
theorem dX13_aim_45 : decode cX13_aim 45 = .ok (.goto (-21), 3) := dk_167 255 235 (dk_at dksX13_aim_1 21 rfl rfl)
theorem dX13_aim_48 : decode cX13_aim 48 = .ok (.aload_n 0, 1) := dk_42 (dk_at dksX13_aim_2 0 rfl rfl)
theorem dX13_aim_49 : decode cX13_aim 49 = .ok (.iload 4, 2) := dk_21 4 (dk_at dksX13_aim_2 1 rfl rfl)
theorem dX13_aim_51 : decode cX13_aim 51 = .ok (.bipush 36, 2) := dk_16 36 (dk_at dksX13_aim_2 3 rfl rfl)
theorem dX13_aim_53 : decode cX13_aim 53 = .ok (.if_icmp .ge 8, 3) := dk_162 0 8 (dk_at dksX13_aim_2 5 rfl rfl)
theorem dX13_aim_56 : decode cX13_aim 56 = .ok (.iload 4, 2) := dk_21 4 (dk_at dksX13_aim_2 8 rfl rfl)
theorem dX13_aim_58 : decode cX13_aim 58 = .ok (.goto 4, 3) := dk_167 0 4 (dk_at dksX13_aim_2 10 rfl rfl)
theorem dX13_aim_61 : decode cX13_aim 61 = .ok (.iconst (-1), 1) := dk_2 (dk_at dksX13_aim_2 13 rfl rfl)
theorem dX13_aim_62 : decode cX13_aim 62 = .ok (.invokevirtual 221, 3) := dk_182 0 221 (dk_at dksX13_aim_2 14 rfl rfl)
theorem dX13_aim_65 : decode cX13_aim 65 = .ok (.ireturn, 1) := dk_172 (dk_at dksX13_aim_2 17 rfl rfl)
abbrev cX13_aimsOf : ByteArray := prog_16_method_63_code
def yX13_aimsOf : MethodName := ⟨RX13, "aimsOf", "(I)J"⟩
def dkwX13_aimsOf_2 : List UInt8 := [129, 66, 132, 5, 1, 167, 255, 215, 42, 180, 0, 9, 27, 4, 184, 0, 149, 28, 79, 33, 173]
abbrev dktX13_aimsOf_2 : List UInt8 := dkwX13_aimsOf_2 ++ []
def dkwX13_aimsOf_1 : List UInt8 := [4, 184, 0, 149, 21, 5, 79, 33, 42, 27, 182, 0, 182, 153, 0, 10, 10, 21, 5, 121, 167, 0, 4, 9]
abbrev dktX13_aimsOf_1 : List UInt8 := dkwX13_aimsOf_1 ++ dktX13_aimsOf_2
def dkwX13_aimsOf_0 : List UInt8 := [42, 27, 4, 182, 0, 160, 61, 9, 66, 3, 54, 5, 21, 5, 16, 36, 162, 0, 40, 42, 180, 0, 9, 27]
abbrev dktX13_aimsOf_0 : List UInt8 := dkwX13_aimsOf_0 ++ dktX13_aimsOf_1
theorem dksX13_aimsOf_0 : cX13_aimsOf.data.toList.drop 0 = dktX13_aimsOf_0 := by decide +kernel
theorem dksX13_aimsOf_1 : cX13_aimsOf.data.toList.drop 24 = dktX13_aimsOf_1 := dk_seg dksX13_aimsOf_0 24 rfl rfl
theorem dksX13_aimsOf_2 : cX13_aimsOf.data.toList.drop 48 = dktX13_aimsOf_2 := dk_seg dksX13_aimsOf_1 24 rfl rfl
theorem dX13_aimsOf_0 : decode cX13_aimsOf 0 = .ok (.aload_n 0, 1) := dk_42 (dk_at dksX13_aimsOf_0 0 rfl rfl)
theorem dX13_aimsOf_1 : decode cX13_aimsOf 1 = .ok (.iload_n 1, 1) := dk_27 (dk_at dksX13_aimsOf_0 1 rfl rfl)
theorem dX13_aimsOf_2 : decode cX13_aimsOf 2 = .ok (.iconst 1, 1) := dk_4 (dk_at dksX13_aimsOf_0 2 rfl rfl)
theorem dX13_aimsOf_3 : decode cX13_aimsOf 3 = .ok (.invokevirtual 160, 3) := dk_182 0 160 (dk_at dksX13_aimsOf_0 3 rfl rfl)
theorem dX13_aimsOf_6 : decode cX13_aimsOf 6 = .ok (.istore_n 2, 1) := dk_61 (dk_at dksX13_aimsOf_0 6 rfl rfl)
theorem dX13_aimsOf_7 : decode cX13_aimsOf 7 = .ok (.lconst 0, 1) := dk_9 (dk_at dksX13_aimsOf_0 7 rfl rfl)
theorem dX13_aimsOf_8 : decode cX13_aimsOf 8 = .ok (.lstore_n 3, 1) := dk_66 (dk_at dksX13_aimsOf_0 8 rfl rfl)
theorem dX13_aimsOf_9 : decode cX13_aimsOf 9 = .ok (.iconst 0, 1) := dk_3 (dk_at dksX13_aimsOf_0 9 rfl rfl)
theorem dX13_aimsOf_10 : decode cX13_aimsOf 10 = .ok (.istore 5, 2) := dk_54 5 (dk_at dksX13_aimsOf_0 10 rfl rfl)
theorem dX13_aimsOf_12 : decode cX13_aimsOf 12 = .ok (.iload 5, 2) := dk_21 5 (dk_at dksX13_aimsOf_0 12 rfl rfl)
theorem dX13_aimsOf_14 : decode cX13_aimsOf 14 = .ok (.bipush 36, 2) := dk_16 36 (dk_at dksX13_aimsOf_0 14 rfl rfl)
theorem dX13_aimsOf_16 : decode cX13_aimsOf 16 = .ok (.if_icmp .ge 40, 3) := dk_162 0 40 (dk_at dksX13_aimsOf_0 16 rfl rfl)
theorem dX13_aimsOf_19 : decode cX13_aimsOf 19 = .ok (.aload_n 0, 1) := dk_42 (dk_at dksX13_aimsOf_0 19 rfl rfl)
theorem dX13_aimsOf_20 : decode cX13_aimsOf 20 = .ok (.getfield 9, 3) := dk_180 0 9 (dk_at dksX13_aimsOf_0 20 rfl rfl)
theorem dX13_aimsOf_23 : decode cX13_aimsOf 23 = .ok (.iload_n 1, 1) := dk_27 (dk_at dksX13_aimsOf_0 23 rfl rfl)
theorem dX13_aimsOf_24 : decode cX13_aimsOf 24 = .ok (.iconst 1, 1) := dk_4 (dk_at dksX13_aimsOf_1 0 rfl rfl)
theorem dX13_aimsOf_25 : decode cX13_aimsOf 25 = .ok (.invokestatic 149, 3) := dk_184 0 149 (dk_at dksX13_aimsOf_1 1 rfl rfl)
theorem dX13_aimsOf_28 : decode cX13_aimsOf 28 = .ok (.iload 5, 2) := dk_21 5 (dk_at dksX13_aimsOf_1 4 rfl rfl)
theorem dX13_aimsOf_30 : decode cX13_aimsOf 30 = .ok (.iastore, 1) := dk_79 (dk_at dksX13_aimsOf_1 6 rfl rfl)
theorem dX13_aimsOf_31 : decode cX13_aimsOf 31 = .ok (.lload_n 3, 1) := dk_33 (dk_at dksX13_aimsOf_1 7 rfl rfl)
theorem dX13_aimsOf_32 : decode cX13_aimsOf 32 = .ok (.aload_n 0, 1) := dk_42 (dk_at dksX13_aimsOf_1 8 rfl rfl)
theorem dX13_aimsOf_33 : decode cX13_aimsOf 33 = .ok (.iload_n 1, 1) := dk_27 (dk_at dksX13_aimsOf_1 9 rfl rfl)
theorem dX13_aimsOf_34 : decode cX13_aimsOf 34 = .ok (.invokevirtual 182, 3) := dk_182 0 182 (dk_at dksX13_aimsOf_1 10 rfl rfl)
theorem dX13_aimsOf_37 : decode cX13_aimsOf 37 = .ok (.ifCond .eq 10, 3) := dk_153 0 10 (dk_at dksX13_aimsOf_1 13 rfl rfl)
theorem dX13_aimsOf_40 : decode cX13_aimsOf 40 = .ok (.lconst 1, 1) := dk_10 (dk_at dksX13_aimsOf_1 16 rfl rfl)
theorem dX13_aimsOf_41 : decode cX13_aimsOf 41 = .ok (.iload 5, 2) := dk_21 5 (dk_at dksX13_aimsOf_1 17 rfl rfl)
theorem dX13_aimsOf_43 : decode cX13_aimsOf 43 = .ok (.lshl, 1) := dk_121 (dk_at dksX13_aimsOf_1 19 rfl rfl)
theorem dX13_aimsOf_44 : decode cX13_aimsOf 44 = .ok (.goto 4, 3) := dk_167 0 4 (dk_at dksX13_aimsOf_1 20 rfl rfl)
theorem dX13_aimsOf_47 : decode cX13_aimsOf 47 = .ok (.lconst 0, 1) := dk_9 (dk_at dksX13_aimsOf_1 23 rfl rfl)
theorem dX13_aimsOf_48 : decode cX13_aimsOf 48 = .ok (.lor, 1) := dk_129 (dk_at dksX13_aimsOf_2 0 rfl rfl)
theorem dX13_aimsOf_49 : decode cX13_aimsOf 49 = .ok (.lstore_n 3, 1) := dk_66 (dk_at dksX13_aimsOf_2 1 rfl rfl)
theorem dX13_aimsOf_50 : decode cX13_aimsOf 50 = .ok (.iinc 5 1, 3) := dk_132 5 1 (dk_at dksX13_aimsOf_2 2 rfl rfl)
theorem dX13_aimsOf_53 : decode cX13_aimsOf 53 = .ok (.goto (-41), 3) := dk_167 255 215 (dk_at dksX13_aimsOf_2 5 rfl rfl)
theorem dX13_aimsOf_56 : decode cX13_aimsOf 56 = .ok (.aload_n 0, 1) := dk_42 (dk_at dksX13_aimsOf_2 8 rfl rfl)
theorem dX13_aimsOf_57 : decode cX13_aimsOf 57 = .ok (.getfield 9, 3) := dk_180 0 9 (dk_at dksX13_aimsOf_2 9 rfl rfl)
theorem dX13_aimsOf_60 : decode cX13_aimsOf 60 = .ok (.iload_n 1, 1) := dk_27 (dk_at dksX13_aimsOf_2 12 rfl rfl)
theorem dX13_aimsOf_61 : decode cX13_aimsOf 61 = .ok (.iconst 1, 1) := dk_4 (dk_at dksX13_aimsOf_2 13 rfl rfl)
theorem dX13_aimsOf_62 : decode cX13_aimsOf 62 = .ok (.invokestatic 149, 3) := dk_184 0 149 (dk_at dksX13_aimsOf_2 14 rfl rfl)
theorem dX13_aimsOf_65 : decode cX13_aimsOf 65 = .ok (.iload_n 2, 1) := dk_28 (dk_at dksX13_aimsOf_2 17 rfl rfl)
theorem dX13_aimsOf_66 : decode cX13_aimsOf 66 = .ok (.iastore, 1) := dk_79 (dk_at dksX13_aimsOf_2 18 rfl rfl)
theorem dX13_aimsOf_67 : decode cX13_aimsOf 67 = .ok (.lload_n 3, 1) := dk_33 (dk_at dksX13_aimsOf_2 19 rfl rfl)
theorem dX13_aimsOf_68 : decode cX13_aimsOf 68 = .ok (.lreturn, 1) := dk_173 (dk_at dksX13_aimsOf_2 20 rfl rfl)
abbrev cX13_aims : ByteArray := prog_16_method_65_code
def yX13_aims : MethodName := ⟨RX13, "aims", "(I)J"⟩
def dkwX13_aims_0 : List UInt8 := [42, 27, 182, 0, 179, 153, 0, 11, 42, 27, 182, 0, 227, 167, 0, 10, 42, 18, 74, 182, 0, 80, 133, 173]
abbrev dktX13_aims_0 : List UInt8 := dkwX13_aims_0 ++ []
theorem dksX13_aims_0 : cX13_aims.data.toList.drop 0 = dktX13_aims_0 := by decide +kernel
theorem dX13_aims_0 : decode cX13_aims 0 = .ok (.aload_n 0, 1) := dk_42 (dk_at dksX13_aims_0 0 rfl rfl)
theorem dX13_aims_1 : decode cX13_aims 1 = .ok (.iload_n 1, 1) := dk_27 (dk_at dksX13_aims_0 1 rfl rfl)
theorem dX13_aims_2 : decode cX13_aims 2 = .ok (.invokevirtual 179, 3) := dk_182 0 179 (dk_at dksX13_aims_0 2 rfl rfl)
theorem dX13_aims_5 : decode cX13_aims 5 = .ok (.ifCond .eq 11, 3) := dk_153 0 11 (dk_at dksX13_aims_0 5 rfl rfl)
theorem dX13_aims_8 : decode cX13_aims 8 = .ok (.aload_n 0, 1) := dk_42 (dk_at dksX13_aims_0 8 rfl rfl)
theorem dX13_aims_9 : decode cX13_aims 9 = .ok (.iload_n 1, 1) := dk_27 (dk_at dksX13_aims_0 9 rfl rfl)
theorem dX13_aims_10 : decode cX13_aims 10 = .ok (.invokevirtual 227, 3) := dk_182 0 227 (dk_at dksX13_aims_0 10 rfl rfl)
theorem dX13_aims_13 : decode cX13_aims 13 = .ok (.goto 10, 3) := dk_167 0 10 (dk_at dksX13_aims_0 13 rfl rfl)
theorem dX13_aims_16 : decode cX13_aims 16 = .ok (.aload_n 0, 1) := dk_42 (dk_at dksX13_aims_0 16 rfl rfl)
theorem dX13_aims_17 : decode cX13_aims 17 = .ok (.ldc 74, 2) := dk_18 74 (dk_at dksX13_aims_0 17 rfl rfl)
theorem dX13_aims_19 : decode cX13_aims 19 = .ok (.invokevirtual 80, 3) := dk_182 0 80 (dk_at dksX13_aims_0 19 rfl rfl)
theorem dX13_aims_22 : decode cX13_aims 22 = .ok (.i2l, 1) := dk_133 (dk_at dksX13_aims_0 22 rfl rfl)
theorem dX13_aims_23 : decode cX13_aims 23 = .ok (.lreturn, 1) := dk_173 (dk_at dksX13_aims_0 23 rfl rfl)
abbrev cX13_kinds : ByteArray := prog_16_method_67_code
def yX13_kinds : MethodName := ⟨RX13, "kinds", "(I)I"⟩
def dkwX13_kinds_1 : List UInt8 := [182, 0, 80, 172]
abbrev dktX13_kinds_1 : List UInt8 := dkwX13_kinds_1 ++ []
def dkwX13_kinds_0 : List UInt8 := [42, 27, 182, 0, 179, 153, 0, 14, 42, 27, 3, 16, 7, 182, 0, 231, 167, 0, 9, 42, 18, 74]
abbrev dktX13_kinds_0 : List UInt8 := dkwX13_kinds_0 ++ dktX13_kinds_1
theorem dksX13_kinds_0 : cX13_kinds.data.toList.drop 0 = dktX13_kinds_0 := by decide +kernel
theorem dksX13_kinds_1 : cX13_kinds.data.toList.drop 22 = dktX13_kinds_1 := dk_seg dksX13_kinds_0 22 rfl rfl
theorem dX13_kinds_0 : decode cX13_kinds 0 = .ok (.aload_n 0, 1) := dk_42 (dk_at dksX13_kinds_0 0 rfl rfl)
theorem dX13_kinds_1 : decode cX13_kinds 1 = .ok (.iload_n 1, 1) := dk_27 (dk_at dksX13_kinds_0 1 rfl rfl)
theorem dX13_kinds_2 : decode cX13_kinds 2 = .ok (.invokevirtual 179, 3) := dk_182 0 179 (dk_at dksX13_kinds_0 2 rfl rfl)
theorem dX13_kinds_5 : decode cX13_kinds 5 = .ok (.ifCond .eq 14, 3) := dk_153 0 14 (dk_at dksX13_kinds_0 5 rfl rfl)
theorem dX13_kinds_8 : decode cX13_kinds 8 = .ok (.aload_n 0, 1) := dk_42 (dk_at dksX13_kinds_0 8 rfl rfl)
theorem dX13_kinds_9 : decode cX13_kinds 9 = .ok (.iload_n 1, 1) := dk_27 (dk_at dksX13_kinds_0 9 rfl rfl)
theorem dX13_kinds_10 : decode cX13_kinds 10 = .ok (.iconst 0, 1) := dk_3 (dk_at dksX13_kinds_0 10 rfl rfl)
theorem dX13_kinds_11 : decode cX13_kinds 11 = .ok (.bipush 7, 2) := dk_16 7 (dk_at dksX13_kinds_0 11 rfl rfl)
theorem dX13_kinds_13 : decode cX13_kinds 13 = .ok (.invokevirtual 231, 3) := dk_182 0 231 (dk_at dksX13_kinds_0 13 rfl rfl)
theorem dX13_kinds_16 : decode cX13_kinds 16 = .ok (.goto 9, 3) := dk_167 0 9 (dk_at dksX13_kinds_0 16 rfl rfl)
theorem dX13_kinds_19 : decode cX13_kinds 19 = .ok (.aload_n 0, 1) := dk_42 (dk_at dksX13_kinds_0 19 rfl rfl)
theorem dX13_kinds_20 : decode cX13_kinds 20 = .ok (.ldc 74, 2) := dk_18 74 (dk_at dksX13_kinds_0 20 rfl rfl)
theorem dX13_kinds_22 : decode cX13_kinds 22 = .ok (.invokevirtual 80, 3) := dk_182 0 80 (dk_at dksX13_kinds_1 0 rfl rfl)
theorem dX13_kinds_25 : decode cX13_kinds 25 = .ok (.ireturn, 1) := dk_172 (dk_at dksX13_kinds_1 3 rfl rfl)
abbrev cX13_good : ByteArray := prog_16_method_66_code
def yX13_good : MethodName := ⟨RX13, "good", "(III)I"⟩
def dkwX13_good_3 : List UInt8 := [79, 21, 5, 172]
abbrev dktX13_good_3 : List UInt8 := dkwX13_good_3 ++ []
def dkwX13_good_2 : List UInt8 := [167, 0, 4, 3, 128, 54, 5, 132, 6, 1, 167, 255, 214, 42, 180, 0, 9, 27, 28, 184, 0, 149, 21, 4]
abbrev dktX13_good_2 : List UInt8 := dkwX13_good_2 ++ dktX13_good_3
def dkwX13_good_1 : List UInt8 := [27, 28, 184, 0, 149, 21, 6, 79, 21, 5, 42, 27, 182, 0, 182, 153, 0, 10, 4, 21, 6, 120]
abbrev dktX13_good_1 : List UInt8 := dkwX13_good_1 ++ dktX13_good_2
def dkwX13_good_0 : List UInt8 := [42, 27, 28, 182, 0, 160, 54, 4, 3, 54, 5, 3, 54, 6, 21, 6, 29, 162, 0, 42, 42, 180, 0, 9]
abbrev dktX13_good_0 : List UInt8 := dkwX13_good_0 ++ dktX13_good_1
theorem dksX13_good_0 : cX13_good.data.toList.drop 0 = dktX13_good_0 := by decide +kernel
theorem dksX13_good_1 : cX13_good.data.toList.drop 24 = dktX13_good_1 := dk_seg dksX13_good_0 24 rfl rfl
theorem dksX13_good_2 : cX13_good.data.toList.drop 46 = dktX13_good_2 := dk_seg dksX13_good_1 22 rfl rfl
theorem dksX13_good_3 : cX13_good.data.toList.drop 70 = dktX13_good_3 := dk_seg dksX13_good_2 24 rfl rfl
theorem dX13_good_0 : decode cX13_good 0 = .ok (.aload_n 0, 1) := dk_42 (dk_at dksX13_good_0 0 rfl rfl)
theorem dX13_good_1 : decode cX13_good 1 = .ok (.iload_n 1, 1) := dk_27 (dk_at dksX13_good_0 1 rfl rfl)
theorem dX13_good_2 : decode cX13_good 2 = .ok (.iload_n 2, 1) := dk_28 (dk_at dksX13_good_0 2 rfl rfl)
theorem dX13_good_3 : decode cX13_good 3 = .ok (.invokevirtual 160, 3) := dk_182 0 160 (dk_at dksX13_good_0 3 rfl rfl)
theorem dX13_good_6 : decode cX13_good 6 = .ok (.istore 4, 2) := dk_54 4 (dk_at dksX13_good_0 6 rfl rfl)
theorem dX13_good_8 : decode cX13_good 8 = .ok (.iconst 0, 1) := dk_3 (dk_at dksX13_good_0 8 rfl rfl)
theorem dX13_good_9 : decode cX13_good 9 = .ok (.istore 5, 2) := dk_54 5 (dk_at dksX13_good_0 9 rfl rfl)
theorem dX13_good_11 : decode cX13_good 11 = .ok (.iconst 0, 1) := dk_3 (dk_at dksX13_good_0 11 rfl rfl)
theorem dX13_good_12 : decode cX13_good 12 = .ok (.istore 6, 2) := dk_54 6 (dk_at dksX13_good_0 12 rfl rfl)
theorem dX13_good_14 : decode cX13_good 14 = .ok (.iload 6, 2) := dk_21 6 (dk_at dksX13_good_0 14 rfl rfl)
theorem dX13_good_16 : decode cX13_good 16 = .ok (.iload_n 3, 1) := dk_29 (dk_at dksX13_good_0 16 rfl rfl)
theorem dX13_good_17 : decode cX13_good 17 = .ok (.if_icmp .ge 42, 3) := dk_162 0 42 (dk_at dksX13_good_0 17 rfl rfl)
theorem dX13_good_20 : decode cX13_good 20 = .ok (.aload_n 0, 1) := dk_42 (dk_at dksX13_good_0 20 rfl rfl)
theorem dX13_good_21 : decode cX13_good 21 = .ok (.getfield 9, 3) := dk_180 0 9 (dk_at dksX13_good_0 21 rfl rfl)
theorem dX13_good_24 : decode cX13_good 24 = .ok (.iload_n 1, 1) := dk_27 (dk_at dksX13_good_1 0 rfl rfl)
theorem dX13_good_25 : decode cX13_good 25 = .ok (.iload_n 2, 1) := dk_28 (dk_at dksX13_good_1 1 rfl rfl)
theorem dX13_good_26 : decode cX13_good 26 = .ok (.invokestatic 149, 3) := dk_184 0 149 (dk_at dksX13_good_1 2 rfl rfl)
theorem dX13_good_29 : decode cX13_good 29 = .ok (.iload 6, 2) := dk_21 6 (dk_at dksX13_good_1 5 rfl rfl)
theorem dX13_good_31 : decode cX13_good 31 = .ok (.iastore, 1) := dk_79 (dk_at dksX13_good_1 7 rfl rfl)
theorem dX13_good_32 : decode cX13_good 32 = .ok (.iload 5, 2) := dk_21 5 (dk_at dksX13_good_1 8 rfl rfl)
theorem dX13_good_34 : decode cX13_good 34 = .ok (.aload_n 0, 1) := dk_42 (dk_at dksX13_good_1 10 rfl rfl)
theorem dX13_good_35 : decode cX13_good 35 = .ok (.iload_n 1, 1) := dk_27 (dk_at dksX13_good_1 11 rfl rfl)
theorem dX13_good_36 : decode cX13_good 36 = .ok (.invokevirtual 182, 3) := dk_182 0 182 (dk_at dksX13_good_1 12 rfl rfl)
theorem dX13_good_39 : decode cX13_good 39 = .ok (.ifCond .eq 10, 3) := dk_153 0 10 (dk_at dksX13_good_1 15 rfl rfl)
theorem dX13_good_42 : decode cX13_good 42 = .ok (.iconst 1, 1) := dk_4 (dk_at dksX13_good_1 18 rfl rfl)
theorem dX13_good_43 : decode cX13_good 43 = .ok (.iload 6, 2) := dk_21 6 (dk_at dksX13_good_1 19 rfl rfl)
theorem dX13_good_45 : decode cX13_good 45 = .ok (.ishl, 1) := dk_120 (dk_at dksX13_good_1 21 rfl rfl)
theorem dX13_good_46 : decode cX13_good 46 = .ok (.goto 4, 3) := dk_167 0 4 (dk_at dksX13_good_2 0 rfl rfl)
theorem dX13_good_49 : decode cX13_good 49 = .ok (.iconst 0, 1) := dk_3 (dk_at dksX13_good_2 3 rfl rfl)
theorem dX13_good_50 : decode cX13_good 50 = .ok (.ior, 1) := dk_128 (dk_at dksX13_good_2 4 rfl rfl)
theorem dX13_good_51 : decode cX13_good 51 = .ok (.istore 5, 2) := dk_54 5 (dk_at dksX13_good_2 5 rfl rfl)
theorem dX13_good_53 : decode cX13_good 53 = .ok (.iinc 6 1, 3) := dk_132 6 1 (dk_at dksX13_good_2 7 rfl rfl)
theorem dX13_good_56 : decode cX13_good 56 = .ok (.goto (-42), 3) := dk_167 255 214 (dk_at dksX13_good_2 10 rfl rfl)
theorem dX13_good_59 : decode cX13_good 59 = .ok (.aload_n 0, 1) := dk_42 (dk_at dksX13_good_2 13 rfl rfl)
theorem dX13_good_60 : decode cX13_good 60 = .ok (.getfield 9, 3) := dk_180 0 9 (dk_at dksX13_good_2 14 rfl rfl)
theorem dX13_good_63 : decode cX13_good 63 = .ok (.iload_n 1, 1) := dk_27 (dk_at dksX13_good_2 17 rfl rfl)
theorem dX13_good_64 : decode cX13_good 64 = .ok (.iload_n 2, 1) := dk_28 (dk_at dksX13_good_2 18 rfl rfl)
theorem dX13_good_65 : decode cX13_good 65 = .ok (.invokestatic 149, 3) := dk_184 0 149 (dk_at dksX13_good_2 19 rfl rfl)
theorem dX13_good_68 : decode cX13_good 68 = .ok (.iload 4, 2) := dk_21 4 (dk_at dksX13_good_2 22 rfl rfl)
theorem dX13_good_70 : decode cX13_good 70 = .ok (.iastore, 1) := dk_79 (dk_at dksX13_good_3 0 rfl rfl)
theorem dX13_good_71 : decode cX13_good 71 = .ok (.iload 5, 2) := dk_21 5 (dk_at dksX13_good_3 1 rfl rfl)
theorem dX13_good_73 : decode cX13_good 73 = .ok (.ireturn, 1) := dk_172 (dk_at dksX13_good_3 3 rfl rfl)
abbrev cX13_waitFor : ByteArray := prog_16_method_68_code
def yX13_waitFor : MethodName := ⟨RX13, "waitFor", "(I)I"⟩
def dkwX13_waitFor_1 : List UInt8 := [28, 154, 0, 12, 42, 18, 79, 182, 0, 80, 167, 0, 12, 28, 28, 116, 126, 4, 100, 184, 0, 234, 172]
abbrev dktX13_waitFor_1 : List UInt8 := dkwX13_waitFor_1 ++ []
def dkwX13_waitFor_0 : List UInt8 := [42, 27, 182, 0, 179, 154, 0, 10, 42, 18, 74, 182, 0, 80, 172, 42, 27, 5, 16, 10, 182, 0, 231, 61]
abbrev dktX13_waitFor_0 : List UInt8 := dkwX13_waitFor_0 ++ dktX13_waitFor_1
theorem dksX13_waitFor_0 : cX13_waitFor.data.toList.drop 0 = dktX13_waitFor_0 := by decide +kernel
theorem dksX13_waitFor_1 : cX13_waitFor.data.toList.drop 24 = dktX13_waitFor_1 := dk_seg dksX13_waitFor_0 24 rfl rfl
theorem dX13_waitFor_0 : decode cX13_waitFor 0 = .ok (.aload_n 0, 1) := dk_42 (dk_at dksX13_waitFor_0 0 rfl rfl)
theorem dX13_waitFor_1 : decode cX13_waitFor 1 = .ok (.iload_n 1, 1) := dk_27 (dk_at dksX13_waitFor_0 1 rfl rfl)
theorem dX13_waitFor_2 : decode cX13_waitFor 2 = .ok (.invokevirtual 179, 3) := dk_182 0 179 (dk_at dksX13_waitFor_0 2 rfl rfl)
theorem dX13_waitFor_5 : decode cX13_waitFor 5 = .ok (.ifCond .ne 10, 3) := dk_154 0 10 (dk_at dksX13_waitFor_0 5 rfl rfl)
theorem dX13_waitFor_8 : decode cX13_waitFor 8 = .ok (.aload_n 0, 1) := dk_42 (dk_at dksX13_waitFor_0 8 rfl rfl)
theorem dX13_waitFor_9 : decode cX13_waitFor 9 = .ok (.ldc 74, 2) := dk_18 74 (dk_at dksX13_waitFor_0 9 rfl rfl)
theorem dX13_waitFor_11 : decode cX13_waitFor 11 = .ok (.invokevirtual 80, 3) := dk_182 0 80 (dk_at dksX13_waitFor_0 11 rfl rfl)
theorem dX13_waitFor_14 : decode cX13_waitFor 14 = .ok (.ireturn, 1) := dk_172 (dk_at dksX13_waitFor_0 14 rfl rfl)
theorem dX13_waitFor_15 : decode cX13_waitFor 15 = .ok (.aload_n 0, 1) := dk_42 (dk_at dksX13_waitFor_0 15 rfl rfl)
theorem dX13_waitFor_16 : decode cX13_waitFor 16 = .ok (.iload_n 1, 1) := dk_27 (dk_at dksX13_waitFor_0 16 rfl rfl)
theorem dX13_waitFor_17 : decode cX13_waitFor 17 = .ok (.iconst 2, 1) := dk_5 (dk_at dksX13_waitFor_0 17 rfl rfl)
theorem dX13_waitFor_18 : decode cX13_waitFor 18 = .ok (.bipush 10, 2) := dk_16 10 (dk_at dksX13_waitFor_0 18 rfl rfl)
theorem dX13_waitFor_20 : decode cX13_waitFor 20 = .ok (.invokevirtual 231, 3) := dk_182 0 231 (dk_at dksX13_waitFor_0 20 rfl rfl)
theorem dX13_waitFor_23 : decode cX13_waitFor 23 = .ok (.istore_n 2, 1) := dk_61 (dk_at dksX13_waitFor_0 23 rfl rfl)
theorem dX13_waitFor_24 : decode cX13_waitFor 24 = .ok (.iload_n 2, 1) := dk_28 (dk_at dksX13_waitFor_1 0 rfl rfl)
theorem dX13_waitFor_25 : decode cX13_waitFor 25 = .ok (.ifCond .ne 12, 3) := dk_154 0 12 (dk_at dksX13_waitFor_1 1 rfl rfl)
theorem dX13_waitFor_28 : decode cX13_waitFor 28 = .ok (.aload_n 0, 1) := dk_42 (dk_at dksX13_waitFor_1 4 rfl rfl)
theorem dX13_waitFor_29 : decode cX13_waitFor 29 = .ok (.ldc 79, 2) := dk_18 79 (dk_at dksX13_waitFor_1 5 rfl rfl)
theorem dX13_waitFor_31 : decode cX13_waitFor 31 = .ok (.invokevirtual 80, 3) := dk_182 0 80 (dk_at dksX13_waitFor_1 7 rfl rfl)
theorem dX13_waitFor_34 : decode cX13_waitFor 34 = .ok (.goto 12, 3) := dk_167 0 12 (dk_at dksX13_waitFor_1 10 rfl rfl)
theorem dX13_waitFor_37 : decode cX13_waitFor 37 = .ok (.iload_n 2, 1) := dk_28 (dk_at dksX13_waitFor_1 13 rfl rfl)
theorem dX13_waitFor_38 : decode cX13_waitFor 38 = .ok (.iload_n 2, 1) := dk_28 (dk_at dksX13_waitFor_1 14 rfl rfl)
theorem dX13_waitFor_39 : decode cX13_waitFor 39 = .ok (.ineg, 1) := dk_116 (dk_at dksX13_waitFor_1 15 rfl rfl)
theorem dX13_waitFor_40 : decode cX13_waitFor 40 = .ok (.iand, 1) := dk_126 (dk_at dksX13_waitFor_1 16 rfl rfl)
theorem dX13_waitFor_41 : decode cX13_waitFor 41 = .ok (.iconst 1, 1) := dk_4 (dk_at dksX13_waitFor_1 17 rfl rfl)
theorem dX13_waitFor_42 : decode cX13_waitFor 42 = .ok (.isub, 1) := dk_100 (dk_at dksX13_waitFor_1 18 rfl rfl)
theorem dX13_waitFor_43 : decode cX13_waitFor 43 = .ok (.invokestatic 234, 3) := dk_184 0 234 (dk_at dksX13_waitFor_1 19 rfl rfl)
theorem dX13_waitFor_46 : decode cX13_waitFor 46 = .ok (.ireturn, 1) := dk_172 (dk_at dksX13_waitFor_1 22 rfl rfl)
abbrev cX13_bits : ByteArray := prog_16_method_48_code
def yX13_bits : MethodName := ⟨RX13, "bits", "(I)I"⟩
def dkwX13_bits_0 : List UInt8 := [3, 60, 26, 61, 28, 153, 0, 15, 132, 1, 1, 28, 28, 4, 100, 126, 61, 167, 255, 243, 27, 172]
abbrev dktX13_bits_0 : List UInt8 := dkwX13_bits_0 ++ []
theorem dksX13_bits_0 : cX13_bits.data.toList.drop 0 = dktX13_bits_0 := by decide +kernel
theorem dX13_bits_0 : decode cX13_bits 0 = .ok (.iconst 0, 1) := dk_3 (dk_at dksX13_bits_0 0 rfl rfl)
theorem dX13_bits_1 : decode cX13_bits 1 = .ok (.istore_n 1, 1) := dk_60 (dk_at dksX13_bits_0 1 rfl rfl)
theorem dX13_bits_2 : decode cX13_bits 2 = .ok (.iload_n 0, 1) := dk_26 (dk_at dksX13_bits_0 2 rfl rfl)
theorem dX13_bits_3 : decode cX13_bits 3 = .ok (.istore_n 2, 1) := dk_61 (dk_at dksX13_bits_0 3 rfl rfl)
theorem dX13_bits_4 : decode cX13_bits 4 = .ok (.iload_n 2, 1) := dk_28 (dk_at dksX13_bits_0 4 rfl rfl)
theorem dX13_bits_5 : decode cX13_bits 5 = .ok (.ifCond .eq 15, 3) := dk_153 0 15 (dk_at dksX13_bits_0 5 rfl rfl)
theorem dX13_bits_8 : decode cX13_bits 8 = .ok (.iinc 1 1, 3) := dk_132 1 1 (dk_at dksX13_bits_0 8 rfl rfl)
theorem dX13_bits_11 : decode cX13_bits 11 = .ok (.iload_n 2, 1) := dk_28 (dk_at dksX13_bits_0 11 rfl rfl)
theorem dX13_bits_12 : decode cX13_bits 12 = .ok (.iload_n 2, 1) := dk_28 (dk_at dksX13_bits_0 12 rfl rfl)
theorem dX13_bits_13 : decode cX13_bits 13 = .ok (.iconst 1, 1) := dk_4 (dk_at dksX13_bits_0 13 rfl rfl)
theorem dX13_bits_14 : decode cX13_bits 14 = .ok (.isub, 1) := dk_100 (dk_at dksX13_bits_0 14 rfl rfl)
theorem dX13_bits_15 : decode cX13_bits 15 = .ok (.iand, 1) := dk_126 (dk_at dksX13_bits_0 15 rfl rfl)
theorem dX13_bits_16 : decode cX13_bits 16 = .ok (.istore_n 2, 1) := dk_61 (dk_at dksX13_bits_0 16 rfl rfl)
theorem dX13_bits_17 : decode cX13_bits 17 = .ok (.goto (-13), 3) := dk_167 255 243 (dk_at dksX13_bits_0 17 rfl rfl)
theorem dX13_bits_20 : decode cX13_bits 20 = .ok (.iload_n 1, 1) := dk_27 (dk_at dksX13_bits_0 20 rfl rfl)
theorem dX13_bits_21 : decode cX13_bits 21 = .ok (.ireturn, 1) := dk_172 (dk_at dksX13_bits_0 21 rfl rfl)
abbrev cX13_best : ByteArray := prog_16_method_70_code
def yX13_best : MethodName := ⟨RX13, "best", "(I)I"⟩
def dkwX13_best_3 : List UInt8 := [182, 0, 221, 172]
abbrev dktX13_best_3 : List UInt8 := dkwX13_best_3 ++ []
def dkwX13_best_2 : List UInt8 := [21, 4, 167, 0, 4, 28, 61, 29, 21, 5, 184, 0, 112, 62, 132, 4, 1, 167, 255, 213, 42, 28]
abbrev dktX13_best_2 : List UInt8 := dkwX13_best_2 ++ dktX13_best_3
def dkwX13_best_1 : List UInt8 := [180, 0, 9, 4, 46, 162, 0, 38, 42, 21, 4, 27, 182, 0, 224, 54, 5, 21, 5, 29, 164, 0, 8]
abbrev dktX13_best_1 : List UInt8 := dkwX13_best_1 ++ dktX13_best_2
def dkwX13_best_0 : List UInt8 := [27, 184, 0, 237, 154, 0, 10, 42, 18, 74, 182, 0, 80, 172, 2, 61, 2, 62, 3, 54, 4, 21, 4, 42]
abbrev dktX13_best_0 : List UInt8 := dkwX13_best_0 ++ dktX13_best_1
theorem dksX13_best_0 : cX13_best.data.toList.drop 0 = dktX13_best_0 := by decide +kernel
theorem dksX13_best_1 : cX13_best.data.toList.drop 24 = dktX13_best_1 := dk_seg dksX13_best_0 24 rfl rfl
theorem dksX13_best_2 : cX13_best.data.toList.drop 47 = dktX13_best_2 := dk_seg dksX13_best_1 23 rfl rfl
theorem dksX13_best_3 : cX13_best.data.toList.drop 69 = dktX13_best_3 := dk_seg dksX13_best_2 22 rfl rfl
theorem dX13_best_0 : decode cX13_best 0 = .ok (.iload_n 1, 1) := dk_27 (dk_at dksX13_best_0 0 rfl rfl)
theorem dX13_best_1 : decode cX13_best 1 = .ok (.invokestatic 237, 3) := dk_184 0 237 (dk_at dksX13_best_0 1 rfl rfl)
theorem dX13_best_4 : decode cX13_best 4 = .ok (.ifCond .ne 10, 3) := dk_154 0 10 (dk_at dksX13_best_0 4 rfl rfl)
theorem dX13_best_7 : decode cX13_best 7 = .ok (.aload_n 0, 1) := dk_42 (dk_at dksX13_best_0 7 rfl rfl)
theorem dX13_best_8 : decode cX13_best 8 = .ok (.ldc 74, 2) := dk_18 74 (dk_at dksX13_best_0 8 rfl rfl)
theorem dX13_best_10 : decode cX13_best 10 = .ok (.invokevirtual 80, 3) := dk_182 0 80 (dk_at dksX13_best_0 10 rfl rfl)
theorem dX13_best_13 : decode cX13_best 13 = .ok (.ireturn, 1) := dk_172 (dk_at dksX13_best_0 13 rfl rfl)
theorem dX13_best_14 : decode cX13_best 14 = .ok (.iconst (-1), 1) := dk_2 (dk_at dksX13_best_0 14 rfl rfl)
theorem dX13_best_15 : decode cX13_best 15 = .ok (.istore_n 2, 1) := dk_61 (dk_at dksX13_best_0 15 rfl rfl)
theorem dX13_best_16 : decode cX13_best 16 = .ok (.iconst (-1), 1) := dk_2 (dk_at dksX13_best_0 16 rfl rfl)
theorem dX13_best_17 : decode cX13_best 17 = .ok (.istore_n 3, 1) := dk_62 (dk_at dksX13_best_0 17 rfl rfl)
theorem dX13_best_18 : decode cX13_best 18 = .ok (.iconst 0, 1) := dk_3 (dk_at dksX13_best_0 18 rfl rfl)
theorem dX13_best_19 : decode cX13_best 19 = .ok (.istore 4, 2) := dk_54 4 (dk_at dksX13_best_0 19 rfl rfl)
theorem dX13_best_21 : decode cX13_best 21 = .ok (.iload 4, 2) := dk_21 4 (dk_at dksX13_best_0 21 rfl rfl)
theorem dX13_best_23 : decode cX13_best 23 = .ok (.aload_n 0, 1) := dk_42 (dk_at dksX13_best_0 23 rfl rfl)
theorem dX13_best_24 : decode cX13_best 24 = .ok (.getfield 9, 3) := dk_180 0 9 (dk_at dksX13_best_1 0 rfl rfl)
theorem dX13_best_27 : decode cX13_best 27 = .ok (.iconst 1, 1) := dk_4 (dk_at dksX13_best_1 3 rfl rfl)
theorem dX13_best_28 : decode cX13_best 28 = .ok (.iaload, 1) := dk_46 (dk_at dksX13_best_1 4 rfl rfl)
theorem dX13_best_29 : decode cX13_best 29 = .ok (.if_icmp .ge 38, 3) := dk_162 0 38 (dk_at dksX13_best_1 5 rfl rfl)
theorem dX13_best_32 : decode cX13_best 32 = .ok (.aload_n 0, 1) := dk_42 (dk_at dksX13_best_1 8 rfl rfl)
theorem dX13_best_33 : decode cX13_best 33 = .ok (.iload 4, 2) := dk_21 4 (dk_at dksX13_best_1 9 rfl rfl)
theorem dX13_best_35 : decode cX13_best 35 = .ok (.iload_n 1, 1) := dk_27 (dk_at dksX13_best_1 11 rfl rfl)
theorem dX13_best_36 : decode cX13_best 36 = .ok (.invokevirtual 224, 3) := dk_182 0 224 (dk_at dksX13_best_1 12 rfl rfl)
theorem dX13_best_39 : decode cX13_best 39 = .ok (.istore 5, 2) := dk_54 5 (dk_at dksX13_best_1 15 rfl rfl)
theorem dX13_best_41 : decode cX13_best 41 = .ok (.iload 5, 2) := dk_21 5 (dk_at dksX13_best_1 17 rfl rfl)
theorem dX13_best_43 : decode cX13_best 43 = .ok (.iload_n 3, 1) := dk_29 (dk_at dksX13_best_1 19 rfl rfl)
theorem dX13_best_44 : decode cX13_best 44 = .ok (.if_icmp .le 8, 3) := dk_164 0 8 (dk_at dksX13_best_1 20 rfl rfl)
theorem dX13_best_47 : decode cX13_best 47 = .ok (.iload 4, 2) := dk_21 4 (dk_at dksX13_best_2 0 rfl rfl)
theorem dX13_best_49 : decode cX13_best 49 = .ok (.goto 4, 3) := dk_167 0 4 (dk_at dksX13_best_2 2 rfl rfl)
theorem dX13_best_52 : decode cX13_best 52 = .ok (.iload_n 2, 1) := dk_28 (dk_at dksX13_best_2 5 rfl rfl)
theorem dX13_best_53 : decode cX13_best 53 = .ok (.istore_n 2, 1) := dk_61 (dk_at dksX13_best_2 6 rfl rfl)
theorem dX13_best_54 : decode cX13_best 54 = .ok (.iload_n 3, 1) := dk_29 (dk_at dksX13_best_2 7 rfl rfl)
theorem dX13_best_55 : decode cX13_best 55 = .ok (.iload 5, 2) := dk_21 5 (dk_at dksX13_best_2 8 rfl rfl)
theorem dX13_best_57 : decode cX13_best 57 = .ok (.invokestatic 112, 3) := dk_184 0 112 (dk_at dksX13_best_2 10 rfl rfl)
theorem dX13_best_60 : decode cX13_best 60 = .ok (.istore_n 3, 1) := dk_62 (dk_at dksX13_best_2 13 rfl rfl)
theorem dX13_best_61 : decode cX13_best 61 = .ok (.iinc 4 1, 3) := dk_132 4 1 (dk_at dksX13_best_2 14 rfl rfl)
theorem dX13_best_64 : decode cX13_best 64 = .ok (.goto (-43), 3) := dk_167 255 213 (dk_at dksX13_best_2 17 rfl rfl)
theorem dX13_best_67 : decode cX13_best 67 = .ok (.aload_n 0, 1) := dk_42 (dk_at dksX13_best_2 20 rfl rfl)
theorem dX13_best_68 : decode cX13_best 68 = .ok (.iload_n 2, 1) := dk_28 (dk_at dksX13_best_2 21 rfl rfl)
theorem dX13_best_69 : decode cX13_best 69 = .ok (.invokevirtual 221, 3) := dk_182 0 221 (dk_at dksX13_best_3 0 rfl rfl)
theorem dX13_best_72 : decode cX13_best 72 = .ok (.ireturn, 1) := dk_172 (dk_at dksX13_best_3 3 rfl rfl)
abbrev cX13_isLooked : ByteArray := prog_16_method_69_code
def yX13_isLooked : MethodName := ⟨RX13, "isLooked", "(I)Z"⟩
def dkwX13_isLooked_0 : List UInt8 := [26, 3, 16, 100, 184, 0, 84, 172]
abbrev dktX13_isLooked_0 : List UInt8 := dkwX13_isLooked_0 ++ []
theorem dksX13_isLooked_0 : cX13_isLooked.data.toList.drop 0 = dktX13_isLooked_0 := by decide +kernel
theorem dX13_isLooked_0 : decode cX13_isLooked 0 = .ok (.iload_n 0, 1) := dk_26 (dk_at dksX13_isLooked_0 0 rfl rfl)
theorem dX13_isLooked_1 : decode cX13_isLooked 1 = .ok (.iconst 0, 1) := dk_3 (dk_at dksX13_isLooked_0 1 rfl rfl)
theorem dX13_isLooked_2 : decode cX13_isLooked 2 = .ok (.bipush 100, 2) := dk_16 100 (dk_at dksX13_isLooked_0 2 rfl rfl)
theorem dX13_isLooked_4 : decode cX13_isLooked 4 = .ok (.invokestatic 84, 3) := dk_184 0 84 (dk_at dksX13_isLooked_0 4 rfl rfl)
theorem dX13_isLooked_7 : decode cX13_isLooked 7 = .ok (.ireturn, 1) := dk_172 (dk_at dksX13_isLooked_0 7 rfl rfl)
abbrev cX13_post : ByteArray := prog_16_method_72_code
def yX13_post : MethodName := ⟨RX13, "post", "(I)I"⟩
def dkwX13_post_1 : List UInt8 := [182, 0, 80, 172]
abbrev dktX13_post_1 : List UInt8 := dkwX13_post_1 ++ []
def dkwX13_post_0 : List UInt8 := [27, 184, 0, 237, 153, 0, 15, 42, 16, 8, 16, 36, 27, 182, 0, 240, 167, 0, 9, 42, 18, 74]
abbrev dktX13_post_0 : List UInt8 := dkwX13_post_0 ++ dktX13_post_1
theorem dksX13_post_0 : cX13_post.data.toList.drop 0 = dktX13_post_0 := by decide +kernel
theorem dksX13_post_1 : cX13_post.data.toList.drop 22 = dktX13_post_1 := dk_seg dksX13_post_0 22 rfl rfl
theorem dX13_post_0 : decode cX13_post 0 = .ok (.iload_n 1, 1) := dk_27 (dk_at dksX13_post_0 0 rfl rfl)
theorem dX13_post_1 : decode cX13_post 1 = .ok (.invokestatic 237, 3) := dk_184 0 237 (dk_at dksX13_post_0 1 rfl rfl)
theorem dX13_post_4 : decode cX13_post 4 = .ok (.ifCond .eq 15, 3) := dk_153 0 15 (dk_at dksX13_post_0 4 rfl rfl)
theorem dX13_post_7 : decode cX13_post 7 = .ok (.aload_n 0, 1) := dk_42 (dk_at dksX13_post_0 7 rfl rfl)
theorem dX13_post_8 : decode cX13_post 8 = .ok (.bipush 8, 2) := dk_16 8 (dk_at dksX13_post_0 8 rfl rfl)
theorem dX13_post_10 : decode cX13_post 10 = .ok (.bipush 36, 2) := dk_16 36 (dk_at dksX13_post_0 10 rfl rfl)
theorem dX13_post_12 : decode cX13_post 12 = .ok (.iload_n 1, 1) := dk_27 (dk_at dksX13_post_0 12 rfl rfl)
theorem dX13_post_13 : decode cX13_post 13 = .ok (.invokevirtual 240, 3) := dk_182 0 240 (dk_at dksX13_post_0 13 rfl rfl)
theorem dX13_post_16 : decode cX13_post 16 = .ok (.goto 9, 3) := dk_167 0 9 (dk_at dksX13_post_0 16 rfl rfl)
theorem dX13_post_19 : decode cX13_post 19 = .ok (.aload_n 0, 1) := dk_42 (dk_at dksX13_post_0 19 rfl rfl)
theorem dX13_post_20 : decode cX13_post 20 = .ok (.ldc 74, 2) := dk_18 74 (dk_at dksX13_post_0 20 rfl rfl)
theorem dX13_post_22 : decode cX13_post 22 = .ok (.invokevirtual 80, 3) := dk_182 0 80 (dk_at dksX13_post_1 0 rfl rfl)
theorem dX13_post_25 : decode cX13_post 25 = .ok (.ireturn, 1) := dk_172 (dk_at dksX13_post_1 3 rfl rfl)
abbrev cX13_mostHeard : ByteArray := prog_16_method_71_code
def yX13_mostHeard : MethodName := ⟨RX13, "mostHeard", "(III)I"⟩
def dkwX13_mostHeard_3 : List UInt8 := [180, 0, 9, 27, 21, 4, 79, 21, 5, 172]
abbrev dktX13_mostHeard_3 : List UInt8 := dkwX13_mostHeard_3 ++ []
def dkwX13_mostHeard_2 : List UInt8 := [167, 0, 5, 21, 5, 54, 5, 21, 6, 21, 8, 184, 0, 112, 54, 6, 132, 7, 1, 167, 255, 207, 42]
abbrev dktX13_mostHeard_2 : List UInt8 := dkwX13_mostHeard_2 ++ dktX13_mostHeard_3
def dkwX13_mostHeard_1 : List UInt8 := [180, 0, 9, 27, 21, 7, 79, 42, 29, 182, 0, 218, 54, 8, 21, 8, 21, 6, 164, 0, 8, 21, 7]
abbrev dktX13_mostHeard_1 : List UInt8 := dkwX13_mostHeard_1 ++ dktX13_mostHeard_2
def dkwX13_mostHeard_0 : List UInt8 := [42, 180, 0, 9, 27, 46, 54, 4, 3, 54, 5, 2, 54, 6, 3, 54, 7, 21, 7, 28, 162, 0, 49, 42]
abbrev dktX13_mostHeard_0 : List UInt8 := dkwX13_mostHeard_0 ++ dktX13_mostHeard_1
theorem dksX13_mostHeard_0 : cX13_mostHeard.data.toList.drop 0 = dktX13_mostHeard_0 := by decide +kernel
theorem dksX13_mostHeard_1 : cX13_mostHeard.data.toList.drop 24 = dktX13_mostHeard_1 := dk_seg dksX13_mostHeard_0 24 rfl rfl
theorem dksX13_mostHeard_2 : cX13_mostHeard.data.toList.drop 47 = dktX13_mostHeard_2 := dk_seg dksX13_mostHeard_1 23 rfl rfl
theorem dksX13_mostHeard_3 : cX13_mostHeard.data.toList.drop 70 = dktX13_mostHeard_3 := dk_seg dksX13_mostHeard_2 23 rfl rfl
theorem dX13_mostHeard_0 : decode cX13_mostHeard 0 = .ok (.aload_n 0, 1) := dk_42 (dk_at dksX13_mostHeard_0 0 rfl rfl)
theorem dX13_mostHeard_1 : decode cX13_mostHeard 1 = .ok (.getfield 9, 3) := dk_180 0 9 (dk_at dksX13_mostHeard_0 1 rfl rfl)
theorem dX13_mostHeard_4 : decode cX13_mostHeard 4 = .ok (.iload_n 1, 1) := dk_27 (dk_at dksX13_mostHeard_0 4 rfl rfl)
theorem dX13_mostHeard_5 : decode cX13_mostHeard 5 = .ok (.iaload, 1) := dk_46 (dk_at dksX13_mostHeard_0 5 rfl rfl)
theorem dX13_mostHeard_6 : decode cX13_mostHeard 6 = .ok (.istore 4, 2) := dk_54 4 (dk_at dksX13_mostHeard_0 6 rfl rfl)
theorem dX13_mostHeard_8 : decode cX13_mostHeard 8 = .ok (.iconst 0, 1) := dk_3 (dk_at dksX13_mostHeard_0 8 rfl rfl)
theorem dX13_mostHeard_9 : decode cX13_mostHeard 9 = .ok (.istore 5, 2) := dk_54 5 (dk_at dksX13_mostHeard_0 9 rfl rfl)
theorem dX13_mostHeard_11 : decode cX13_mostHeard 11 = .ok (.iconst (-1), 1) := dk_2 (dk_at dksX13_mostHeard_0 11 rfl rfl)
theorem dX13_mostHeard_12 : decode cX13_mostHeard 12 = .ok (.istore 6, 2) := dk_54 6 (dk_at dksX13_mostHeard_0 12 rfl rfl)
theorem dX13_mostHeard_14 : decode cX13_mostHeard 14 = .ok (.iconst 0, 1) := dk_3 (dk_at dksX13_mostHeard_0 14 rfl rfl)
theorem dX13_mostHeard_15 : decode cX13_mostHeard 15 = .ok (.istore 7, 2) := dk_54 7 (dk_at dksX13_mostHeard_0 15 rfl rfl)
theorem dX13_mostHeard_17 : decode cX13_mostHeard 17 = .ok (.iload 7, 2) := dk_21 7 (dk_at dksX13_mostHeard_0 17 rfl rfl)
theorem dX13_mostHeard_19 : decode cX13_mostHeard 19 = .ok (.iload_n 2, 1) := dk_28 (dk_at dksX13_mostHeard_0 19 rfl rfl)
theorem dX13_mostHeard_20 : decode cX13_mostHeard 20 = .ok (.if_icmp .ge 49, 3) := dk_162 0 49 (dk_at dksX13_mostHeard_0 20 rfl rfl)
theorem dX13_mostHeard_23 : decode cX13_mostHeard 23 = .ok (.aload_n 0, 1) := dk_42 (dk_at dksX13_mostHeard_0 23 rfl rfl)
theorem dX13_mostHeard_24 : decode cX13_mostHeard 24 = .ok (.getfield 9, 3) := dk_180 0 9 (dk_at dksX13_mostHeard_1 0 rfl rfl)
theorem dX13_mostHeard_27 : decode cX13_mostHeard 27 = .ok (.iload_n 1, 1) := dk_27 (dk_at dksX13_mostHeard_1 3 rfl rfl)
theorem dX13_mostHeard_28 : decode cX13_mostHeard 28 = .ok (.iload 7, 2) := dk_21 7 (dk_at dksX13_mostHeard_1 4 rfl rfl)
theorem dX13_mostHeard_30 : decode cX13_mostHeard 30 = .ok (.iastore, 1) := dk_79 (dk_at dksX13_mostHeard_1 6 rfl rfl)
theorem dX13_mostHeard_31 : decode cX13_mostHeard 31 = .ok (.aload_n 0, 1) := dk_42 (dk_at dksX13_mostHeard_1 7 rfl rfl)
theorem dX13_mostHeard_32 : decode cX13_mostHeard 32 = .ok (.iload_n 3, 1) := dk_29 (dk_at dksX13_mostHeard_1 8 rfl rfl)
theorem dX13_mostHeard_33 : decode cX13_mostHeard 33 = .ok (.invokevirtual 218, 3) := dk_182 0 218 (dk_at dksX13_mostHeard_1 9 rfl rfl)
theorem dX13_mostHeard_36 : decode cX13_mostHeard 36 = .ok (.istore 8, 2) := dk_54 8 (dk_at dksX13_mostHeard_1 12 rfl rfl)
theorem dX13_mostHeard_38 : decode cX13_mostHeard 38 = .ok (.iload 8, 2) := dk_21 8 (dk_at dksX13_mostHeard_1 14 rfl rfl)
theorem dX13_mostHeard_40 : decode cX13_mostHeard 40 = .ok (.iload 6, 2) := dk_21 6 (dk_at dksX13_mostHeard_1 16 rfl rfl)
theorem dX13_mostHeard_42 : decode cX13_mostHeard 42 = .ok (.if_icmp .le 8, 3) := dk_164 0 8 (dk_at dksX13_mostHeard_1 18 rfl rfl)
theorem dX13_mostHeard_45 : decode cX13_mostHeard 45 = .ok (.iload 7, 2) := dk_21 7 (dk_at dksX13_mostHeard_1 21 rfl rfl)
theorem dX13_mostHeard_47 : decode cX13_mostHeard 47 = .ok (.goto 5, 3) := dk_167 0 5 (dk_at dksX13_mostHeard_2 0 rfl rfl)
theorem dX13_mostHeard_50 : decode cX13_mostHeard 50 = .ok (.iload 5, 2) := dk_21 5 (dk_at dksX13_mostHeard_2 3 rfl rfl)
theorem dX13_mostHeard_52 : decode cX13_mostHeard 52 = .ok (.istore 5, 2) := dk_54 5 (dk_at dksX13_mostHeard_2 5 rfl rfl)
theorem dX13_mostHeard_54 : decode cX13_mostHeard 54 = .ok (.iload 6, 2) := dk_21 6 (dk_at dksX13_mostHeard_2 7 rfl rfl)
theorem dX13_mostHeard_56 : decode cX13_mostHeard 56 = .ok (.iload 8, 2) := dk_21 8 (dk_at dksX13_mostHeard_2 9 rfl rfl)
theorem dX13_mostHeard_58 : decode cX13_mostHeard 58 = .ok (.invokestatic 112, 3) := dk_184 0 112 (dk_at dksX13_mostHeard_2 11 rfl rfl)
theorem dX13_mostHeard_61 : decode cX13_mostHeard 61 = .ok (.istore 6, 2) := dk_54 6 (dk_at dksX13_mostHeard_2 14 rfl rfl)
theorem dX13_mostHeard_63 : decode cX13_mostHeard 63 = .ok (.iinc 7 1, 3) := dk_132 7 1 (dk_at dksX13_mostHeard_2 16 rfl rfl)
theorem dX13_mostHeard_66 : decode cX13_mostHeard 66 = .ok (.goto (-49), 3) := dk_167 255 207 (dk_at dksX13_mostHeard_2 19 rfl rfl)
theorem dX13_mostHeard_69 : decode cX13_mostHeard 69 = .ok (.aload_n 0, 1) := dk_42 (dk_at dksX13_mostHeard_2 22 rfl rfl)
theorem dX13_mostHeard_70 : decode cX13_mostHeard 70 = .ok (.getfield 9, 3) := dk_180 0 9 (dk_at dksX13_mostHeard_3 0 rfl rfl)
theorem dX13_mostHeard_73 : decode cX13_mostHeard 73 = .ok (.iload_n 1, 1) := dk_27 (dk_at dksX13_mostHeard_3 3 rfl rfl)
theorem dX13_mostHeard_74 : decode cX13_mostHeard 74 = .ok (.iload 4, 2) := dk_21 4 (dk_at dksX13_mostHeard_3 4 rfl rfl)
theorem dX13_mostHeard_76 : decode cX13_mostHeard 76 = .ok (.iastore, 1) := dk_79 (dk_at dksX13_mostHeard_3 6 rfl rfl)
theorem dX13_mostHeard_77 : decode cX13_mostHeard 77 = .ok (.iload 5, 2) := dk_21 5 (dk_at dksX13_mostHeard_3 7 rfl rfl)
theorem dX13_mostHeard_79 : decode cX13_mostHeard 79 = .ok (.ireturn, 1) := dk_172 (dk_at dksX13_mostHeard_3 9 rfl rfl)
abbrev cX13_face : ByteArray := prog_16_method_73_code
def yX13_face : MethodName := ⟨RX13, "face", "(I)I"⟩
def dkwX13_face_1 : List UInt8 := [172]
abbrev dktX13_face_1 : List UInt8 := dkwX13_face_1 ++ []
def dkwX13_face_0 : List UInt8 := [27, 184, 0, 237, 153, 0, 14, 42, 16, 9, 7, 27, 182, 0, 240, 167, 0, 9, 42, 18, 74, 182, 0, 80]
abbrev dktX13_face_0 : List UInt8 := dkwX13_face_0 ++ dktX13_face_1
theorem dksX13_face_0 : cX13_face.data.toList.drop 0 = dktX13_face_0 := by decide +kernel
theorem dksX13_face_1 : cX13_face.data.toList.drop 24 = dktX13_face_1 := dk_seg dksX13_face_0 24 rfl rfl
theorem dX13_face_0 : decode cX13_face 0 = .ok (.iload_n 1, 1) := dk_27 (dk_at dksX13_face_0 0 rfl rfl)
theorem dX13_face_1 : decode cX13_face 1 = .ok (.invokestatic 237, 3) := dk_184 0 237 (dk_at dksX13_face_0 1 rfl rfl)
theorem dX13_face_4 : decode cX13_face 4 = .ok (.ifCond .eq 14, 3) := dk_153 0 14 (dk_at dksX13_face_0 4 rfl rfl)
theorem dX13_face_7 : decode cX13_face 7 = .ok (.aload_n 0, 1) := dk_42 (dk_at dksX13_face_0 7 rfl rfl)
theorem dX13_face_8 : decode cX13_face 8 = .ok (.bipush 9, 2) := dk_16 9 (dk_at dksX13_face_0 8 rfl rfl)
theorem dX13_face_10 : decode cX13_face 10 = .ok (.iconst 4, 1) := dk_7 (dk_at dksX13_face_0 10 rfl rfl)
theorem dX13_face_11 : decode cX13_face 11 = .ok (.iload_n 1, 1) := dk_27 (dk_at dksX13_face_0 11 rfl rfl)
theorem dX13_face_12 : decode cX13_face 12 = .ok (.invokevirtual 240, 3) := dk_182 0 240 (dk_at dksX13_face_0 12 rfl rfl)
theorem dX13_face_15 : decode cX13_face 15 = .ok (.goto 9, 3) := dk_167 0 9 (dk_at dksX13_face_0 15 rfl rfl)
theorem dX13_face_18 : decode cX13_face 18 = .ok (.aload_n 0, 1) := dk_42 (dk_at dksX13_face_0 18 rfl rfl)
theorem dX13_face_19 : decode cX13_face 19 = .ok (.ldc 74, 2) := dk_18 74 (dk_at dksX13_face_0 19 rfl rfl)
theorem dX13_face_21 : decode cX13_face 21 = .ok (.invokevirtual 80, 3) := dk_182 0 80 (dk_at dksX13_face_0 21 rfl rfl)
theorem dX13_face_24 : decode cX13_face 24 = .ok (.ireturn, 1) := dk_172 (dk_at dksX13_face_1 0 rfl rfl)
abbrev cX13_rhythm : ByteArray := prog_16_method_76_code
def yX13_rhythm : MethodName := ⟨RX13, "rhythm", "(II)I"⟩
def dkwX13_rhythm_0 : List UInt8 := [27, 28, 184, 0, 246, 153, 0, 12, 42, 27, 28, 182, 0, 249, 167, 0, 9, 42, 18, 74, 182, 0, 80, 172]
abbrev dktX13_rhythm_0 : List UInt8 := dkwX13_rhythm_0 ++ []
theorem dksX13_rhythm_0 : cX13_rhythm.data.toList.drop 0 = dktX13_rhythm_0 := by decide +kernel
theorem dX13_rhythm_0 : decode cX13_rhythm 0 = .ok (.iload_n 1, 1) := dk_27 (dk_at dksX13_rhythm_0 0 rfl rfl)
theorem dX13_rhythm_1 : decode cX13_rhythm 1 = .ok (.iload_n 2, 1) := dk_28 (dk_at dksX13_rhythm_0 1 rfl rfl)
theorem dX13_rhythm_2 : decode cX13_rhythm 2 = .ok (.invokestatic 246, 3) := dk_184 0 246 (dk_at dksX13_rhythm_0 2 rfl rfl)
theorem dX13_rhythm_5 : decode cX13_rhythm 5 = .ok (.ifCond .eq 12, 3) := dk_153 0 12 (dk_at dksX13_rhythm_0 5 rfl rfl)
theorem dX13_rhythm_8 : decode cX13_rhythm 8 = .ok (.aload_n 0, 1) := dk_42 (dk_at dksX13_rhythm_0 8 rfl rfl)
theorem dX13_rhythm_9 : decode cX13_rhythm 9 = .ok (.iload_n 1, 1) := dk_27 (dk_at dksX13_rhythm_0 9 rfl rfl)
theorem dX13_rhythm_10 : decode cX13_rhythm 10 = .ok (.iload_n 2, 1) := dk_28 (dk_at dksX13_rhythm_0 10 rfl rfl)
theorem dX13_rhythm_11 : decode cX13_rhythm 11 = .ok (.invokevirtual 249, 3) := dk_182 0 249 (dk_at dksX13_rhythm_0 11 rfl rfl)
theorem dX13_rhythm_14 : decode cX13_rhythm 14 = .ok (.goto 9, 3) := dk_167 0 9 (dk_at dksX13_rhythm_0 14 rfl rfl)
theorem dX13_rhythm_17 : decode cX13_rhythm 17 = .ok (.aload_n 0, 1) := dk_42 (dk_at dksX13_rhythm_0 17 rfl rfl)
theorem dX13_rhythm_18 : decode cX13_rhythm 18 = .ok (.ldc 74, 2) := dk_18 74 (dk_at dksX13_rhythm_0 18 rfl rfl)
theorem dX13_rhythm_20 : decode cX13_rhythm 20 = .ok (.invokevirtual 80, 3) := dk_182 0 80 (dk_at dksX13_rhythm_0 20 rfl rfl)
theorem dX13_rhythm_23 : decode cX13_rhythm 23 = .ok (.ireturn, 1) := dk_172 (dk_at dksX13_rhythm_0 23 rfl rfl)
abbrev cX13_isRhythm : ByteArray := prog_16_method_75_code
def yX13_isRhythm : MethodName := ⟨RX13, "isRhythm", "(II)Z"⟩
def dkwX13_isRhythm_1 : List UInt8 := [172]
abbrev dktX13_isRhythm_1 : List UInt8 := dkwX13_isRhythm_1 ++ []
def dkwX13_isRhythm_0 : List UInt8 := [26, 4, 16, 60, 184, 0, 84, 153, 0, 16, 27, 3, 26, 184, 0, 84, 153, 0, 7, 4, 167, 0, 4, 3]
abbrev dktX13_isRhythm_0 : List UInt8 := dkwX13_isRhythm_0 ++ dktX13_isRhythm_1
theorem dksX13_isRhythm_0 : cX13_isRhythm.data.toList.drop 0 = dktX13_isRhythm_0 := by decide +kernel
theorem dksX13_isRhythm_1 : cX13_isRhythm.data.toList.drop 24 = dktX13_isRhythm_1 := dk_seg dksX13_isRhythm_0 24 rfl rfl
theorem dX13_isRhythm_0 : decode cX13_isRhythm 0 = .ok (.iload_n 0, 1) := dk_26 (dk_at dksX13_isRhythm_0 0 rfl rfl)
theorem dX13_isRhythm_1 : decode cX13_isRhythm 1 = .ok (.iconst 1, 1) := dk_4 (dk_at dksX13_isRhythm_0 1 rfl rfl)
theorem dX13_isRhythm_2 : decode cX13_isRhythm 2 = .ok (.bipush 60, 2) := dk_16 60 (dk_at dksX13_isRhythm_0 2 rfl rfl)
theorem dX13_isRhythm_4 : decode cX13_isRhythm 4 = .ok (.invokestatic 84, 3) := dk_184 0 84 (dk_at dksX13_isRhythm_0 4 rfl rfl)
theorem dX13_isRhythm_7 : decode cX13_isRhythm 7 = .ok (.ifCond .eq 16, 3) := dk_153 0 16 (dk_at dksX13_isRhythm_0 7 rfl rfl)
theorem dX13_isRhythm_10 : decode cX13_isRhythm 10 = .ok (.iload_n 1, 1) := dk_27 (dk_at dksX13_isRhythm_0 10 rfl rfl)
theorem dX13_isRhythm_11 : decode cX13_isRhythm 11 = .ok (.iconst 0, 1) := dk_3 (dk_at dksX13_isRhythm_0 11 rfl rfl)
theorem dX13_isRhythm_12 : decode cX13_isRhythm 12 = .ok (.iload_n 0, 1) := dk_26 (dk_at dksX13_isRhythm_0 12 rfl rfl)
theorem dX13_isRhythm_13 : decode cX13_isRhythm 13 = .ok (.invokestatic 84, 3) := dk_184 0 84 (dk_at dksX13_isRhythm_0 13 rfl rfl)
theorem dX13_isRhythm_16 : decode cX13_isRhythm 16 = .ok (.ifCond .eq 7, 3) := dk_153 0 7 (dk_at dksX13_isRhythm_0 16 rfl rfl)
theorem dX13_isRhythm_19 : decode cX13_isRhythm 19 = .ok (.iconst 1, 1) := dk_4 (dk_at dksX13_isRhythm_0 19 rfl rfl)
theorem dX13_isRhythm_20 : decode cX13_isRhythm 20 = .ok (.goto 4, 3) := dk_167 0 4 (dk_at dksX13_isRhythm_0 20 rfl rfl)
theorem dX13_isRhythm_23 : decode cX13_isRhythm 23 = .ok (.iconst 0, 1) := dk_3 (dk_at dksX13_isRhythm_0 23 rfl rfl)
theorem dX13_isRhythm_24 : decode cX13_isRhythm 24 = .ok (.ireturn, 1) := dk_172 (dk_at dksX13_isRhythm_1 0 rfl rfl)
abbrev cX13_quietest : ByteArray := prog_16_method_74_code
def yX13_quietest : MethodName := ⟨RX13, "quietest", "(II)I"⟩
def dkwX13_quietest_7 : List UInt8 := [21, 6, 172]
abbrev dktX13_quietest_7 : List UInt8 := dkwX13_quietest_7 ++ []
def dkwX13_quietest_6 : List UInt8 := [180, 0, 9, 8, 29, 79, 42, 180, 0, 9, 16, 6, 21, 4, 79, 42, 180, 0, 9, 16, 7, 21, 5, 79]
abbrev dktX13_quietest_6 : List UInt8 := dkwX13_quietest_6 ++ dktX13_quietest_7
def dkwX13_quietest_5 : List UInt8 := [153, 0, 8, 21, 8, 167, 0, 7, 42, 180, 0, 243, 181, 0, 243, 132, 7, 1, 167, 255, 160, 42]
abbrev dktX13_quietest_5 : List UInt8 := dkwX13_quietest_5 ++ dktX13_quietest_6
def dkwX13_quietest_4 : List UInt8 := [167, 0, 4, 3, 54, 9, 21, 9, 153, 0, 8, 21, 7, 167, 0, 5, 21, 6, 54, 6, 42, 21, 9]
abbrev dktX13_quietest_4 : List UInt8 := dkwX13_quietest_4 ++ dktX13_quietest_5
def dkwX13_quietest_3 : List UInt8 := [182, 0, 218, 54, 8, 42, 180, 0, 214, 28, 161, 0, 16, 21, 8, 42, 180, 0, 243, 162, 0, 7, 4]
abbrev dktX13_quietest_3 : List UInt8 := dkwX13_quietest_3 ++ dktX13_quietest_4
def dkwX13_quietest_2 : List UInt8 := [180, 0, 9, 8, 21, 7, 16, 10, 108, 79, 42, 180, 0, 9, 16, 6, 21, 7, 16, 10, 112, 79, 42, 27]
abbrev dktX13_quietest_2 : List UInt8 := dkwX13_quietest_2 ++ dktX13_quietest_3
def dkwX13_quietest_1 : List UInt8 := [54, 5, 2, 54, 6, 42, 27, 4, 96, 181, 0, 243, 16, 10, 54, 7, 21, 7, 16, 100, 162, 0, 95, 42]
abbrev dktX13_quietest_1 : List UInt8 := dkwX13_quietest_1 ++ dktX13_quietest_2
def dkwX13_quietest_0 : List UInt8 := [42, 180, 0, 9, 8, 46, 62, 42, 180, 0, 9, 16, 6, 46, 54, 4, 42, 16, 7, 3, 182, 0, 105]
abbrev dktX13_quietest_0 : List UInt8 := dkwX13_quietest_0 ++ dktX13_quietest_1
theorem dksX13_quietest_0 : cX13_quietest.data.toList.drop 0 = dktX13_quietest_0 := by decide +kernel
theorem dksX13_quietest_1 : cX13_quietest.data.toList.drop 23 = dktX13_quietest_1 := dk_seg dksX13_quietest_0 23 rfl rfl
theorem dksX13_quietest_2 : cX13_quietest.data.toList.drop 47 = dktX13_quietest_2 := dk_seg dksX13_quietest_1 24 rfl rfl
theorem dksX13_quietest_3 : cX13_quietest.data.toList.drop 71 = dktX13_quietest_3 := dk_seg dksX13_quietest_2 24 rfl rfl
theorem dksX13_quietest_4 : cX13_quietest.data.toList.drop 94 = dktX13_quietest_4 := dk_seg dksX13_quietest_3 23 rfl rfl
theorem dksX13_quietest_5 : cX13_quietest.data.toList.drop 117 = dktX13_quietest_5 := dk_seg dksX13_quietest_4 23 rfl rfl
theorem dksX13_quietest_6 : cX13_quietest.data.toList.drop 139 = dktX13_quietest_6 := dk_seg dksX13_quietest_5 22 rfl rfl
theorem dksX13_quietest_7 : cX13_quietest.data.toList.drop 163 = dktX13_quietest_7 := dk_seg dksX13_quietest_6 24 rfl rfl
theorem dX13_quietest_0 : decode cX13_quietest 0 = .ok (.aload_n 0, 1) := dk_42 (dk_at dksX13_quietest_0 0 rfl rfl)
theorem dX13_quietest_1 : decode cX13_quietest 1 = .ok (.getfield 9, 3) := dk_180 0 9 (dk_at dksX13_quietest_0 1 rfl rfl)
theorem dX13_quietest_4 : decode cX13_quietest 4 = .ok (.iconst 5, 1) := dk_8 (dk_at dksX13_quietest_0 4 rfl rfl)
theorem dX13_quietest_5 : decode cX13_quietest 5 = .ok (.iaload, 1) := dk_46 (dk_at dksX13_quietest_0 5 rfl rfl)
theorem dX13_quietest_6 : decode cX13_quietest 6 = .ok (.istore_n 3, 1) := dk_62 (dk_at dksX13_quietest_0 6 rfl rfl)
theorem dX13_quietest_7 : decode cX13_quietest 7 = .ok (.aload_n 0, 1) := dk_42 (dk_at dksX13_quietest_0 7 rfl rfl)
theorem dX13_quietest_8 : decode cX13_quietest 8 = .ok (.getfield 9, 3) := dk_180 0 9 (dk_at dksX13_quietest_0 8 rfl rfl)
theorem dX13_quietest_11 : decode cX13_quietest 11 = .ok (.bipush 6, 2) := dk_16 6 (dk_at dksX13_quietest_0 11 rfl rfl)
theorem dX13_quietest_13 : decode cX13_quietest 13 = .ok (.iaload, 1) := dk_46 (dk_at dksX13_quietest_0 13 rfl rfl)
theorem dX13_quietest_14 : decode cX13_quietest 14 = .ok (.istore 4, 2) := dk_54 4 (dk_at dksX13_quietest_0 14 rfl rfl)
theorem dX13_quietest_16 : decode cX13_quietest 16 = .ok (.aload_n 0, 1) := dk_42 (dk_at dksX13_quietest_0 16 rfl rfl)
theorem dX13_quietest_17 : decode cX13_quietest 17 = .ok (.bipush 7, 2) := dk_16 7 (dk_at dksX13_quietest_0 17 rfl rfl)
theorem dX13_quietest_19 : decode cX13_quietest 19 = .ok (.iconst 0, 1) := dk_3 (dk_at dksX13_quietest_0 19 rfl rfl)
theorem dX13_quietest_20 : decode cX13_quietest 20 = .ok (.invokevirtual 105, 3) := dk_182 0 105 (dk_at dksX13_quietest_0 20 rfl rfl)
theorem dX13_quietest_23 : decode cX13_quietest 23 = .ok (.istore 5, 2) := dk_54 5 (dk_at dksX13_quietest_1 0 rfl rfl)
theorem dX13_quietest_25 : decode cX13_quietest 25 = .ok (.iconst (-1), 1) := dk_2 (dk_at dksX13_quietest_1 2 rfl rfl)
theorem dX13_quietest_26 : decode cX13_quietest 26 = .ok (.istore 6, 2) := dk_54 6 (dk_at dksX13_quietest_1 3 rfl rfl)
theorem dX13_quietest_28 : decode cX13_quietest 28 = .ok (.aload_n 0, 1) := dk_42 (dk_at dksX13_quietest_1 5 rfl rfl)
theorem dX13_quietest_29 : decode cX13_quietest 29 = .ok (.iload_n 1, 1) := dk_27 (dk_at dksX13_quietest_1 6 rfl rfl)
theorem dX13_quietest_30 : decode cX13_quietest 30 = .ok (.iconst 1, 1) := dk_4 (dk_at dksX13_quietest_1 7 rfl rfl)
theorem dX13_quietest_31 : decode cX13_quietest 31 = .ok (.iadd, 1) := dk_96 (dk_at dksX13_quietest_1 8 rfl rfl)
theorem dX13_quietest_32 : decode cX13_quietest 32 = .ok (.putfield 243, 3) := dk_181 0 243 (dk_at dksX13_quietest_1 9 rfl rfl)
theorem dX13_quietest_35 : decode cX13_quietest 35 = .ok (.bipush 10, 2) := dk_16 10 (dk_at dksX13_quietest_1 12 rfl rfl)
theorem dX13_quietest_37 : decode cX13_quietest 37 = .ok (.istore 7, 2) := dk_54 7 (dk_at dksX13_quietest_1 14 rfl rfl)
theorem dX13_quietest_39 : decode cX13_quietest 39 = .ok (.iload 7, 2) := dk_21 7 (dk_at dksX13_quietest_1 16 rfl rfl)
theorem dX13_quietest_41 : decode cX13_quietest 41 = .ok (.bipush 100, 2) := dk_16 100 (dk_at dksX13_quietest_1 18 rfl rfl)
theorem dX13_quietest_43 : decode cX13_quietest 43 = .ok (.if_icmp .ge 95, 3) := dk_162 0 95 (dk_at dksX13_quietest_1 20 rfl rfl)
theorem dX13_quietest_46 : decode cX13_quietest 46 = .ok (.aload_n 0, 1) := dk_42 (dk_at dksX13_quietest_1 23 rfl rfl)
theorem dX13_quietest_47 : decode cX13_quietest 47 = .ok (.getfield 9, 3) := dk_180 0 9 (dk_at dksX13_quietest_2 0 rfl rfl)
theorem dX13_quietest_50 : decode cX13_quietest 50 = .ok (.iconst 5, 1) := dk_8 (dk_at dksX13_quietest_2 3 rfl rfl)
theorem dX13_quietest_51 : decode cX13_quietest 51 = .ok (.iload 7, 2) := dk_21 7 (dk_at dksX13_quietest_2 4 rfl rfl)
theorem dX13_quietest_53 : decode cX13_quietest 53 = .ok (.bipush 10, 2) := dk_16 10 (dk_at dksX13_quietest_2 6 rfl rfl)
theorem dX13_quietest_55 : decode cX13_quietest 55 = .ok (.idiv, 1) := dk_108 (dk_at dksX13_quietest_2 8 rfl rfl)
theorem dX13_quietest_56 : decode cX13_quietest 56 = .ok (.iastore, 1) := dk_79 (dk_at dksX13_quietest_2 9 rfl rfl)
theorem dX13_quietest_57 : decode cX13_quietest 57 = .ok (.aload_n 0, 1) := dk_42 (dk_at dksX13_quietest_2 10 rfl rfl)
theorem dX13_quietest_58 : decode cX13_quietest 58 = .ok (.getfield 9, 3) := dk_180 0 9 (dk_at dksX13_quietest_2 11 rfl rfl)
theorem dX13_quietest_61 : decode cX13_quietest 61 = .ok (.bipush 6, 2) := dk_16 6 (dk_at dksX13_quietest_2 14 rfl rfl)
theorem dX13_quietest_63 : decode cX13_quietest 63 = .ok (.iload 7, 2) := dk_21 7 (dk_at dksX13_quietest_2 16 rfl rfl)
theorem dX13_quietest_65 : decode cX13_quietest 65 = .ok (.bipush 10, 2) := dk_16 10 (dk_at dksX13_quietest_2 18 rfl rfl)
theorem dX13_quietest_67 : decode cX13_quietest 67 = .ok (.irem, 1) := dk_112 (dk_at dksX13_quietest_2 20 rfl rfl)
theorem dX13_quietest_68 : decode cX13_quietest 68 = .ok (.iastore, 1) := dk_79 (dk_at dksX13_quietest_2 21 rfl rfl)
theorem dX13_quietest_69 : decode cX13_quietest 69 = .ok (.aload_n 0, 1) := dk_42 (dk_at dksX13_quietest_2 22 rfl rfl)
theorem dX13_quietest_70 : decode cX13_quietest 70 = .ok (.iload_n 1, 1) := dk_27 (dk_at dksX13_quietest_2 23 rfl rfl)
theorem dX13_quietest_71 : decode cX13_quietest 71 = .ok (.invokevirtual 218, 3) := dk_182 0 218 (dk_at dksX13_quietest_3 0 rfl rfl)
theorem dX13_quietest_74 : decode cX13_quietest 74 = .ok (.istore 8, 2) := dk_54 8 (dk_at dksX13_quietest_3 3 rfl rfl)
theorem dX13_quietest_76 : decode cX13_quietest 76 = .ok (.aload_n 0, 1) := dk_42 (dk_at dksX13_quietest_3 5 rfl rfl)
theorem dX13_quietest_77 : decode cX13_quietest 77 = .ok (.getfield 214, 3) := dk_180 0 214 (dk_at dksX13_quietest_3 6 rfl rfl)
theorem dX13_quietest_80 : decode cX13_quietest 80 = .ok (.iload_n 2, 1) := dk_28 (dk_at dksX13_quietest_3 9 rfl rfl)
theorem dX13_quietest_81 : decode cX13_quietest 81 = .ok (.if_icmp .lt 16, 3) := dk_161 0 16 (dk_at dksX13_quietest_3 10 rfl rfl)
theorem dX13_quietest_84 : decode cX13_quietest 84 = .ok (.iload 8, 2) := dk_21 8 (dk_at dksX13_quietest_3 13 rfl rfl)
theorem dX13_quietest_86 : decode cX13_quietest 86 = .ok (.aload_n 0, 1) := dk_42 (dk_at dksX13_quietest_3 15 rfl rfl)
theorem dX13_quietest_87 : decode cX13_quietest 87 = .ok (.getfield 243, 3) := dk_180 0 243 (dk_at dksX13_quietest_3 16 rfl rfl)
theorem dX13_quietest_90 : decode cX13_quietest 90 = .ok (.if_icmp .ge 7, 3) := dk_162 0 7 (dk_at dksX13_quietest_3 19 rfl rfl)
theorem dX13_quietest_93 : decode cX13_quietest 93 = .ok (.iconst 1, 1) := dk_4 (dk_at dksX13_quietest_3 22 rfl rfl)
theorem dX13_quietest_94 : decode cX13_quietest 94 = .ok (.goto 4, 3) := dk_167 0 4 (dk_at dksX13_quietest_4 0 rfl rfl)
theorem dX13_quietest_97 : decode cX13_quietest 97 = .ok (.iconst 0, 1) := dk_3 (dk_at dksX13_quietest_4 3 rfl rfl)
theorem dX13_quietest_98 : decode cX13_quietest 98 = .ok (.istore 9, 2) := dk_54 9 (dk_at dksX13_quietest_4 4 rfl rfl)
theorem dX13_quietest_100 : decode cX13_quietest 100 = .ok (.iload 9, 2) := dk_21 9 (dk_at dksX13_quietest_4 6 rfl rfl)
theorem dX13_quietest_102 : decode cX13_quietest 102 = .ok (.ifCond .eq 8, 3) := dk_153 0 8 (dk_at dksX13_quietest_4 8 rfl rfl)
theorem dX13_quietest_105 : decode cX13_quietest 105 = .ok (.iload 7, 2) := dk_21 7 (dk_at dksX13_quietest_4 11 rfl rfl)
theorem dX13_quietest_107 : decode cX13_quietest 107 = .ok (.goto 5, 3) := dk_167 0 5 (dk_at dksX13_quietest_4 13 rfl rfl)
theorem dX13_quietest_110 : decode cX13_quietest 110 = .ok (.iload 6, 2) := dk_21 6 (dk_at dksX13_quietest_4 16 rfl rfl)
theorem dX13_quietest_112 : decode cX13_quietest 112 = .ok (.istore 6, 2) := dk_54 6 (dk_at dksX13_quietest_4 18 rfl rfl)
theorem dX13_quietest_114 : decode cX13_quietest 114 = .ok (.aload_n 0, 1) := dk_42 (dk_at dksX13_quietest_4 20 rfl rfl)
theorem dX13_quietest_115 : decode cX13_quietest 115 = .ok (.iload 9, 2) := dk_21 9 (dk_at dksX13_quietest_4 21 rfl rfl)
theorem dX13_quietest_117 : decode cX13_quietest 117 = .ok (.ifCond .eq 8, 3) := dk_153 0 8 (dk_at dksX13_quietest_5 0 rfl rfl)
theorem dX13_quietest_120 : decode cX13_quietest 120 = .ok (.iload 8, 2) := dk_21 8 (dk_at dksX13_quietest_5 3 rfl rfl)
theorem dX13_quietest_122 : decode cX13_quietest 122 = .ok (.goto 7, 3) := dk_167 0 7 (dk_at dksX13_quietest_5 5 rfl rfl)
theorem dX13_quietest_125 : decode cX13_quietest 125 = .ok (.aload_n 0, 1) := dk_42 (dk_at dksX13_quietest_5 8 rfl rfl)
theorem dX13_quietest_126 : decode cX13_quietest 126 = .ok (.getfield 243, 3) := dk_180 0 243 (dk_at dksX13_quietest_5 9 rfl rfl)
theorem dX13_quietest_129 : decode cX13_quietest 129 = .ok (.putfield 243, 3) := dk_181 0 243 (dk_at dksX13_quietest_5 12 rfl rfl)
theorem dX13_quietest_132 : decode cX13_quietest 132 = .ok (.iinc 7 1, 3) := dk_132 7 1 (dk_at dksX13_quietest_5 15 rfl rfl)
theorem dX13_quietest_135 : decode cX13_quietest 135 = .ok (.goto (-96), 3) := dk_167 255 160 (dk_at dksX13_quietest_5 18 rfl rfl)
theorem dX13_quietest_138 : decode cX13_quietest 138 = .ok (.aload_n 0, 1) := dk_42 (dk_at dksX13_quietest_5 21 rfl rfl)
theorem dX13_quietest_139 : decode cX13_quietest 139 = .ok (.getfield 9, 3) := dk_180 0 9 (dk_at dksX13_quietest_6 0 rfl rfl)
theorem dX13_quietest_142 : decode cX13_quietest 142 = .ok (.iconst 5, 1) := dk_8 (dk_at dksX13_quietest_6 3 rfl rfl)
theorem dX13_quietest_143 : decode cX13_quietest 143 = .ok (.iload_n 3, 1) := dk_29 (dk_at dksX13_quietest_6 4 rfl rfl)
theorem dX13_quietest_144 : decode cX13_quietest 144 = .ok (.iastore, 1) := dk_79 (dk_at dksX13_quietest_6 5 rfl rfl)
theorem dX13_quietest_145 : decode cX13_quietest 145 = .ok (.aload_n 0, 1) := dk_42 (dk_at dksX13_quietest_6 6 rfl rfl)
theorem dX13_quietest_146 : decode cX13_quietest 146 = .ok (.getfield 9, 3) := dk_180 0 9 (dk_at dksX13_quietest_6 7 rfl rfl)
theorem dX13_quietest_149 : decode cX13_quietest 149 = .ok (.bipush 6, 2) := dk_16 6 (dk_at dksX13_quietest_6 10 rfl rfl)
theorem dX13_quietest_151 : decode cX13_quietest 151 = .ok (.iload 4, 2) := dk_21 4 (dk_at dksX13_quietest_6 12 rfl rfl)
theorem dX13_quietest_153 : decode cX13_quietest 153 = .ok (.iastore, 1) := dk_79 (dk_at dksX13_quietest_6 14 rfl rfl)
theorem dX13_quietest_154 : decode cX13_quietest 154 = .ok (.aload_n 0, 1) := dk_42 (dk_at dksX13_quietest_6 15 rfl rfl)
theorem dX13_quietest_155 : decode cX13_quietest 155 = .ok (.getfield 9, 3) := dk_180 0 9 (dk_at dksX13_quietest_6 16 rfl rfl)
theorem dX13_quietest_158 : decode cX13_quietest 158 = .ok (.bipush 7, 2) := dk_16 7 (dk_at dksX13_quietest_6 19 rfl rfl)
theorem dX13_quietest_160 : decode cX13_quietest 160 = .ok (.iload 5, 2) := dk_21 5 (dk_at dksX13_quietest_6 21 rfl rfl)
theorem dX13_quietest_162 : decode cX13_quietest 162 = .ok (.iastore, 1) := dk_79 (dk_at dksX13_quietest_6 23 rfl rfl)
theorem dX13_quietest_163 : decode cX13_quietest 163 = .ok (.iload 6, 2) := dk_21 6 (dk_at dksX13_quietest_7 0 rfl rfl)
theorem dX13_quietest_165 : decode cX13_quietest 165 = .ok (.ireturn, 1) := dk_172 (dk_at dksX13_quietest_7 2 rfl rfl)
abbrev cX13_least : ByteArray := prog_16_method_77_code
def yX13_least : MethodName := ⟨RX13, "least", "(II)I"⟩
def dkwX13_least_1 : List UInt8 := [156, 0, 12, 42, 18, 79, 182, 0, 80, 167, 0, 7, 42, 180, 0, 243, 172]
abbrev dktX13_least_1 : List UInt8 := dkwX13_least_1 ++ []
def dkwX13_least_0 : List UInt8 := [27, 28, 184, 0, 246, 154, 0, 10, 42, 18, 74, 182, 0, 80, 172, 42, 27, 28, 182, 0, 249, 62, 29]
abbrev dktX13_least_0 : List UInt8 := dkwX13_least_0 ++ dktX13_least_1
theorem dksX13_least_0 : cX13_least.data.toList.drop 0 = dktX13_least_0 := by decide +kernel
theorem dksX13_least_1 : cX13_least.data.toList.drop 23 = dktX13_least_1 := dk_seg dksX13_least_0 23 rfl rfl
theorem dX13_least_0 : decode cX13_least 0 = .ok (.iload_n 1, 1) := dk_27 (dk_at dksX13_least_0 0 rfl rfl)
theorem dX13_least_1 : decode cX13_least 1 = .ok (.iload_n 2, 1) := dk_28 (dk_at dksX13_least_0 1 rfl rfl)
theorem dX13_least_2 : decode cX13_least 2 = .ok (.invokestatic 246, 3) := dk_184 0 246 (dk_at dksX13_least_0 2 rfl rfl)
theorem dX13_least_5 : decode cX13_least 5 = .ok (.ifCond .ne 10, 3) := dk_154 0 10 (dk_at dksX13_least_0 5 rfl rfl)
theorem dX13_least_8 : decode cX13_least 8 = .ok (.aload_n 0, 1) := dk_42 (dk_at dksX13_least_0 8 rfl rfl)
theorem dX13_least_9 : decode cX13_least 9 = .ok (.ldc 74, 2) := dk_18 74 (dk_at dksX13_least_0 9 rfl rfl)
theorem dX13_least_11 : decode cX13_least 11 = .ok (.invokevirtual 80, 3) := dk_182 0 80 (dk_at dksX13_least_0 11 rfl rfl)
theorem dX13_least_14 : decode cX13_least 14 = .ok (.ireturn, 1) := dk_172 (dk_at dksX13_least_0 14 rfl rfl)
theorem dX13_least_15 : decode cX13_least 15 = .ok (.aload_n 0, 1) := dk_42 (dk_at dksX13_least_0 15 rfl rfl)
theorem dX13_least_16 : decode cX13_least 16 = .ok (.iload_n 1, 1) := dk_27 (dk_at dksX13_least_0 16 rfl rfl)
theorem dX13_least_17 : decode cX13_least 17 = .ok (.iload_n 2, 1) := dk_28 (dk_at dksX13_least_0 17 rfl rfl)
theorem dX13_least_18 : decode cX13_least 18 = .ok (.invokevirtual 249, 3) := dk_182 0 249 (dk_at dksX13_least_0 18 rfl rfl)
theorem dX13_least_21 : decode cX13_least 21 = .ok (.istore_n 3, 1) := dk_62 (dk_at dksX13_least_0 21 rfl rfl)
theorem dX13_least_22 : decode cX13_least 22 = .ok (.iload_n 3, 1) := dk_29 (dk_at dksX13_least_0 22 rfl rfl)
theorem dX13_least_23 : decode cX13_least 23 = .ok (.ifCond .ge 12, 3) := dk_156 0 12 (dk_at dksX13_least_1 0 rfl rfl)
theorem dX13_least_26 : decode cX13_least 26 = .ok (.aload_n 0, 1) := dk_42 (dk_at dksX13_least_1 3 rfl rfl)
theorem dX13_least_27 : decode cX13_least 27 = .ok (.ldc 79, 2) := dk_18 79 (dk_at dksX13_least_1 4 rfl rfl)
theorem dX13_least_29 : decode cX13_least 29 = .ok (.invokevirtual 80, 3) := dk_182 0 80 (dk_at dksX13_least_1 6 rfl rfl)
theorem dX13_least_32 : decode cX13_least 32 = .ok (.goto 7, 3) := dk_167 0 7 (dk_at dksX13_least_1 9 rfl rfl)
theorem dX13_least_35 : decode cX13_least 35 = .ok (.aload_n 0, 1) := dk_42 (dk_at dksX13_least_1 12 rfl rfl)
theorem dX13_least_36 : decode cX13_least 36 = .ok (.getfield 243, 3) := dk_180 0 243 (dk_at dksX13_least_1 13 rfl rfl)
theorem dX13_least_39 : decode cX13_least 39 = .ok (.ireturn, 1) := dk_172 (dk_at dksX13_least_1 16 rfl rfl)
abbrev cX13_fits : ByteArray := prog_16_method_83_code
def yX13_fits : MethodName := ⟨RX13, "fits", "(II)J"⟩
def dkwX13_fits_1 : List UInt8 := [27, 28, 6, 16, 36, 182, 1, 12, 173]
abbrev dktX13_fits_1 : List UInt8 := dkwX13_fits_1 ++ []
def dkwX13_fits_0 : List UInt8 := [42, 27, 28, 182, 1, 9, 153, 0, 17, 42, 42, 27, 28, 182, 1, 9, 182, 0, 80, 133, 167, 0, 12, 42]
abbrev dktX13_fits_0 : List UInt8 := dkwX13_fits_0 ++ dktX13_fits_1
theorem dksX13_fits_0 : cX13_fits.data.toList.drop 0 = dktX13_fits_0 := by decide +kernel
theorem dksX13_fits_1 : cX13_fits.data.toList.drop 24 = dktX13_fits_1 := dk_seg dksX13_fits_0 24 rfl rfl
theorem dX13_fits_0 : decode cX13_fits 0 = .ok (.aload_n 0, 1) := dk_42 (dk_at dksX13_fits_0 0 rfl rfl)
theorem dX13_fits_1 : decode cX13_fits 1 = .ok (.iload_n 1, 1) := dk_27 (dk_at dksX13_fits_0 1 rfl rfl)
theorem dX13_fits_2 : decode cX13_fits 2 = .ok (.iload_n 2, 1) := dk_28 (dk_at dksX13_fits_0 2 rfl rfl)
theorem dX13_fits_3 : decode cX13_fits 3 = .ok (.invokevirtual 265, 3) := dk_182 1 9 (dk_at dksX13_fits_0 3 rfl rfl)
theorem dX13_fits_6 : decode cX13_fits 6 = .ok (.ifCond .eq 17, 3) := dk_153 0 17 (dk_at dksX13_fits_0 6 rfl rfl)
theorem dX13_fits_9 : decode cX13_fits 9 = .ok (.aload_n 0, 1) := dk_42 (dk_at dksX13_fits_0 9 rfl rfl)
theorem dX13_fits_10 : decode cX13_fits 10 = .ok (.aload_n 0, 1) := dk_42 (dk_at dksX13_fits_0 10 rfl rfl)
theorem dX13_fits_11 : decode cX13_fits 11 = .ok (.iload_n 1, 1) := dk_27 (dk_at dksX13_fits_0 11 rfl rfl)
theorem dX13_fits_12 : decode cX13_fits 12 = .ok (.iload_n 2, 1) := dk_28 (dk_at dksX13_fits_0 12 rfl rfl)
theorem dX13_fits_13 : decode cX13_fits 13 = .ok (.invokevirtual 265, 3) := dk_182 1 9 (dk_at dksX13_fits_0 13 rfl rfl)
theorem dX13_fits_16 : decode cX13_fits 16 = .ok (.invokevirtual 80, 3) := dk_182 0 80 (dk_at dksX13_fits_0 16 rfl rfl)
theorem dX13_fits_19 : decode cX13_fits 19 = .ok (.i2l, 1) := dk_133 (dk_at dksX13_fits_0 19 rfl rfl)
theorem dX13_fits_20 : decode cX13_fits 20 = .ok (.goto 12, 3) := dk_167 0 12 (dk_at dksX13_fits_0 20 rfl rfl)
theorem dX13_fits_23 : decode cX13_fits 23 = .ok (.aload_n 0, 1) := dk_42 (dk_at dksX13_fits_0 23 rfl rfl)
theorem dX13_fits_24 : decode cX13_fits 24 = .ok (.iload_n 1, 1) := dk_27 (dk_at dksX13_fits_1 0 rfl rfl)
theorem dX13_fits_25 : decode cX13_fits 25 = .ok (.iload_n 2, 1) := dk_28 (dk_at dksX13_fits_1 1 rfl rfl)
theorem dX13_fits_26 : decode cX13_fits 26 = .ok (.iconst 3, 1) := dk_6 (dk_at dksX13_fits_1 2 rfl rfl)
theorem dX13_fits_27 : decode cX13_fits 27 = .ok (.bipush 36, 2) := dk_16 36 (dk_at dksX13_fits_1 3 rfl rfl)
theorem dX13_fits_29 : decode cX13_fits 29 = .ok (.invokevirtual 268, 3) := dk_182 1 12 (dk_at dksX13_fits_1 5 rfl rfl)
theorem dX13_fits_32 : decode cX13_fits 32 = .ok (.lreturn, 1) := dk_173 (dk_at dksX13_fits_1 8 rfl rfl)
abbrev cX13_lacksFor : ByteArray := prog_16_method_79_code
def yX13_lacksFor : MethodName := ⟨RX13, "lacksFor", "(II)I"⟩
def dkwX13_lacksFor_1 : List UInt8 := [153, 0, 7, 3, 167, 0, 5, 18, 74, 172]
abbrev dktX13_lacksFor_1 : List UInt8 := dkwX13_lacksFor_1 ++ []
def dkwX13_lacksFor_0 : List UInt8 := [42, 27, 182, 1, 0, 153, 0, 11, 42, 27, 182, 1, 0, 167, 0, 18, 28, 3, 5, 184, 0, 84]
abbrev dktX13_lacksFor_0 : List UInt8 := dkwX13_lacksFor_0 ++ dktX13_lacksFor_1
theorem dksX13_lacksFor_0 : cX13_lacksFor.data.toList.drop 0 = dktX13_lacksFor_0 := by decide +kernel
theorem dksX13_lacksFor_1 : cX13_lacksFor.data.toList.drop 22 = dktX13_lacksFor_1 := dk_seg dksX13_lacksFor_0 22 rfl rfl
theorem dX13_lacksFor_0 : decode cX13_lacksFor 0 = .ok (.aload_n 0, 1) := dk_42 (dk_at dksX13_lacksFor_0 0 rfl rfl)
theorem dX13_lacksFor_1 : decode cX13_lacksFor 1 = .ok (.iload_n 1, 1) := dk_27 (dk_at dksX13_lacksFor_0 1 rfl rfl)
theorem dX13_lacksFor_2 : decode cX13_lacksFor 2 = .ok (.invokevirtual 256, 3) := dk_182 1 0 (dk_at dksX13_lacksFor_0 2 rfl rfl)
theorem dX13_lacksFor_5 : decode cX13_lacksFor 5 = .ok (.ifCond .eq 11, 3) := dk_153 0 11 (dk_at dksX13_lacksFor_0 5 rfl rfl)
theorem dX13_lacksFor_8 : decode cX13_lacksFor 8 = .ok (.aload_n 0, 1) := dk_42 (dk_at dksX13_lacksFor_0 8 rfl rfl)
theorem dX13_lacksFor_9 : decode cX13_lacksFor 9 = .ok (.iload_n 1, 1) := dk_27 (dk_at dksX13_lacksFor_0 9 rfl rfl)
theorem dX13_lacksFor_10 : decode cX13_lacksFor 10 = .ok (.invokevirtual 256, 3) := dk_182 1 0 (dk_at dksX13_lacksFor_0 10 rfl rfl)
theorem dX13_lacksFor_13 : decode cX13_lacksFor 13 = .ok (.goto 18, 3) := dk_167 0 18 (dk_at dksX13_lacksFor_0 13 rfl rfl)
theorem dX13_lacksFor_16 : decode cX13_lacksFor 16 = .ok (.iload_n 2, 1) := dk_28 (dk_at dksX13_lacksFor_0 16 rfl rfl)
theorem dX13_lacksFor_17 : decode cX13_lacksFor 17 = .ok (.iconst 0, 1) := dk_3 (dk_at dksX13_lacksFor_0 17 rfl rfl)
theorem dX13_lacksFor_18 : decode cX13_lacksFor 18 = .ok (.iconst 2, 1) := dk_5 (dk_at dksX13_lacksFor_0 18 rfl rfl)
theorem dX13_lacksFor_19 : decode cX13_lacksFor 19 = .ok (.invokestatic 84, 3) := dk_184 0 84 (dk_at dksX13_lacksFor_0 19 rfl rfl)
theorem dX13_lacksFor_22 : decode cX13_lacksFor 22 = .ok (.ifCond .eq 7, 3) := dk_153 0 7 (dk_at dksX13_lacksFor_1 0 rfl rfl)
theorem dX13_lacksFor_25 : decode cX13_lacksFor 25 = .ok (.iconst 0, 1) := dk_3 (dk_at dksX13_lacksFor_1 3 rfl rfl)
theorem dX13_lacksFor_26 : decode cX13_lacksFor 26 = .ok (.goto 5, 3) := dk_167 0 5 (dk_at dksX13_lacksFor_1 4 rfl rfl)
theorem dX13_lacksFor_29 : decode cX13_lacksFor 29 = .ok (.ldc 74, 2) := dk_18 74 (dk_at dksX13_lacksFor_1 7 rfl rfl)
theorem dX13_lacksFor_31 : decode cX13_lacksFor 31 = .ok (.ireturn, 1) := dk_172 (dk_at dksX13_lacksFor_1 9 rfl rfl)
abbrev cX13_lacks : ByteArray := prog_16_method_78_code
def yX13_lacks : MethodName := ⟨RX13, "lacks", "(I)I"⟩
def dkwX13_lacks_1 : List UInt8 := [167, 0, 4, 3, 172]
abbrev dktX13_lacks_1 : List UInt8 := dkwX13_lacks_1 ++ []
def dkwX13_lacks_0 : List UInt8 := [27, 184, 0, 252, 154, 0, 8, 18, 74, 167, 0, 18, 42, 180, 0, 62, 27, 46, 154, 0, 8, 18, 255]
abbrev dktX13_lacks_0 : List UInt8 := dkwX13_lacks_0 ++ dktX13_lacks_1
theorem dksX13_lacks_0 : cX13_lacks.data.toList.drop 0 = dktX13_lacks_0 := by decide +kernel
theorem dksX13_lacks_1 : cX13_lacks.data.toList.drop 23 = dktX13_lacks_1 := dk_seg dksX13_lacks_0 23 rfl rfl
theorem dX13_lacks_0 : decode cX13_lacks 0 = .ok (.iload_n 1, 1) := dk_27 (dk_at dksX13_lacks_0 0 rfl rfl)
theorem dX13_lacks_1 : decode cX13_lacks 1 = .ok (.invokestatic 252, 3) := dk_184 0 252 (dk_at dksX13_lacks_0 1 rfl rfl)
theorem dX13_lacks_4 : decode cX13_lacks 4 = .ok (.ifCond .ne 8, 3) := dk_154 0 8 (dk_at dksX13_lacks_0 4 rfl rfl)
theorem dX13_lacks_7 : decode cX13_lacks 7 = .ok (.ldc 74, 2) := dk_18 74 (dk_at dksX13_lacks_0 7 rfl rfl)
theorem dX13_lacks_9 : decode cX13_lacks 9 = .ok (.goto 18, 3) := dk_167 0 18 (dk_at dksX13_lacks_0 9 rfl rfl)
theorem dX13_lacks_12 : decode cX13_lacks 12 = .ok (.aload_n 0, 1) := dk_42 (dk_at dksX13_lacks_0 12 rfl rfl)
theorem dX13_lacks_13 : decode cX13_lacks 13 = .ok (.getfield 62, 3) := dk_180 0 62 (dk_at dksX13_lacks_0 13 rfl rfl)
theorem dX13_lacks_16 : decode cX13_lacks 16 = .ok (.iload_n 1, 1) := dk_27 (dk_at dksX13_lacks_0 16 rfl rfl)
theorem dX13_lacks_17 : decode cX13_lacks 17 = .ok (.iaload, 1) := dk_46 (dk_at dksX13_lacks_0 17 rfl rfl)
theorem dX13_lacks_18 : decode cX13_lacks 18 = .ok (.ifCond .ne 8, 3) := dk_154 0 8 (dk_at dksX13_lacks_0 18 rfl rfl)
theorem dX13_lacks_21 : decode cX13_lacks 21 = .ok (.ldc 255, 2) := dk_18 255 (dk_at dksX13_lacks_0 21 rfl rfl)
theorem dX13_lacks_23 : decode cX13_lacks 23 = .ok (.goto 4, 3) := dk_167 0 4 (dk_at dksX13_lacks_1 0 rfl rfl)
theorem dX13_lacks_26 : decode cX13_lacks 26 = .ok (.iconst 0, 1) := dk_3 (dk_at dksX13_lacks_1 3 rfl rfl)
theorem dX13_lacks_27 : decode cX13_lacks 27 = .ok (.ireturn, 1) := dk_172 (dk_at dksX13_lacks_1 4 rfl rfl)
abbrev cX13_isSheet : ByteArray := prog_16_method_109_code
def yX13_isSheet : MethodName := ⟨RX13, "isSheet", "(I)Z"⟩
def dkwX13_isSheet_0 : List UInt8 := [26, 3, 6, 184, 0, 84, 172]
abbrev dktX13_isSheet_0 : List UInt8 := dkwX13_isSheet_0 ++ []
theorem dksX13_isSheet_0 : cX13_isSheet.data.toList.drop 0 = dktX13_isSheet_0 := by decide +kernel
theorem dX13_isSheet_0 : decode cX13_isSheet 0 = .ok (.iload_n 0, 1) := dk_26 (dk_at dksX13_isSheet_0 0 rfl rfl)
theorem dX13_isSheet_1 : decode cX13_isSheet 1 = .ok (.iconst 0, 1) := dk_3 (dk_at dksX13_isSheet_0 1 rfl rfl)
theorem dX13_isSheet_2 : decode cX13_isSheet 2 = .ok (.iconst 3, 1) := dk_6 (dk_at dksX13_isSheet_0 2 rfl rfl)
theorem dX13_isSheet_3 : decode cX13_isSheet 3 = .ok (.invokestatic 84, 3) := dk_184 0 84 (dk_at dksX13_isSheet_0 3 rfl rfl)
theorem dX13_isSheet_6 : decode cX13_isSheet 6 = .ok (.ireturn, 1) := dk_172 (dk_at dksX13_isSheet_0 6 rfl rfl)
abbrev cX13_fitting : ByteArray := prog_16_method_82_code
def yX13_fitting : MethodName := ⟨RX13, "fitting", "(IIII)J"⟩
def dkwX13_fitting_2 : List UInt8 := [167, 0, 4, 9, 129, 55, 6, 132, 8, 1, 167, 255, 216, 42, 180, 0, 9, 29, 21, 5, 79, 22, 6, 173]
abbrev dktX13_fitting_2 : List UInt8 := dkwX13_fitting_2 ++ []
def dkwX13_fitting_1 : List UInt8 := [180, 0, 9, 29, 21, 8, 79, 22, 6, 42, 27, 28, 182, 1, 6, 153, 0, 10, 10, 21, 8, 121]
abbrev dktX13_fitting_1 : List UInt8 := dkwX13_fitting_1 ++ dktX13_fitting_2
def dkwX13_fitting_0 : List UInt8 := [42, 180, 0, 9, 29, 46, 54, 5, 9, 55, 6, 3, 54, 8, 21, 8, 21, 4, 162, 0, 39, 42]
abbrev dktX13_fitting_0 : List UInt8 := dkwX13_fitting_0 ++ dktX13_fitting_1
theorem dksX13_fitting_0 : cX13_fitting.data.toList.drop 0 = dktX13_fitting_0 := by decide +kernel
theorem dksX13_fitting_1 : cX13_fitting.data.toList.drop 22 = dktX13_fitting_1 := dk_seg dksX13_fitting_0 22 rfl rfl
theorem dksX13_fitting_2 : cX13_fitting.data.toList.drop 44 = dktX13_fitting_2 := dk_seg dksX13_fitting_1 22 rfl rfl
theorem dX13_fitting_0 : decode cX13_fitting 0 = .ok (.aload_n 0, 1) := dk_42 (dk_at dksX13_fitting_0 0 rfl rfl)
theorem dX13_fitting_1 : decode cX13_fitting 1 = .ok (.getfield 9, 3) := dk_180 0 9 (dk_at dksX13_fitting_0 1 rfl rfl)
theorem dX13_fitting_4 : decode cX13_fitting 4 = .ok (.iload_n 3, 1) := dk_29 (dk_at dksX13_fitting_0 4 rfl rfl)
theorem dX13_fitting_5 : decode cX13_fitting 5 = .ok (.iaload, 1) := dk_46 (dk_at dksX13_fitting_0 5 rfl rfl)
theorem dX13_fitting_6 : decode cX13_fitting 6 = .ok (.istore 5, 2) := dk_54 5 (dk_at dksX13_fitting_0 6 rfl rfl)
theorem dX13_fitting_8 : decode cX13_fitting 8 = .ok (.lconst 0, 1) := dk_9 (dk_at dksX13_fitting_0 8 rfl rfl)
theorem dX13_fitting_9 : decode cX13_fitting 9 = .ok (.lstore 6, 2) := dk_55 6 (dk_at dksX13_fitting_0 9 rfl rfl)
theorem dX13_fitting_11 : decode cX13_fitting 11 = .ok (.iconst 0, 1) := dk_3 (dk_at dksX13_fitting_0 11 rfl rfl)
theorem dX13_fitting_12 : decode cX13_fitting 12 = .ok (.istore 8, 2) := dk_54 8 (dk_at dksX13_fitting_0 12 rfl rfl)
theorem dX13_fitting_14 : decode cX13_fitting 14 = .ok (.iload 8, 2) := dk_21 8 (dk_at dksX13_fitting_0 14 rfl rfl)
theorem dX13_fitting_16 : decode cX13_fitting 16 = .ok (.iload 4, 2) := dk_21 4 (dk_at dksX13_fitting_0 16 rfl rfl)
theorem dX13_fitting_18 : decode cX13_fitting 18 = .ok (.if_icmp .ge 39, 3) := dk_162 0 39 (dk_at dksX13_fitting_0 18 rfl rfl)
theorem dX13_fitting_21 : decode cX13_fitting 21 = .ok (.aload_n 0, 1) := dk_42 (dk_at dksX13_fitting_0 21 rfl rfl)
theorem dX13_fitting_22 : decode cX13_fitting 22 = .ok (.getfield 9, 3) := dk_180 0 9 (dk_at dksX13_fitting_1 0 rfl rfl)
theorem dX13_fitting_25 : decode cX13_fitting 25 = .ok (.iload_n 3, 1) := dk_29 (dk_at dksX13_fitting_1 3 rfl rfl)
theorem dX13_fitting_26 : decode cX13_fitting 26 = .ok (.iload 8, 2) := dk_21 8 (dk_at dksX13_fitting_1 4 rfl rfl)
theorem dX13_fitting_28 : decode cX13_fitting 28 = .ok (.iastore, 1) := dk_79 (dk_at dksX13_fitting_1 6 rfl rfl)
theorem dX13_fitting_29 : decode cX13_fitting 29 = .ok (.lload 6, 2) := dk_22 6 (dk_at dksX13_fitting_1 7 rfl rfl)
theorem dX13_fitting_31 : decode cX13_fitting 31 = .ok (.aload_n 0, 1) := dk_42 (dk_at dksX13_fitting_1 9 rfl rfl)
theorem dX13_fitting_32 : decode cX13_fitting 32 = .ok (.iload_n 1, 1) := dk_27 (dk_at dksX13_fitting_1 10 rfl rfl)
theorem dX13_fitting_33 : decode cX13_fitting 33 = .ok (.iload_n 2, 1) := dk_28 (dk_at dksX13_fitting_1 11 rfl rfl)
theorem dX13_fitting_34 : decode cX13_fitting 34 = .ok (.invokevirtual 262, 3) := dk_182 1 6 (dk_at dksX13_fitting_1 12 rfl rfl)
theorem dX13_fitting_37 : decode cX13_fitting 37 = .ok (.ifCond .eq 10, 3) := dk_153 0 10 (dk_at dksX13_fitting_1 15 rfl rfl)
theorem dX13_fitting_40 : decode cX13_fitting 40 = .ok (.lconst 1, 1) := dk_10 (dk_at dksX13_fitting_1 18 rfl rfl)
theorem dX13_fitting_41 : decode cX13_fitting 41 = .ok (.iload 8, 2) := dk_21 8 (dk_at dksX13_fitting_1 19 rfl rfl)
theorem dX13_fitting_43 : decode cX13_fitting 43 = .ok (.lshl, 1) := dk_121 (dk_at dksX13_fitting_1 21 rfl rfl)
theorem dX13_fitting_44 : decode cX13_fitting 44 = .ok (.goto 4, 3) := dk_167 0 4 (dk_at dksX13_fitting_2 0 rfl rfl)
theorem dX13_fitting_47 : decode cX13_fitting 47 = .ok (.lconst 0, 1) := dk_9 (dk_at dksX13_fitting_2 3 rfl rfl)
theorem dX13_fitting_48 : decode cX13_fitting 48 = .ok (.lor, 1) := dk_129 (dk_at dksX13_fitting_2 4 rfl rfl)
theorem dX13_fitting_49 : decode cX13_fitting 49 = .ok (.lstore 6, 2) := dk_55 6 (dk_at dksX13_fitting_2 5 rfl rfl)
theorem dX13_fitting_51 : decode cX13_fitting 51 = .ok (.iinc 8 1, 3) := dk_132 8 1 (dk_at dksX13_fitting_2 7 rfl rfl)
theorem dX13_fitting_54 : decode cX13_fitting 54 = .ok (.goto (-40), 3) := dk_167 255 216 (dk_at dksX13_fitting_2 10 rfl rfl)
theorem dX13_fitting_57 : decode cX13_fitting 57 = .ok (.aload_n 0, 1) := dk_42 (dk_at dksX13_fitting_2 13 rfl rfl)
theorem dX13_fitting_58 : decode cX13_fitting 58 = .ok (.getfield 9, 3) := dk_180 0 9 (dk_at dksX13_fitting_2 14 rfl rfl)
theorem dX13_fitting_61 : decode cX13_fitting 61 = .ok (.iload_n 3, 1) := dk_29 (dk_at dksX13_fitting_2 17 rfl rfl)
theorem dX13_fitting_62 : decode cX13_fitting 62 = .ok (.iload 5, 2) := dk_21 5 (dk_at dksX13_fitting_2 18 rfl rfl)
theorem dX13_fitting_64 : decode cX13_fitting 64 = .ok (.iastore, 1) := dk_79 (dk_at dksX13_fitting_2 20 rfl rfl)
theorem dX13_fitting_65 : decode cX13_fitting 65 = .ok (.lload 6, 2) := dk_22 6 (dk_at dksX13_fitting_2 21 rfl rfl)
theorem dX13_fitting_67 : decode cX13_fitting 67 = .ok (.lreturn, 1) := dk_173 (dk_at dksX13_fitting_2 23 rfl rfl)
abbrev cX13_wasHeard : ByteArray := prog_16_method_81_code
def yX13_wasHeard : MethodName := ⟨RX13, "wasHeard", "(II)Z"⟩
def dkwX13_wasHeard_2 : List UInt8 := [62, 42, 182, 0, 146, 132, 4, 1, 167, 255, 216, 42, 180, 0, 16, 42, 180, 0, 9, 184, 0, 75, 29, 172]
abbrev dktX13_wasHeard_2 : List UInt8 := dkwX13_wasHeard_2 ++ []
def dkwX13_wasHeard_1 : List UInt8 := [162, 0, 35, 29, 153, 0, 31, 42, 42, 180, 0, 68, 16, 40, 27, 104, 21, 4, 96, 46, 28, 182, 1, 3]
abbrev dktX13_wasHeard_1 : List UInt8 := dkwX13_wasHeard_1 ++ dktX13_wasHeard_2
def dkwX13_wasHeard_0 : List UInt8 := [42, 180, 0, 9, 42, 180, 0, 16, 184, 0, 75, 4, 62, 3, 54, 4, 21, 4, 42, 180, 0, 65, 27, 46]
abbrev dktX13_wasHeard_0 : List UInt8 := dkwX13_wasHeard_0 ++ dktX13_wasHeard_1
theorem dksX13_wasHeard_0 : cX13_wasHeard.data.toList.drop 0 = dktX13_wasHeard_0 := by decide +kernel
theorem dksX13_wasHeard_1 : cX13_wasHeard.data.toList.drop 24 = dktX13_wasHeard_1 := dk_seg dksX13_wasHeard_0 24 rfl rfl
theorem dksX13_wasHeard_2 : cX13_wasHeard.data.toList.drop 48 = dktX13_wasHeard_2 := dk_seg dksX13_wasHeard_1 24 rfl rfl
theorem dX13_wasHeard_0 : decode cX13_wasHeard 0 = .ok (.aload_n 0, 1) := dk_42 (dk_at dksX13_wasHeard_0 0 rfl rfl)
theorem dX13_wasHeard_1 : decode cX13_wasHeard 1 = .ok (.getfield 9, 3) := dk_180 0 9 (dk_at dksX13_wasHeard_0 1 rfl rfl)
theorem dX13_wasHeard_4 : decode cX13_wasHeard 4 = .ok (.aload_n 0, 1) := dk_42 (dk_at dksX13_wasHeard_0 4 rfl rfl)
theorem dX13_wasHeard_5 : decode cX13_wasHeard 5 = .ok (.getfield 16, 3) := dk_180 0 16 (dk_at dksX13_wasHeard_0 5 rfl rfl)
theorem dX13_wasHeard_8 : decode cX13_wasHeard 8 = .ok (.invokestatic 75, 3) := dk_184 0 75 (dk_at dksX13_wasHeard_0 8 rfl rfl)
theorem dX13_wasHeard_11 : decode cX13_wasHeard 11 = .ok (.iconst 1, 1) := dk_4 (dk_at dksX13_wasHeard_0 11 rfl rfl)
theorem dX13_wasHeard_12 : decode cX13_wasHeard 12 = .ok (.istore_n 3, 1) := dk_62 (dk_at dksX13_wasHeard_0 12 rfl rfl)
theorem dX13_wasHeard_13 : decode cX13_wasHeard 13 = .ok (.iconst 0, 1) := dk_3 (dk_at dksX13_wasHeard_0 13 rfl rfl)
theorem dX13_wasHeard_14 : decode cX13_wasHeard 14 = .ok (.istore 4, 2) := dk_54 4 (dk_at dksX13_wasHeard_0 14 rfl rfl)
theorem dX13_wasHeard_16 : decode cX13_wasHeard 16 = .ok (.iload 4, 2) := dk_21 4 (dk_at dksX13_wasHeard_0 16 rfl rfl)
theorem dX13_wasHeard_18 : decode cX13_wasHeard 18 = .ok (.aload_n 0, 1) := dk_42 (dk_at dksX13_wasHeard_0 18 rfl rfl)
theorem dX13_wasHeard_19 : decode cX13_wasHeard 19 = .ok (.getfield 65, 3) := dk_180 0 65 (dk_at dksX13_wasHeard_0 19 rfl rfl)
theorem dX13_wasHeard_22 : decode cX13_wasHeard 22 = .ok (.iload_n 1, 1) := dk_27 (dk_at dksX13_wasHeard_0 22 rfl rfl)
theorem dX13_wasHeard_23 : decode cX13_wasHeard 23 = .ok (.iaload, 1) := dk_46 (dk_at dksX13_wasHeard_0 23 rfl rfl)
theorem dX13_wasHeard_24 : decode cX13_wasHeard 24 = .ok (.if_icmp .ge 35, 3) := dk_162 0 35 (dk_at dksX13_wasHeard_1 0 rfl rfl)
theorem dX13_wasHeard_27 : decode cX13_wasHeard 27 = .ok (.iload_n 3, 1) := dk_29 (dk_at dksX13_wasHeard_1 3 rfl rfl)
theorem dX13_wasHeard_28 : decode cX13_wasHeard 28 = .ok (.ifCond .eq 31, 3) := dk_153 0 31 (dk_at dksX13_wasHeard_1 4 rfl rfl)
theorem dX13_wasHeard_31 : decode cX13_wasHeard 31 = .ok (.aload_n 0, 1) := dk_42 (dk_at dksX13_wasHeard_1 7 rfl rfl)
theorem dX13_wasHeard_32 : decode cX13_wasHeard 32 = .ok (.aload_n 0, 1) := dk_42 (dk_at dksX13_wasHeard_1 8 rfl rfl)
theorem dX13_wasHeard_33 : decode cX13_wasHeard 33 = .ok (.getfield 68, 3) := dk_180 0 68 (dk_at dksX13_wasHeard_1 9 rfl rfl)
theorem dX13_wasHeard_36 : decode cX13_wasHeard 36 = .ok (.bipush 40, 2) := dk_16 40 (dk_at dksX13_wasHeard_1 12 rfl rfl)
theorem dX13_wasHeard_38 : decode cX13_wasHeard 38 = .ok (.iload_n 1, 1) := dk_27 (dk_at dksX13_wasHeard_1 14 rfl rfl)
theorem dX13_wasHeard_39 : decode cX13_wasHeard 39 = .ok (.imul, 1) := dk_104 (dk_at dksX13_wasHeard_1 15 rfl rfl)
theorem dX13_wasHeard_40 : decode cX13_wasHeard 40 = .ok (.iload 4, 2) := dk_21 4 (dk_at dksX13_wasHeard_1 16 rfl rfl)
theorem dX13_wasHeard_42 : decode cX13_wasHeard 42 = .ok (.iadd, 1) := dk_96 (dk_at dksX13_wasHeard_1 18 rfl rfl)
theorem dX13_wasHeard_43 : decode cX13_wasHeard 43 = .ok (.iaload, 1) := dk_46 (dk_at dksX13_wasHeard_1 19 rfl rfl)
theorem dX13_wasHeard_44 : decode cX13_wasHeard 44 = .ok (.iload_n 2, 1) := dk_28 (dk_at dksX13_wasHeard_1 20 rfl rfl)
theorem dX13_wasHeard_45 : decode cX13_wasHeard 45 = .ok (.invokevirtual 259, 3) := dk_182 1 3 (dk_at dksX13_wasHeard_1 21 rfl rfl)
theorem dX13_wasHeard_48 : decode cX13_wasHeard 48 = .ok (.istore_n 3, 1) := dk_62 (dk_at dksX13_wasHeard_2 0 rfl rfl)
theorem dX13_wasHeard_49 : decode cX13_wasHeard 49 = .ok (.aload_n 0, 1) := dk_42 (dk_at dksX13_wasHeard_2 1 rfl rfl)
theorem dX13_wasHeard_50 : decode cX13_wasHeard 50 = .ok (.invokevirtual 146, 3) := dk_182 0 146 (dk_at dksX13_wasHeard_2 2 rfl rfl)
theorem dX13_wasHeard_53 : decode cX13_wasHeard 53 = .ok (.iinc 4 1, 3) := dk_132 4 1 (dk_at dksX13_wasHeard_2 5 rfl rfl)
theorem dX13_wasHeard_56 : decode cX13_wasHeard 56 = .ok (.goto (-40), 3) := dk_167 255 216 (dk_at dksX13_wasHeard_2 8 rfl rfl)
theorem dX13_wasHeard_59 : decode cX13_wasHeard 59 = .ok (.aload_n 0, 1) := dk_42 (dk_at dksX13_wasHeard_2 11 rfl rfl)
theorem dX13_wasHeard_60 : decode cX13_wasHeard 60 = .ok (.getfield 16, 3) := dk_180 0 16 (dk_at dksX13_wasHeard_2 12 rfl rfl)
theorem dX13_wasHeard_63 : decode cX13_wasHeard 63 = .ok (.aload_n 0, 1) := dk_42 (dk_at dksX13_wasHeard_2 15 rfl rfl)
theorem dX13_wasHeard_64 : decode cX13_wasHeard 64 = .ok (.getfield 9, 3) := dk_180 0 9 (dk_at dksX13_wasHeard_2 16 rfl rfl)
theorem dX13_wasHeard_67 : decode cX13_wasHeard 67 = .ok (.invokestatic 75, 3) := dk_184 0 75 (dk_at dksX13_wasHeard_2 19 rfl rfl)
theorem dX13_wasHeard_70 : decode cX13_wasHeard 70 = .ok (.iload_n 3, 1) := dk_29 (dk_at dksX13_wasHeard_2 22 rfl rfl)
theorem dX13_wasHeard_71 : decode cX13_wasHeard 71 = .ok (.ireturn, 1) := dk_172 (dk_at dksX13_wasHeard_2 23 rfl rfl)
abbrev cX13_isHeardSo : ByteArray := prog_16_method_80_code
def yX13_isHeardSo : MethodName := ⟨RX13, "isHeardSo", "(II)Z"⟩
def dkwX13_isHeardSo_4 : List UInt8 := [167, 0, 18, 3, 167, 0, 14, 28, 4, 160, 0, 7, 29, 167, 0, 5, 21, 4, 172]
abbrev dktX13_isHeardSo_4 : List UInt8 := dkwX13_isHeardSo_4 ++ []
def dkwX13_isHeardSo_3 : List UInt8 := [160, 0, 7, 4, 167, 0, 4, 3, 54, 4, 28, 154, 0, 20, 29, 153, 0, 12, 21, 4, 153, 0, 7, 4]
abbrev dktX13_isHeardSo_3 : List UInt8 := dkwX13_isHeardSo_3 ++ dktX13_isHeardSo_4
def dkwX13_isHeardSo_2 : List UInt8 := [42, 182, 0, 128, 4, 96, 160, 0, 7, 4, 167, 0, 4, 3, 62, 27, 6, 112, 42, 182, 0, 125, 4, 96]
abbrev dktX13_isHeardSo_2 : List UInt8 := dkwX13_isHeardSo_2 ++ dktX13_isHeardSo_3
def dkwX13_isHeardSo_1 : List UInt8 := [154, 0, 21, 27, 2, 160, 0, 14, 42, 182, 0, 196, 154, 0, 7, 4, 167, 0, 4, 3, 172, 27, 6, 108]
abbrev dktX13_isHeardSo_1 : List UInt8 := dkwX13_isHeardSo_1 ++ dktX13_isHeardSo_2
def dkwX13_isHeardSo_0 : List UInt8 := [27, 2, 161, 0, 9, 27, 16, 8, 164, 0, 5, 4, 172, 27, 2, 159, 0, 10, 42, 182, 0, 196]
abbrev dktX13_isHeardSo_0 : List UInt8 := dkwX13_isHeardSo_0 ++ dktX13_isHeardSo_1
theorem dksX13_isHeardSo_0 : cX13_isHeardSo.data.toList.drop 0 = dktX13_isHeardSo_0 := by decide +kernel
theorem dksX13_isHeardSo_1 : cX13_isHeardSo.data.toList.drop 22 = dktX13_isHeardSo_1 := dk_seg dksX13_isHeardSo_0 22 rfl rfl
theorem dksX13_isHeardSo_2 : cX13_isHeardSo.data.toList.drop 46 = dktX13_isHeardSo_2 := dk_seg dksX13_isHeardSo_1 24 rfl rfl
theorem dksX13_isHeardSo_3 : cX13_isHeardSo.data.toList.drop 70 = dktX13_isHeardSo_3 := dk_seg dksX13_isHeardSo_2 24 rfl rfl
theorem dksX13_isHeardSo_4 : cX13_isHeardSo.data.toList.drop 94 = dktX13_isHeardSo_4 := dk_seg dksX13_isHeardSo_3 24 rfl rfl
theorem dX13_isHeardSo_0 : decode cX13_isHeardSo 0 = .ok (.iload_n 1, 1) := dk_27 (dk_at dksX13_isHeardSo_0 0 rfl rfl)
theorem dX13_isHeardSo_1 : decode cX13_isHeardSo 1 = .ok (.iconst (-1), 1) := dk_2 (dk_at dksX13_isHeardSo_0 1 rfl rfl)
theorem dX13_isHeardSo_2 : decode cX13_isHeardSo 2 = .ok (.if_icmp .lt 9, 3) := dk_161 0 9 (dk_at dksX13_isHeardSo_0 2 rfl rfl)
theorem dX13_isHeardSo_5 : decode cX13_isHeardSo 5 = .ok (.iload_n 1, 1) := dk_27 (dk_at dksX13_isHeardSo_0 5 rfl rfl)
theorem dX13_isHeardSo_6 : decode cX13_isHeardSo 6 = .ok (.bipush 8, 2) := dk_16 8 (dk_at dksX13_isHeardSo_0 6 rfl rfl)
theorem dX13_isHeardSo_8 : decode cX13_isHeardSo 8 = .ok (.if_icmp .le 5, 3) := dk_164 0 5 (dk_at dksX13_isHeardSo_0 8 rfl rfl)
theorem dX13_isHeardSo_11 : decode cX13_isHeardSo 11 = .ok (.iconst 1, 1) := dk_4 (dk_at dksX13_isHeardSo_0 11 rfl rfl)
theorem dX13_isHeardSo_12 : decode cX13_isHeardSo 12 = .ok (.ireturn, 1) := dk_172 (dk_at dksX13_isHeardSo_0 12 rfl rfl)
theorem dX13_isHeardSo_13 : decode cX13_isHeardSo 13 = .ok (.iload_n 1, 1) := dk_27 (dk_at dksX13_isHeardSo_0 13 rfl rfl)
theorem dX13_isHeardSo_14 : decode cX13_isHeardSo 14 = .ok (.iconst (-1), 1) := dk_2 (dk_at dksX13_isHeardSo_0 14 rfl rfl)
theorem dX13_isHeardSo_15 : decode cX13_isHeardSo 15 = .ok (.if_icmp .eq 10, 3) := dk_159 0 10 (dk_at dksX13_isHeardSo_0 15 rfl rfl)
theorem dX13_isHeardSo_18 : decode cX13_isHeardSo 18 = .ok (.aload_n 0, 1) := dk_42 (dk_at dksX13_isHeardSo_0 18 rfl rfl)
theorem dX13_isHeardSo_19 : decode cX13_isHeardSo 19 = .ok (.invokevirtual 196, 3) := dk_182 0 196 (dk_at dksX13_isHeardSo_0 19 rfl rfl)
theorem dX13_isHeardSo_22 : decode cX13_isHeardSo 22 = .ok (.ifCond .ne 21, 3) := dk_154 0 21 (dk_at dksX13_isHeardSo_1 0 rfl rfl)
theorem dX13_isHeardSo_25 : decode cX13_isHeardSo 25 = .ok (.iload_n 1, 1) := dk_27 (dk_at dksX13_isHeardSo_1 3 rfl rfl)
theorem dX13_isHeardSo_26 : decode cX13_isHeardSo 26 = .ok (.iconst (-1), 1) := dk_2 (dk_at dksX13_isHeardSo_1 4 rfl rfl)
theorem dX13_isHeardSo_27 : decode cX13_isHeardSo 27 = .ok (.if_icmp .ne 14, 3) := dk_160 0 14 (dk_at dksX13_isHeardSo_1 5 rfl rfl)
theorem dX13_isHeardSo_30 : decode cX13_isHeardSo 30 = .ok (.aload_n 0, 1) := dk_42 (dk_at dksX13_isHeardSo_1 8 rfl rfl)
theorem dX13_isHeardSo_31 : decode cX13_isHeardSo 31 = .ok (.invokevirtual 196, 3) := dk_182 0 196 (dk_at dksX13_isHeardSo_1 9 rfl rfl)
theorem dX13_isHeardSo_34 : decode cX13_isHeardSo 34 = .ok (.ifCond .ne 7, 3) := dk_154 0 7 (dk_at dksX13_isHeardSo_1 12 rfl rfl)
theorem dX13_isHeardSo_37 : decode cX13_isHeardSo 37 = .ok (.iconst 1, 1) := dk_4 (dk_at dksX13_isHeardSo_1 15 rfl rfl)
theorem dX13_isHeardSo_38 : decode cX13_isHeardSo 38 = .ok (.goto 4, 3) := dk_167 0 4 (dk_at dksX13_isHeardSo_1 16 rfl rfl)
theorem dX13_isHeardSo_41 : decode cX13_isHeardSo 41 = .ok (.iconst 0, 1) := dk_3 (dk_at dksX13_isHeardSo_1 19 rfl rfl)
theorem dX13_isHeardSo_42 : decode cX13_isHeardSo 42 = .ok (.ireturn, 1) := dk_172 (dk_at dksX13_isHeardSo_1 20 rfl rfl)
theorem dX13_isHeardSo_43 : decode cX13_isHeardSo 43 = .ok (.iload_n 1, 1) := dk_27 (dk_at dksX13_isHeardSo_1 21 rfl rfl)
theorem dX13_isHeardSo_44 : decode cX13_isHeardSo 44 = .ok (.iconst 3, 1) := dk_6 (dk_at dksX13_isHeardSo_1 22 rfl rfl)
theorem dX13_isHeardSo_45 : decode cX13_isHeardSo 45 = .ok (.idiv, 1) := dk_108 (dk_at dksX13_isHeardSo_1 23 rfl rfl)
theorem dX13_isHeardSo_46 : decode cX13_isHeardSo 46 = .ok (.aload_n 0, 1) := dk_42 (dk_at dksX13_isHeardSo_2 0 rfl rfl)
theorem dX13_isHeardSo_47 : decode cX13_isHeardSo 47 = .ok (.invokevirtual 128, 3) := dk_182 0 128 (dk_at dksX13_isHeardSo_2 1 rfl rfl)
theorem dX13_isHeardSo_50 : decode cX13_isHeardSo 50 = .ok (.iconst 1, 1) := dk_4 (dk_at dksX13_isHeardSo_2 4 rfl rfl)
theorem dX13_isHeardSo_51 : decode cX13_isHeardSo 51 = .ok (.iadd, 1) := dk_96 (dk_at dksX13_isHeardSo_2 5 rfl rfl)
theorem dX13_isHeardSo_52 : decode cX13_isHeardSo 52 = .ok (.if_icmp .ne 7, 3) := dk_160 0 7 (dk_at dksX13_isHeardSo_2 6 rfl rfl)
theorem dX13_isHeardSo_55 : decode cX13_isHeardSo 55 = .ok (.iconst 1, 1) := dk_4 (dk_at dksX13_isHeardSo_2 9 rfl rfl)
theorem dX13_isHeardSo_56 : decode cX13_isHeardSo 56 = .ok (.goto 4, 3) := dk_167 0 4 (dk_at dksX13_isHeardSo_2 10 rfl rfl)
theorem dX13_isHeardSo_59 : decode cX13_isHeardSo 59 = .ok (.iconst 0, 1) := dk_3 (dk_at dksX13_isHeardSo_2 13 rfl rfl)
theorem dX13_isHeardSo_60 : decode cX13_isHeardSo 60 = .ok (.istore_n 3, 1) := dk_62 (dk_at dksX13_isHeardSo_2 14 rfl rfl)
theorem dX13_isHeardSo_61 : decode cX13_isHeardSo 61 = .ok (.iload_n 1, 1) := dk_27 (dk_at dksX13_isHeardSo_2 15 rfl rfl)
theorem dX13_isHeardSo_62 : decode cX13_isHeardSo 62 = .ok (.iconst 3, 1) := dk_6 (dk_at dksX13_isHeardSo_2 16 rfl rfl)
theorem dX13_isHeardSo_63 : decode cX13_isHeardSo 63 = .ok (.irem, 1) := dk_112 (dk_at dksX13_isHeardSo_2 17 rfl rfl)
theorem dX13_isHeardSo_64 : decode cX13_isHeardSo 64 = .ok (.aload_n 0, 1) := dk_42 (dk_at dksX13_isHeardSo_2 18 rfl rfl)
theorem dX13_isHeardSo_65 : decode cX13_isHeardSo 65 = .ok (.invokevirtual 125, 3) := dk_182 0 125 (dk_at dksX13_isHeardSo_2 19 rfl rfl)
theorem dX13_isHeardSo_68 : decode cX13_isHeardSo 68 = .ok (.iconst 1, 1) := dk_4 (dk_at dksX13_isHeardSo_2 22 rfl rfl)
theorem dX13_isHeardSo_69 : decode cX13_isHeardSo 69 = .ok (.iadd, 1) := dk_96 (dk_at dksX13_isHeardSo_2 23 rfl rfl)
theorem dX13_isHeardSo_70 : decode cX13_isHeardSo 70 = .ok (.if_icmp .ne 7, 3) := dk_160 0 7 (dk_at dksX13_isHeardSo_3 0 rfl rfl)
theorem dX13_isHeardSo_73 : decode cX13_isHeardSo 73 = .ok (.iconst 1, 1) := dk_4 (dk_at dksX13_isHeardSo_3 3 rfl rfl)
theorem dX13_isHeardSo_74 : decode cX13_isHeardSo 74 = .ok (.goto 4, 3) := dk_167 0 4 (dk_at dksX13_isHeardSo_3 4 rfl rfl)
theorem dX13_isHeardSo_77 : decode cX13_isHeardSo 77 = .ok (.iconst 0, 1) := dk_3 (dk_at dksX13_isHeardSo_3 7 rfl rfl)
theorem dX13_isHeardSo_78 : decode cX13_isHeardSo 78 = .ok (.istore 4, 2) := dk_54 4 (dk_at dksX13_isHeardSo_3 8 rfl rfl)
theorem dX13_isHeardSo_80 : decode cX13_isHeardSo 80 = .ok (.iload_n 2, 1) := dk_28 (dk_at dksX13_isHeardSo_3 10 rfl rfl)
theorem dX13_isHeardSo_81 : decode cX13_isHeardSo 81 = .ok (.ifCond .ne 20, 3) := dk_154 0 20 (dk_at dksX13_isHeardSo_3 11 rfl rfl)
theorem dX13_isHeardSo_84 : decode cX13_isHeardSo 84 = .ok (.iload_n 3, 1) := dk_29 (dk_at dksX13_isHeardSo_3 14 rfl rfl)
theorem dX13_isHeardSo_85 : decode cX13_isHeardSo 85 = .ok (.ifCond .eq 12, 3) := dk_153 0 12 (dk_at dksX13_isHeardSo_3 15 rfl rfl)
theorem dX13_isHeardSo_88 : decode cX13_isHeardSo 88 = .ok (.iload 4, 2) := dk_21 4 (dk_at dksX13_isHeardSo_3 18 rfl rfl)
theorem dX13_isHeardSo_90 : decode cX13_isHeardSo 90 = .ok (.ifCond .eq 7, 3) := dk_153 0 7 (dk_at dksX13_isHeardSo_3 20 rfl rfl)
theorem dX13_isHeardSo_93 : decode cX13_isHeardSo 93 = .ok (.iconst 1, 1) := dk_4 (dk_at dksX13_isHeardSo_3 23 rfl rfl)
theorem dX13_isHeardSo_94 : decode cX13_isHeardSo 94 = .ok (.goto 18, 3) := dk_167 0 18 (dk_at dksX13_isHeardSo_4 0 rfl rfl)
theorem dX13_isHeardSo_97 : decode cX13_isHeardSo 97 = .ok (.iconst 0, 1) := dk_3 (dk_at dksX13_isHeardSo_4 3 rfl rfl)
theorem dX13_isHeardSo_98 : decode cX13_isHeardSo 98 = .ok (.goto 14, 3) := dk_167 0 14 (dk_at dksX13_isHeardSo_4 4 rfl rfl)
theorem dX13_isHeardSo_101 : decode cX13_isHeardSo 101 = .ok (.iload_n 2, 1) := dk_28 (dk_at dksX13_isHeardSo_4 7 rfl rfl)
theorem dX13_isHeardSo_102 : decode cX13_isHeardSo 102 = .ok (.iconst 1, 1) := dk_4 (dk_at dksX13_isHeardSo_4 8 rfl rfl)
theorem dX13_isHeardSo_103 : decode cX13_isHeardSo 103 = .ok (.if_icmp .ne 7, 3) := dk_160 0 7 (dk_at dksX13_isHeardSo_4 9 rfl rfl)
theorem dX13_isHeardSo_106 : decode cX13_isHeardSo 106 = .ok (.iload_n 3, 1) := dk_29 (dk_at dksX13_isHeardSo_4 12 rfl rfl)
theorem dX13_isHeardSo_107 : decode cX13_isHeardSo 107 = .ok (.goto 5, 3) := dk_167 0 5 (dk_at dksX13_isHeardSo_4 13 rfl rfl)
theorem dX13_isHeardSo_110 : decode cX13_isHeardSo 110 = .ok (.iload 4, 2) := dk_21 4 (dk_at dksX13_isHeardSo_4 16 rfl rfl)
theorem dX13_isHeardSo_112 : decode cX13_isHeardSo 112 = .ok (.ireturn, 1) := dk_172 (dk_at dksX13_isHeardSo_4 18 rfl rfl)
abbrev cX13_headings : ByteArray := prog_16_method_84_code
def yX13_headings : MethodName := ⟨RX13, "headings", "(II)I"⟩
def dkwX13_headings_1 : List UInt8 := [28, 7, 7, 182, 1, 12, 136, 184, 0, 234, 172]
abbrev dktX13_headings_1 : List UInt8 := dkwX13_headings_1 ++ []
def dkwX13_headings_0 : List UInt8 := [42, 27, 28, 182, 1, 9, 153, 0, 16, 42, 42, 27, 28, 182, 1, 9, 182, 0, 80, 167, 0, 15, 42, 27]
abbrev dktX13_headings_0 : List UInt8 := dkwX13_headings_0 ++ dktX13_headings_1
theorem dksX13_headings_0 : cX13_headings.data.toList.drop 0 = dktX13_headings_0 := by decide +kernel
theorem dksX13_headings_1 : cX13_headings.data.toList.drop 24 = dktX13_headings_1 := dk_seg dksX13_headings_0 24 rfl rfl
theorem dX13_headings_0 : decode cX13_headings 0 = .ok (.aload_n 0, 1) := dk_42 (dk_at dksX13_headings_0 0 rfl rfl)
theorem dX13_headings_1 : decode cX13_headings 1 = .ok (.iload_n 1, 1) := dk_27 (dk_at dksX13_headings_0 1 rfl rfl)
theorem dX13_headings_2 : decode cX13_headings 2 = .ok (.iload_n 2, 1) := dk_28 (dk_at dksX13_headings_0 2 rfl rfl)
theorem dX13_headings_3 : decode cX13_headings 3 = .ok (.invokevirtual 265, 3) := dk_182 1 9 (dk_at dksX13_headings_0 3 rfl rfl)
theorem dX13_headings_6 : decode cX13_headings 6 = .ok (.ifCond .eq 16, 3) := dk_153 0 16 (dk_at dksX13_headings_0 6 rfl rfl)
theorem dX13_headings_9 : decode cX13_headings 9 = .ok (.aload_n 0, 1) := dk_42 (dk_at dksX13_headings_0 9 rfl rfl)
theorem dX13_headings_10 : decode cX13_headings 10 = .ok (.aload_n 0, 1) := dk_42 (dk_at dksX13_headings_0 10 rfl rfl)
theorem dX13_headings_11 : decode cX13_headings 11 = .ok (.iload_n 1, 1) := dk_27 (dk_at dksX13_headings_0 11 rfl rfl)
theorem dX13_headings_12 : decode cX13_headings 12 = .ok (.iload_n 2, 1) := dk_28 (dk_at dksX13_headings_0 12 rfl rfl)
theorem dX13_headings_13 : decode cX13_headings 13 = .ok (.invokevirtual 265, 3) := dk_182 1 9 (dk_at dksX13_headings_0 13 rfl rfl)
theorem dX13_headings_16 : decode cX13_headings 16 = .ok (.invokevirtual 80, 3) := dk_182 0 80 (dk_at dksX13_headings_0 16 rfl rfl)
theorem dX13_headings_19 : decode cX13_headings 19 = .ok (.goto 15, 3) := dk_167 0 15 (dk_at dksX13_headings_0 19 rfl rfl)
theorem dX13_headings_22 : decode cX13_headings 22 = .ok (.aload_n 0, 1) := dk_42 (dk_at dksX13_headings_0 22 rfl rfl)
theorem dX13_headings_23 : decode cX13_headings 23 = .ok (.iload_n 1, 1) := dk_27 (dk_at dksX13_headings_0 23 rfl rfl)
theorem dX13_headings_24 : decode cX13_headings 24 = .ok (.iload_n 2, 1) := dk_28 (dk_at dksX13_headings_1 0 rfl rfl)
theorem dX13_headings_25 : decode cX13_headings 25 = .ok (.iconst 4, 1) := dk_7 (dk_at dksX13_headings_1 1 rfl rfl)
theorem dX13_headings_26 : decode cX13_headings 26 = .ok (.iconst 4, 1) := dk_7 (dk_at dksX13_headings_1 2 rfl rfl)
theorem dX13_headings_27 : decode cX13_headings 27 = .ok (.invokevirtual 268, 3) := dk_182 1 12 (dk_at dksX13_headings_1 3 rfl rfl)
theorem dX13_headings_30 : decode cX13_headings 30 = .ok (.l2i, 1) := dk_136 (dk_at dksX13_headings_1 6 rfl rfl)
theorem dX13_headings_31 : decode cX13_headings 31 = .ok (.invokestatic 234, 3) := dk_184 0 234 (dk_at dksX13_headings_1 7 rfl rfl)
theorem dX13_headings_34 : decode cX13_headings 34 = .ok (.ireturn, 1) := dk_172 (dk_at dksX13_headings_1 10 rfl rfl)
abbrev cX13_leaves : ByteArray := prog_16_method_86_code
def yX13_leaves : MethodName := ⟨RX13, "leaves", "(I)I"⟩
def dkwX13_leaves_4 : List UInt8 := [167, 255, 203, 28, 172]
abbrev dktX13_leaves_4 : List UInt8 := dkwX13_leaves_4 ++ []
def dkwX13_leaves_3 : List UInt8 := [79, 28, 42, 182, 0, 196, 153, 0, 7, 4, 167, 0, 4, 3, 96, 61, 42, 182, 0, 146, 132, 3, 1]
abbrev dktX13_leaves_3 : List UInt8 := dkwX13_leaves_3 ++ dktX13_leaves_4
def dkwX13_leaves_2 : List UInt8 := [182, 1, 17, 16, 36, 112, 54, 4, 42, 180, 0, 9, 16, 56, 21, 4, 96, 42, 182, 1, 17, 16, 50, 112]
abbrev dktX13_leaves_2 : List UInt8 := dkwX13_leaves_2 ++ dktX13_leaves_3
def dkwX13_leaves_1 : List UInt8 := [96, 18, 191, 164, 0, 10, 42, 18, 192, 182, 0, 80, 172, 3, 61, 3, 62, 29, 27, 162, 0, 54, 42]
abbrev dktX13_leaves_1 : List UInt8 := dkwX13_leaves_1 ++ dktX13_leaves_2
def dkwX13_leaves_0 : List UInt8 := [27, 4, 16, 20, 184, 0, 84, 154, 0, 10, 42, 18, 74, 182, 0, 80, 172, 42, 180, 0, 9, 3, 46, 27]
abbrev dktX13_leaves_0 : List UInt8 := dkwX13_leaves_0 ++ dktX13_leaves_1
theorem dksX13_leaves_0 : cX13_leaves.data.toList.drop 0 = dktX13_leaves_0 := by decide +kernel
theorem dksX13_leaves_1 : cX13_leaves.data.toList.drop 24 = dktX13_leaves_1 := dk_seg dksX13_leaves_0 24 rfl rfl
theorem dksX13_leaves_2 : cX13_leaves.data.toList.drop 47 = dktX13_leaves_2 := dk_seg dksX13_leaves_1 23 rfl rfl
theorem dksX13_leaves_3 : cX13_leaves.data.toList.drop 71 = dktX13_leaves_3 := dk_seg dksX13_leaves_2 24 rfl rfl
theorem dksX13_leaves_4 : cX13_leaves.data.toList.drop 94 = dktX13_leaves_4 := dk_seg dksX13_leaves_3 23 rfl rfl
theorem dX13_leaves_0 : decode cX13_leaves 0 = .ok (.iload_n 1, 1) := dk_27 (dk_at dksX13_leaves_0 0 rfl rfl)
theorem dX13_leaves_1 : decode cX13_leaves 1 = .ok (.iconst 1, 1) := dk_4 (dk_at dksX13_leaves_0 1 rfl rfl)
theorem dX13_leaves_2 : decode cX13_leaves 2 = .ok (.bipush 20, 2) := dk_16 20 (dk_at dksX13_leaves_0 2 rfl rfl)
theorem dX13_leaves_4 : decode cX13_leaves 4 = .ok (.invokestatic 84, 3) := dk_184 0 84 (dk_at dksX13_leaves_0 4 rfl rfl)
theorem dX13_leaves_7 : decode cX13_leaves 7 = .ok (.ifCond .ne 10, 3) := dk_154 0 10 (dk_at dksX13_leaves_0 7 rfl rfl)
theorem dX13_leaves_10 : decode cX13_leaves 10 = .ok (.aload_n 0, 1) := dk_42 (dk_at dksX13_leaves_0 10 rfl rfl)
theorem dX13_leaves_11 : decode cX13_leaves 11 = .ok (.ldc 74, 2) := dk_18 74 (dk_at dksX13_leaves_0 11 rfl rfl)
theorem dX13_leaves_13 : decode cX13_leaves 13 = .ok (.invokevirtual 80, 3) := dk_182 0 80 (dk_at dksX13_leaves_0 13 rfl rfl)
theorem dX13_leaves_16 : decode cX13_leaves 16 = .ok (.ireturn, 1) := dk_172 (dk_at dksX13_leaves_0 16 rfl rfl)
theorem dX13_leaves_17 : decode cX13_leaves 17 = .ok (.aload_n 0, 1) := dk_42 (dk_at dksX13_leaves_0 17 rfl rfl)
theorem dX13_leaves_18 : decode cX13_leaves 18 = .ok (.getfield 9, 3) := dk_180 0 9 (dk_at dksX13_leaves_0 18 rfl rfl)
theorem dX13_leaves_21 : decode cX13_leaves 21 = .ok (.iconst 0, 1) := dk_3 (dk_at dksX13_leaves_0 21 rfl rfl)
theorem dX13_leaves_22 : decode cX13_leaves 22 = .ok (.iaload, 1) := dk_46 (dk_at dksX13_leaves_0 22 rfl rfl)
theorem dX13_leaves_23 : decode cX13_leaves 23 = .ok (.iload_n 1, 1) := dk_27 (dk_at dksX13_leaves_0 23 rfl rfl)
theorem dX13_leaves_24 : decode cX13_leaves 24 = .ok (.iadd, 1) := dk_96 (dk_at dksX13_leaves_1 0 rfl rfl)
theorem dX13_leaves_25 : decode cX13_leaves 25 = .ok (.ldc 191, 2) := dk_18 191 (dk_at dksX13_leaves_1 1 rfl rfl)
theorem dX13_leaves_27 : decode cX13_leaves 27 = .ok (.if_icmp .le 10, 3) := dk_164 0 10 (dk_at dksX13_leaves_1 3 rfl rfl)
theorem dX13_leaves_30 : decode cX13_leaves 30 = .ok (.aload_n 0, 1) := dk_42 (dk_at dksX13_leaves_1 6 rfl rfl)
theorem dX13_leaves_31 : decode cX13_leaves 31 = .ok (.ldc 192, 2) := dk_18 192 (dk_at dksX13_leaves_1 7 rfl rfl)
theorem dX13_leaves_33 : decode cX13_leaves 33 = .ok (.invokevirtual 80, 3) := dk_182 0 80 (dk_at dksX13_leaves_1 9 rfl rfl)
theorem dX13_leaves_36 : decode cX13_leaves 36 = .ok (.ireturn, 1) := dk_172 (dk_at dksX13_leaves_1 12 rfl rfl)
theorem dX13_leaves_37 : decode cX13_leaves 37 = .ok (.iconst 0, 1) := dk_3 (dk_at dksX13_leaves_1 13 rfl rfl)
theorem dX13_leaves_38 : decode cX13_leaves 38 = .ok (.istore_n 2, 1) := dk_61 (dk_at dksX13_leaves_1 14 rfl rfl)
theorem dX13_leaves_39 : decode cX13_leaves 39 = .ok (.iconst 0, 1) := dk_3 (dk_at dksX13_leaves_1 15 rfl rfl)
theorem dX13_leaves_40 : decode cX13_leaves 40 = .ok (.istore_n 3, 1) := dk_62 (dk_at dksX13_leaves_1 16 rfl rfl)
theorem dX13_leaves_41 : decode cX13_leaves 41 = .ok (.iload_n 3, 1) := dk_29 (dk_at dksX13_leaves_1 17 rfl rfl)
theorem dX13_leaves_42 : decode cX13_leaves 42 = .ok (.iload_n 1, 1) := dk_27 (dk_at dksX13_leaves_1 18 rfl rfl)
theorem dX13_leaves_43 : decode cX13_leaves 43 = .ok (.if_icmp .ge 54, 3) := dk_162 0 54 (dk_at dksX13_leaves_1 19 rfl rfl)
theorem dX13_leaves_46 : decode cX13_leaves 46 = .ok (.aload_n 0, 1) := dk_42 (dk_at dksX13_leaves_1 22 rfl rfl)
theorem dX13_leaves_47 : decode cX13_leaves 47 = .ok (.invokevirtual 273, 3) := dk_182 1 17 (dk_at dksX13_leaves_2 0 rfl rfl)
theorem dX13_leaves_50 : decode cX13_leaves 50 = .ok (.bipush 36, 2) := dk_16 36 (dk_at dksX13_leaves_2 3 rfl rfl)
theorem dX13_leaves_52 : decode cX13_leaves 52 = .ok (.irem, 1) := dk_112 (dk_at dksX13_leaves_2 5 rfl rfl)
theorem dX13_leaves_53 : decode cX13_leaves 53 = .ok (.istore 4, 2) := dk_54 4 (dk_at dksX13_leaves_2 6 rfl rfl)
theorem dX13_leaves_55 : decode cX13_leaves 55 = .ok (.aload_n 0, 1) := dk_42 (dk_at dksX13_leaves_2 8 rfl rfl)
theorem dX13_leaves_56 : decode cX13_leaves 56 = .ok (.getfield 9, 3) := dk_180 0 9 (dk_at dksX13_leaves_2 9 rfl rfl)
theorem dX13_leaves_59 : decode cX13_leaves 59 = .ok (.bipush 56, 2) := dk_16 56 (dk_at dksX13_leaves_2 12 rfl rfl)
theorem dX13_leaves_61 : decode cX13_leaves 61 = .ok (.iload 4, 2) := dk_21 4 (dk_at dksX13_leaves_2 14 rfl rfl)
theorem dX13_leaves_63 : decode cX13_leaves 63 = .ok (.iadd, 1) := dk_96 (dk_at dksX13_leaves_2 16 rfl rfl)
theorem dX13_leaves_64 : decode cX13_leaves 64 = .ok (.aload_n 0, 1) := dk_42 (dk_at dksX13_leaves_2 17 rfl rfl)
theorem dX13_leaves_65 : decode cX13_leaves 65 = .ok (.invokevirtual 273, 3) := dk_182 1 17 (dk_at dksX13_leaves_2 18 rfl rfl)
theorem dX13_leaves_68 : decode cX13_leaves 68 = .ok (.bipush 50, 2) := dk_16 50 (dk_at dksX13_leaves_2 21 rfl rfl)
theorem dX13_leaves_70 : decode cX13_leaves 70 = .ok (.irem, 1) := dk_112 (dk_at dksX13_leaves_2 23 rfl rfl)
theorem dX13_leaves_71 : decode cX13_leaves 71 = .ok (.iastore, 1) := dk_79 (dk_at dksX13_leaves_3 0 rfl rfl)
theorem dX13_leaves_72 : decode cX13_leaves 72 = .ok (.iload_n 2, 1) := dk_28 (dk_at dksX13_leaves_3 1 rfl rfl)
theorem dX13_leaves_73 : decode cX13_leaves 73 = .ok (.aload_n 0, 1) := dk_42 (dk_at dksX13_leaves_3 2 rfl rfl)
theorem dX13_leaves_74 : decode cX13_leaves 74 = .ok (.invokevirtual 196, 3) := dk_182 0 196 (dk_at dksX13_leaves_3 3 rfl rfl)
theorem dX13_leaves_77 : decode cX13_leaves 77 = .ok (.ifCond .eq 7, 3) := dk_153 0 7 (dk_at dksX13_leaves_3 6 rfl rfl)
theorem dX13_leaves_80 : decode cX13_leaves 80 = .ok (.iconst 1, 1) := dk_4 (dk_at dksX13_leaves_3 9 rfl rfl)
theorem dX13_leaves_81 : decode cX13_leaves 81 = .ok (.goto 4, 3) := dk_167 0 4 (dk_at dksX13_leaves_3 10 rfl rfl)
theorem dX13_leaves_84 : decode cX13_leaves 84 = .ok (.iconst 0, 1) := dk_3 (dk_at dksX13_leaves_3 13 rfl rfl)
theorem dX13_leaves_85 : decode cX13_leaves 85 = .ok (.iadd, 1) := dk_96 (dk_at dksX13_leaves_3 14 rfl rfl)
theorem dX13_leaves_86 : decode cX13_leaves 86 = .ok (.istore_n 2, 1) := dk_61 (dk_at dksX13_leaves_3 15 rfl rfl)
theorem dX13_leaves_87 : decode cX13_leaves 87 = .ok (.aload_n 0, 1) := dk_42 (dk_at dksX13_leaves_3 16 rfl rfl)
theorem dX13_leaves_88 : decode cX13_leaves 88 = .ok (.invokevirtual 146, 3) := dk_182 0 146 (dk_at dksX13_leaves_3 17 rfl rfl)
theorem dX13_leaves_91 : decode cX13_leaves 91 = .ok (.iinc 3 1, 3) := dk_132 3 1 (dk_at dksX13_leaves_3 20 rfl rfl)
theorem dX13_leaves_94 : decode cX13_leaves 94 = .ok (.goto (-53), 3) := dk_167 255 203 (dk_at dksX13_leaves_4 0 rfl rfl)
theorem dX13_leaves_97 : decode cX13_leaves 97 = .ok (.iload_n 2, 1) := dk_28 (dk_at dksX13_leaves_4 3 rfl rfl)
theorem dX13_leaves_98 : decode cX13_leaves 98 = .ok (.ireturn, 1) := dk_172 (dk_at dksX13_leaves_4 4 rfl rfl)
abbrev cX13_drawn : ByteArray := prog_16_method_85_code
def yX13_drawn : MethodName := ⟨RX13, "drawn", "()I"⟩
def dkwX13_drawn_1 : List UInt8 := [5, 46, 16, 8, 124, 172]
abbrev dktX13_drawn_1 : List UInt8 := dkwX13_drawn_1 ++ []
def dkwX13_drawn_0 : List UInt8 := [42, 180, 0, 9, 5, 42, 180, 0, 9, 5, 46, 19, 1, 16, 104, 17, 48, 57, 96, 79, 42, 180, 0, 9]
abbrev dktX13_drawn_0 : List UInt8 := dkwX13_drawn_0 ++ dktX13_drawn_1
theorem dksX13_drawn_0 : cX13_drawn.data.toList.drop 0 = dktX13_drawn_0 := by decide +kernel
theorem dksX13_drawn_1 : cX13_drawn.data.toList.drop 24 = dktX13_drawn_1 := dk_seg dksX13_drawn_0 24 rfl rfl
theorem dX13_drawn_0 : decode cX13_drawn 0 = .ok (.aload_n 0, 1) := dk_42 (dk_at dksX13_drawn_0 0 rfl rfl)
theorem dX13_drawn_1 : decode cX13_drawn 1 = .ok (.getfield 9, 3) := dk_180 0 9 (dk_at dksX13_drawn_0 1 rfl rfl)
theorem dX13_drawn_4 : decode cX13_drawn 4 = .ok (.iconst 2, 1) := dk_5 (dk_at dksX13_drawn_0 4 rfl rfl)
theorem dX13_drawn_5 : decode cX13_drawn 5 = .ok (.aload_n 0, 1) := dk_42 (dk_at dksX13_drawn_0 5 rfl rfl)
theorem dX13_drawn_6 : decode cX13_drawn 6 = .ok (.getfield 9, 3) := dk_180 0 9 (dk_at dksX13_drawn_0 6 rfl rfl)
theorem dX13_drawn_9 : decode cX13_drawn 9 = .ok (.iconst 2, 1) := dk_5 (dk_at dksX13_drawn_0 9 rfl rfl)
theorem dX13_drawn_10 : decode cX13_drawn 10 = .ok (.iaload, 1) := dk_46 (dk_at dksX13_drawn_0 10 rfl rfl)
theorem dX13_drawn_11 : decode cX13_drawn 11 = .ok (.ldc_w 272, 3) := dk_19 1 16 (dk_at dksX13_drawn_0 11 rfl rfl)
theorem dX13_drawn_14 : decode cX13_drawn 14 = .ok (.imul, 1) := dk_104 (dk_at dksX13_drawn_0 14 rfl rfl)
theorem dX13_drawn_15 : decode cX13_drawn 15 = .ok (.sipush 12345, 3) := dk_17 48 57 (dk_at dksX13_drawn_0 15 rfl rfl)
theorem dX13_drawn_18 : decode cX13_drawn 18 = .ok (.iadd, 1) := dk_96 (dk_at dksX13_drawn_0 18 rfl rfl)
theorem dX13_drawn_19 : decode cX13_drawn 19 = .ok (.iastore, 1) := dk_79 (dk_at dksX13_drawn_0 19 rfl rfl)
theorem dX13_drawn_20 : decode cX13_drawn 20 = .ok (.aload_n 0, 1) := dk_42 (dk_at dksX13_drawn_0 20 rfl rfl)
theorem dX13_drawn_21 : decode cX13_drawn 21 = .ok (.getfield 9, 3) := dk_180 0 9 (dk_at dksX13_drawn_0 21 rfl rfl)
theorem dX13_drawn_24 : decode cX13_drawn 24 = .ok (.iconst 2, 1) := dk_5 (dk_at dksX13_drawn_1 0 rfl rfl)
theorem dX13_drawn_25 : decode cX13_drawn 25 = .ok (.iaload, 1) := dk_46 (dk_at dksX13_drawn_1 1 rfl rfl)
theorem dX13_drawn_26 : decode cX13_drawn 26 = .ok (.bipush 8, 2) := dk_16 8 (dk_at dksX13_drawn_1 2 rfl rfl)
theorem dX13_drawn_28 : decode cX13_drawn 28 = .ok (.iushr, 1) := dk_124 (dk_at dksX13_drawn_1 4 rfl rfl)
theorem dX13_drawn_29 : decode cX13_drawn 29 = .ok (.ireturn, 1) := dk_172 (dk_at dksX13_drawn_1 5 rfl rfl)
abbrev cX13_odds : ByteArray := prog_16_method_87_code
def yX13_odds : MethodName := ⟨RX13, "odds", "(II)J"⟩
def dkwX13_odds_5 : List UInt8 := [167, 0, 5, 16, 36, 21, 4, 108, 133, 105, 55, 6, 132, 8, 1, 167, 255, 228, 22, 6, 173]
abbrev dktX13_odds_5 : List UInt8 := dkwX13_odds_5 ++ []
def dkwX13_odds_4 : List UInt8 := [167, 255, 236, 10, 55, 6, 3, 54, 8, 21, 8, 27, 162, 0, 28, 22, 6, 28, 154, 0, 7, 29]
abbrev dktX13_odds_4 : List UInt8 := dkwX13_odds_4 ++ dktX13_odds_5
def dkwX13_odds_3 : List UInt8 := [29, 54, 5, 21, 5, 153, 0, 21, 21, 4, 21, 5, 112, 54, 6, 21, 5, 54, 4, 21, 6, 54, 5]
abbrev dktX13_odds_3 : List UInt8 := dkwX13_odds_3 ++ dktX13_odds_4
def dkwX13_odds_2 : List UInt8 := [21, 4, 96, 46, 154, 0, 7, 4, 167, 0, 4, 3, 96, 62, 132, 4, 1, 167, 255, 225, 16, 36, 54, 4]
abbrev dktX13_odds_2 : List UInt8 := dkwX13_odds_2 ++ dktX13_odds_3
def dkwX13_odds_1 : List UInt8 := [182, 0, 80, 133, 173, 3, 62, 3, 54, 4, 21, 4, 16, 36, 162, 0, 30, 29, 42, 180, 0, 9, 16, 56]
abbrev dktX13_odds_1 : List UInt8 := dkwX13_odds_1 ++ dktX13_odds_2
def dkwX13_odds_0 : List UInt8 := [27, 3, 16, 11, 184, 0, 84, 153, 0, 12, 28, 3, 4, 184, 0, 84, 154, 0, 11, 42, 18, 74]
abbrev dktX13_odds_0 : List UInt8 := dkwX13_odds_0 ++ dktX13_odds_1
theorem dksX13_odds_0 : cX13_odds.data.toList.drop 0 = dktX13_odds_0 := by decide +kernel
theorem dksX13_odds_1 : cX13_odds.data.toList.drop 22 = dktX13_odds_1 := dk_seg dksX13_odds_0 22 rfl rfl
theorem dksX13_odds_2 : cX13_odds.data.toList.drop 46 = dktX13_odds_2 := dk_seg dksX13_odds_1 24 rfl rfl
theorem dksX13_odds_3 : cX13_odds.data.toList.drop 70 = dktX13_odds_3 := dk_seg dksX13_odds_2 24 rfl rfl
theorem dksX13_odds_4 : cX13_odds.data.toList.drop 93 = dktX13_odds_4 := dk_seg dksX13_odds_3 23 rfl rfl
theorem dksX13_odds_5 : cX13_odds.data.toList.drop 115 = dktX13_odds_5 := dk_seg dksX13_odds_4 22 rfl rfl
theorem dX13_odds_0 : decode cX13_odds 0 = .ok (.iload_n 1, 1) := dk_27 (dk_at dksX13_odds_0 0 rfl rfl)
theorem dX13_odds_1 : decode cX13_odds 1 = .ok (.iconst 0, 1) := dk_3 (dk_at dksX13_odds_0 1 rfl rfl)
theorem dX13_odds_2 : decode cX13_odds 2 = .ok (.bipush 11, 2) := dk_16 11 (dk_at dksX13_odds_0 2 rfl rfl)
theorem dX13_odds_4 : decode cX13_odds 4 = .ok (.invokestatic 84, 3) := dk_184 0 84 (dk_at dksX13_odds_0 4 rfl rfl)
theorem dX13_odds_7 : decode cX13_odds 7 = .ok (.ifCond .eq 12, 3) := dk_153 0 12 (dk_at dksX13_odds_0 7 rfl rfl)
theorem dX13_odds_10 : decode cX13_odds 10 = .ok (.iload_n 2, 1) := dk_28 (dk_at dksX13_odds_0 10 rfl rfl)
theorem dX13_odds_11 : decode cX13_odds 11 = .ok (.iconst 0, 1) := dk_3 (dk_at dksX13_odds_0 11 rfl rfl)
theorem dX13_odds_12 : decode cX13_odds 12 = .ok (.iconst 1, 1) := dk_4 (dk_at dksX13_odds_0 12 rfl rfl)
theorem dX13_odds_13 : decode cX13_odds 13 = .ok (.invokestatic 84, 3) := dk_184 0 84 (dk_at dksX13_odds_0 13 rfl rfl)
theorem dX13_odds_16 : decode cX13_odds 16 = .ok (.ifCond .ne 11, 3) := dk_154 0 11 (dk_at dksX13_odds_0 16 rfl rfl)
theorem dX13_odds_19 : decode cX13_odds 19 = .ok (.aload_n 0, 1) := dk_42 (dk_at dksX13_odds_0 19 rfl rfl)
theorem dX13_odds_20 : decode cX13_odds 20 = .ok (.ldc 74, 2) := dk_18 74 (dk_at dksX13_odds_0 20 rfl rfl)
theorem dX13_odds_22 : decode cX13_odds 22 = .ok (.invokevirtual 80, 3) := dk_182 0 80 (dk_at dksX13_odds_1 0 rfl rfl)
theorem dX13_odds_25 : decode cX13_odds 25 = .ok (.i2l, 1) := dk_133 (dk_at dksX13_odds_1 3 rfl rfl)
theorem dX13_odds_26 : decode cX13_odds 26 = .ok (.lreturn, 1) := dk_173 (dk_at dksX13_odds_1 4 rfl rfl)
theorem dX13_odds_27 : decode cX13_odds 27 = .ok (.iconst 0, 1) := dk_3 (dk_at dksX13_odds_1 5 rfl rfl)
theorem dX13_odds_28 : decode cX13_odds 28 = .ok (.istore_n 3, 1) := dk_62 (dk_at dksX13_odds_1 6 rfl rfl)
theorem dX13_odds_29 : decode cX13_odds 29 = .ok (.iconst 0, 1) := dk_3 (dk_at dksX13_odds_1 7 rfl rfl)
theorem dX13_odds_30 : decode cX13_odds 30 = .ok (.istore 4, 2) := dk_54 4 (dk_at dksX13_odds_1 8 rfl rfl)
theorem dX13_odds_32 : decode cX13_odds 32 = .ok (.iload 4, 2) := dk_21 4 (dk_at dksX13_odds_1 10 rfl rfl)
theorem dX13_odds_34 : decode cX13_odds 34 = .ok (.bipush 36, 2) := dk_16 36 (dk_at dksX13_odds_1 12 rfl rfl)
theorem dX13_odds_36 : decode cX13_odds 36 = .ok (.if_icmp .ge 30, 3) := dk_162 0 30 (dk_at dksX13_odds_1 14 rfl rfl)
theorem dX13_odds_39 : decode cX13_odds 39 = .ok (.iload_n 3, 1) := dk_29 (dk_at dksX13_odds_1 17 rfl rfl)
theorem dX13_odds_40 : decode cX13_odds 40 = .ok (.aload_n 0, 1) := dk_42 (dk_at dksX13_odds_1 18 rfl rfl)
theorem dX13_odds_41 : decode cX13_odds 41 = .ok (.getfield 9, 3) := dk_180 0 9 (dk_at dksX13_odds_1 19 rfl rfl)
theorem dX13_odds_44 : decode cX13_odds 44 = .ok (.bipush 56, 2) := dk_16 56 (dk_at dksX13_odds_1 22 rfl rfl)
theorem dX13_odds_46 : decode cX13_odds 46 = .ok (.iload 4, 2) := dk_21 4 (dk_at dksX13_odds_2 0 rfl rfl)
theorem dX13_odds_48 : decode cX13_odds 48 = .ok (.iadd, 1) := dk_96 (dk_at dksX13_odds_2 2 rfl rfl)
theorem dX13_odds_49 : decode cX13_odds 49 = .ok (.iaload, 1) := dk_46 (dk_at dksX13_odds_2 3 rfl rfl)
theorem dX13_odds_50 : decode cX13_odds 50 = .ok (.ifCond .ne 7, 3) := dk_154 0 7 (dk_at dksX13_odds_2 4 rfl rfl)
theorem dX13_odds_53 : decode cX13_odds 53 = .ok (.iconst 1, 1) := dk_4 (dk_at dksX13_odds_2 7 rfl rfl)
theorem dX13_odds_54 : decode cX13_odds 54 = .ok (.goto 4, 3) := dk_167 0 4 (dk_at dksX13_odds_2 8 rfl rfl)
theorem dX13_odds_57 : decode cX13_odds 57 = .ok (.iconst 0, 1) := dk_3 (dk_at dksX13_odds_2 11 rfl rfl)
theorem dX13_odds_58 : decode cX13_odds 58 = .ok (.iadd, 1) := dk_96 (dk_at dksX13_odds_2 12 rfl rfl)
theorem dX13_odds_59 : decode cX13_odds 59 = .ok (.istore_n 3, 1) := dk_62 (dk_at dksX13_odds_2 13 rfl rfl)
theorem dX13_odds_60 : decode cX13_odds 60 = .ok (.iinc 4 1, 3) := dk_132 4 1 (dk_at dksX13_odds_2 14 rfl rfl)
theorem dX13_odds_63 : decode cX13_odds 63 = .ok (.goto (-31), 3) := dk_167 255 225 (dk_at dksX13_odds_2 17 rfl rfl)
theorem dX13_odds_66 : decode cX13_odds 66 = .ok (.bipush 36, 2) := dk_16 36 (dk_at dksX13_odds_2 20 rfl rfl)
theorem dX13_odds_68 : decode cX13_odds 68 = .ok (.istore 4, 2) := dk_54 4 (dk_at dksX13_odds_2 22 rfl rfl)
theorem dX13_odds_70 : decode cX13_odds 70 = .ok (.iload_n 3, 1) := dk_29 (dk_at dksX13_odds_3 0 rfl rfl)
theorem dX13_odds_71 : decode cX13_odds 71 = .ok (.istore 5, 2) := dk_54 5 (dk_at dksX13_odds_3 1 rfl rfl)
theorem dX13_odds_73 : decode cX13_odds 73 = .ok (.iload 5, 2) := dk_21 5 (dk_at dksX13_odds_3 3 rfl rfl)
theorem dX13_odds_75 : decode cX13_odds 75 = .ok (.ifCond .eq 21, 3) := dk_153 0 21 (dk_at dksX13_odds_3 5 rfl rfl)
theorem dX13_odds_78 : decode cX13_odds 78 = .ok (.iload 4, 2) := dk_21 4 (dk_at dksX13_odds_3 8 rfl rfl)
theorem dX13_odds_80 : decode cX13_odds 80 = .ok (.iload 5, 2) := dk_21 5 (dk_at dksX13_odds_3 10 rfl rfl)
theorem dX13_odds_82 : decode cX13_odds 82 = .ok (.irem, 1) := dk_112 (dk_at dksX13_odds_3 12 rfl rfl)
theorem dX13_odds_83 : decode cX13_odds 83 = .ok (.istore 6, 2) := dk_54 6 (dk_at dksX13_odds_3 13 rfl rfl)
theorem dX13_odds_85 : decode cX13_odds 85 = .ok (.iload 5, 2) := dk_21 5 (dk_at dksX13_odds_3 15 rfl rfl)
theorem dX13_odds_87 : decode cX13_odds 87 = .ok (.istore 4, 2) := dk_54 4 (dk_at dksX13_odds_3 17 rfl rfl)
theorem dX13_odds_89 : decode cX13_odds 89 = .ok (.iload 6, 2) := dk_21 6 (dk_at dksX13_odds_3 19 rfl rfl)
theorem dX13_odds_91 : decode cX13_odds 91 = .ok (.istore 5, 2) := dk_54 5 (dk_at dksX13_odds_3 21 rfl rfl)
theorem dX13_odds_93 : decode cX13_odds 93 = .ok (.goto (-20), 3) := dk_167 255 236 (dk_at dksX13_odds_4 0 rfl rfl)
theorem dX13_odds_96 : decode cX13_odds 96 = .ok (.lconst 1, 1) := dk_10 (dk_at dksX13_odds_4 3 rfl rfl)
theorem dX13_odds_97 : decode cX13_odds 97 = .ok (.lstore 6, 2) := dk_55 6 (dk_at dksX13_odds_4 4 rfl rfl)
theorem dX13_odds_99 : decode cX13_odds 99 = .ok (.iconst 0, 1) := dk_3 (dk_at dksX13_odds_4 6 rfl rfl)
theorem dX13_odds_100 : decode cX13_odds 100 = .ok (.istore 8, 2) := dk_54 8 (dk_at dksX13_odds_4 7 rfl rfl)
theorem dX13_odds_102 : decode cX13_odds 102 = .ok (.iload 8, 2) := dk_21 8 (dk_at dksX13_odds_4 9 rfl rfl)
theorem dX13_odds_104 : decode cX13_odds 104 = .ok (.iload_n 1, 1) := dk_27 (dk_at dksX13_odds_4 11 rfl rfl)
theorem dX13_odds_105 : decode cX13_odds 105 = .ok (.if_icmp .ge 28, 3) := dk_162 0 28 (dk_at dksX13_odds_4 12 rfl rfl)
theorem dX13_odds_108 : decode cX13_odds 108 = .ok (.lload 6, 2) := dk_22 6 (dk_at dksX13_odds_4 15 rfl rfl)
theorem dX13_odds_110 : decode cX13_odds 110 = .ok (.iload_n 2, 1) := dk_28 (dk_at dksX13_odds_4 17 rfl rfl)
theorem dX13_odds_111 : decode cX13_odds 111 = .ok (.ifCond .ne 7, 3) := dk_154 0 7 (dk_at dksX13_odds_4 18 rfl rfl)
theorem dX13_odds_114 : decode cX13_odds 114 = .ok (.iload_n 3, 1) := dk_29 (dk_at dksX13_odds_4 21 rfl rfl)
theorem dX13_odds_115 : decode cX13_odds 115 = .ok (.goto 5, 3) := dk_167 0 5 (dk_at dksX13_odds_5 0 rfl rfl)
theorem dX13_odds_118 : decode cX13_odds 118 = .ok (.bipush 36, 2) := dk_16 36 (dk_at dksX13_odds_5 3 rfl rfl)
theorem dX13_odds_120 : decode cX13_odds 120 = .ok (.iload 4, 2) := dk_21 4 (dk_at dksX13_odds_5 5 rfl rfl)
theorem dX13_odds_122 : decode cX13_odds 122 = .ok (.idiv, 1) := dk_108 (dk_at dksX13_odds_5 7 rfl rfl)
theorem dX13_odds_123 : decode cX13_odds 123 = .ok (.i2l, 1) := dk_133 (dk_at dksX13_odds_5 8 rfl rfl)
theorem dX13_odds_124 : decode cX13_odds 124 = .ok (.lmul, 1) := dk_105 (dk_at dksX13_odds_5 9 rfl rfl)
theorem dX13_odds_125 : decode cX13_odds 125 = .ok (.lstore 6, 2) := dk_55 6 (dk_at dksX13_odds_5 10 rfl rfl)
theorem dX13_odds_127 : decode cX13_odds 127 = .ok (.iinc 8 1, 3) := dk_132 8 1 (dk_at dksX13_odds_5 12 rfl rfl)
theorem dX13_odds_130 : decode cX13_odds 130 = .ok (.goto (-28), 3) := dk_167 255 228 (dk_at dksX13_odds_5 15 rfl rfl)
theorem dX13_odds_133 : decode cX13_odds 133 = .ok (.lload 6, 2) := dk_22 6 (dk_at dksX13_odds_5 18 rfl rfl)
theorem dX13_odds_135 : decode cX13_odds 135 = .ok (.lreturn, 1) := dk_173 (dk_at dksX13_odds_5 20 rfl rfl)
abbrev cX13_seed : ByteArray := prog_16_method_88_code
def yX13_seed : MethodName := ⟨RX13, "seed", "(I)I"⟩
def dkwX13_seed_0 : List UInt8 := [42, 5, 27, 182, 0, 105, 172]
abbrev dktX13_seed_0 : List UInt8 := dkwX13_seed_0 ++ []
theorem dksX13_seed_0 : cX13_seed.data.toList.drop 0 = dktX13_seed_0 := by decide +kernel
theorem dX13_seed_0 : decode cX13_seed 0 = .ok (.aload_n 0, 1) := dk_42 (dk_at dksX13_seed_0 0 rfl rfl)
theorem dX13_seed_1 : decode cX13_seed 1 = .ok (.iconst 2, 1) := dk_5 (dk_at dksX13_seed_0 1 rfl rfl)
theorem dX13_seed_2 : decode cX13_seed 2 = .ok (.iload_n 1, 1) := dk_27 (dk_at dksX13_seed_0 2 rfl rfl)
theorem dX13_seed_3 : decode cX13_seed 3 = .ok (.invokevirtual 105, 3) := dk_182 0 105 (dk_at dksX13_seed_0 3 rfl rfl)
theorem dX13_seed_6 : decode cX13_seed 6 = .ok (.ireturn, 1) := dk_172 (dk_at dksX13_seed_0 6 rfl rfl)
abbrev cX13_feed : ByteArray := prog_16_method_89_code
def yX13_feed : MethodName := ⟨RX13, "feed", "(II)I"⟩
def dkwX13_feed_3 : List UInt8 := [132, 3, 255, 167, 255, 220, 42, 180, 1, 20, 172]
abbrev dktX13_feed_3 : List UInt8 := dkwX13_feed_3 ++ []
def dkwX13_feed_2 : List UInt8 := [180, 1, 20, 27, 16, 8, 29, 104, 122, 17, 0, 255, 126, 79, 42, 89, 180, 1, 20, 4, 96, 181, 1, 20]
abbrev dktX13_feed_2 : List UInt8 := dkwX13_feed_2 ++ dktX13_feed_3
def dkwX13_feed_1 : List UInt8 := [164, 0, 10, 42, 18, 155, 182, 0, 80, 172, 28, 4, 100, 62, 29, 155, 0, 38, 42, 180, 0, 25, 42]
abbrev dktX13_feed_1 : List UInt8 := dkwX13_feed_1 ++ dktX13_feed_2
def dkwX13_feed_0 : List UInt8 := [28, 4, 7, 184, 0, 84, 154, 0, 10, 42, 18, 74, 182, 0, 80, 172, 42, 180, 1, 20, 28, 96, 16, 120]
abbrev dktX13_feed_0 : List UInt8 := dkwX13_feed_0 ++ dktX13_feed_1
theorem dksX13_feed_0 : cX13_feed.data.toList.drop 0 = dktX13_feed_0 := by decide +kernel
theorem dksX13_feed_1 : cX13_feed.data.toList.drop 24 = dktX13_feed_1 := dk_seg dksX13_feed_0 24 rfl rfl
theorem dksX13_feed_2 : cX13_feed.data.toList.drop 47 = dktX13_feed_2 := dk_seg dksX13_feed_1 23 rfl rfl
theorem dksX13_feed_3 : cX13_feed.data.toList.drop 71 = dktX13_feed_3 := dk_seg dksX13_feed_2 24 rfl rfl
theorem dX13_feed_0 : decode cX13_feed 0 = .ok (.iload_n 2, 1) := dk_28 (dk_at dksX13_feed_0 0 rfl rfl)
theorem dX13_feed_1 : decode cX13_feed 1 = .ok (.iconst 1, 1) := dk_4 (dk_at dksX13_feed_0 1 rfl rfl)
theorem dX13_feed_2 : decode cX13_feed 2 = .ok (.iconst 4, 1) := dk_7 (dk_at dksX13_feed_0 2 rfl rfl)
theorem dX13_feed_3 : decode cX13_feed 3 = .ok (.invokestatic 84, 3) := dk_184 0 84 (dk_at dksX13_feed_0 3 rfl rfl)
theorem dX13_feed_6 : decode cX13_feed 6 = .ok (.ifCond .ne 10, 3) := dk_154 0 10 (dk_at dksX13_feed_0 6 rfl rfl)
theorem dX13_feed_9 : decode cX13_feed 9 = .ok (.aload_n 0, 1) := dk_42 (dk_at dksX13_feed_0 9 rfl rfl)
theorem dX13_feed_10 : decode cX13_feed 10 = .ok (.ldc 74, 2) := dk_18 74 (dk_at dksX13_feed_0 10 rfl rfl)
theorem dX13_feed_12 : decode cX13_feed 12 = .ok (.invokevirtual 80, 3) := dk_182 0 80 (dk_at dksX13_feed_0 12 rfl rfl)
theorem dX13_feed_15 : decode cX13_feed 15 = .ok (.ireturn, 1) := dk_172 (dk_at dksX13_feed_0 15 rfl rfl)
theorem dX13_feed_16 : decode cX13_feed 16 = .ok (.aload_n 0, 1) := dk_42 (dk_at dksX13_feed_0 16 rfl rfl)
theorem dX13_feed_17 : decode cX13_feed 17 = .ok (.getfield 276, 3) := dk_180 1 20 (dk_at dksX13_feed_0 17 rfl rfl)
theorem dX13_feed_20 : decode cX13_feed 20 = .ok (.iload_n 2, 1) := dk_28 (dk_at dksX13_feed_0 20 rfl rfl)
theorem dX13_feed_21 : decode cX13_feed 21 = .ok (.iadd, 1) := dk_96 (dk_at dksX13_feed_0 21 rfl rfl)
theorem dX13_feed_22 : decode cX13_feed 22 = .ok (.bipush 120, 2) := dk_16 120 (dk_at dksX13_feed_0 22 rfl rfl)
theorem dX13_feed_24 : decode cX13_feed 24 = .ok (.if_icmp .le 10, 3) := dk_164 0 10 (dk_at dksX13_feed_1 0 rfl rfl)
theorem dX13_feed_27 : decode cX13_feed 27 = .ok (.aload_n 0, 1) := dk_42 (dk_at dksX13_feed_1 3 rfl rfl)
theorem dX13_feed_28 : decode cX13_feed 28 = .ok (.ldc 155, 2) := dk_18 155 (dk_at dksX13_feed_1 4 rfl rfl)
theorem dX13_feed_30 : decode cX13_feed 30 = .ok (.invokevirtual 80, 3) := dk_182 0 80 (dk_at dksX13_feed_1 6 rfl rfl)
theorem dX13_feed_33 : decode cX13_feed 33 = .ok (.ireturn, 1) := dk_172 (dk_at dksX13_feed_1 9 rfl rfl)
theorem dX13_feed_34 : decode cX13_feed 34 = .ok (.iload_n 2, 1) := dk_28 (dk_at dksX13_feed_1 10 rfl rfl)
theorem dX13_feed_35 : decode cX13_feed 35 = .ok (.iconst 1, 1) := dk_4 (dk_at dksX13_feed_1 11 rfl rfl)
theorem dX13_feed_36 : decode cX13_feed 36 = .ok (.isub, 1) := dk_100 (dk_at dksX13_feed_1 12 rfl rfl)
theorem dX13_feed_37 : decode cX13_feed 37 = .ok (.istore_n 3, 1) := dk_62 (dk_at dksX13_feed_1 13 rfl rfl)
theorem dX13_feed_38 : decode cX13_feed 38 = .ok (.iload_n 3, 1) := dk_29 (dk_at dksX13_feed_1 14 rfl rfl)
theorem dX13_feed_39 : decode cX13_feed 39 = .ok (.ifCond .lt 38, 3) := dk_155 0 38 (dk_at dksX13_feed_1 15 rfl rfl)
theorem dX13_feed_42 : decode cX13_feed 42 = .ok (.aload_n 0, 1) := dk_42 (dk_at dksX13_feed_1 18 rfl rfl)
theorem dX13_feed_43 : decode cX13_feed 43 = .ok (.getfield 25, 3) := dk_180 0 25 (dk_at dksX13_feed_1 19 rfl rfl)
theorem dX13_feed_46 : decode cX13_feed 46 = .ok (.aload_n 0, 1) := dk_42 (dk_at dksX13_feed_1 22 rfl rfl)
theorem dX13_feed_47 : decode cX13_feed 47 = .ok (.getfield 276, 3) := dk_180 1 20 (dk_at dksX13_feed_2 0 rfl rfl)
theorem dX13_feed_50 : decode cX13_feed 50 = .ok (.iload_n 1, 1) := dk_27 (dk_at dksX13_feed_2 3 rfl rfl)
theorem dX13_feed_51 : decode cX13_feed 51 = .ok (.bipush 8, 2) := dk_16 8 (dk_at dksX13_feed_2 4 rfl rfl)
theorem dX13_feed_53 : decode cX13_feed 53 = .ok (.iload_n 3, 1) := dk_29 (dk_at dksX13_feed_2 6 rfl rfl)
theorem dX13_feed_54 : decode cX13_feed 54 = .ok (.imul, 1) := dk_104 (dk_at dksX13_feed_2 7 rfl rfl)
theorem dX13_feed_55 : decode cX13_feed 55 = .ok (.ishr, 1) := dk_122 (dk_at dksX13_feed_2 8 rfl rfl)
theorem dX13_feed_56 : decode cX13_feed 56 = .ok (.sipush 255, 3) := dk_17 0 255 (dk_at dksX13_feed_2 9 rfl rfl)
theorem dX13_feed_59 : decode cX13_feed 59 = .ok (.iand, 1) := dk_126 (dk_at dksX13_feed_2 12 rfl rfl)
theorem dX13_feed_60 : decode cX13_feed 60 = .ok (.iastore, 1) := dk_79 (dk_at dksX13_feed_2 13 rfl rfl)
theorem dX13_feed_61 : decode cX13_feed 61 = .ok (.aload_n 0, 1) := dk_42 (dk_at dksX13_feed_2 14 rfl rfl)
theorem dX13_feed_62 : decode cX13_feed 62 = .ok (.dup, 1) := dk_89 (dk_at dksX13_feed_2 15 rfl rfl)
theorem dX13_feed_63 : decode cX13_feed 63 = .ok (.getfield 276, 3) := dk_180 1 20 (dk_at dksX13_feed_2 16 rfl rfl)
theorem dX13_feed_66 : decode cX13_feed 66 = .ok (.iconst 1, 1) := dk_4 (dk_at dksX13_feed_2 19 rfl rfl)
theorem dX13_feed_67 : decode cX13_feed 67 = .ok (.iadd, 1) := dk_96 (dk_at dksX13_feed_2 20 rfl rfl)
theorem dX13_feed_68 : decode cX13_feed 68 = .ok (.putfield 276, 3) := dk_181 1 20 (dk_at dksX13_feed_2 21 rfl rfl)
theorem dX13_feed_71 : decode cX13_feed 71 = .ok (.iinc 3 (-1), 3) := dk_132 3 255 (dk_at dksX13_feed_3 0 rfl rfl)
theorem dX13_feed_74 : decode cX13_feed 74 = .ok (.goto (-36), 3) := dk_167 255 220 (dk_at dksX13_feed_3 3 rfl rfl)
theorem dX13_feed_77 : decode cX13_feed 77 = .ok (.aload_n 0, 1) := dk_42 (dk_at dksX13_feed_3 6 rfl rfl)
theorem dX13_feed_78 : decode cX13_feed 78 = .ok (.getfield 276, 3) := dk_180 1 20 (dk_at dksX13_feed_3 7 rfl rfl)
theorem dX13_feed_81 : decode cX13_feed 81 = .ok (.ireturn, 1) := dk_172 (dk_at dksX13_feed_3 10 rfl rfl)
abbrev cX13_wipe : ByteArray := prog_16_method_90_code
def yX13_wipe : MethodName := ⟨RX13, "wipe", "()I"⟩
def dkwX13_wipe_0 : List UInt8 := [42, 180, 1, 20, 60, 42, 3, 181, 1, 20, 27, 172]
abbrev dktX13_wipe_0 : List UInt8 := dkwX13_wipe_0 ++ []
theorem dksX13_wipe_0 : cX13_wipe.data.toList.drop 0 = dktX13_wipe_0 := by decide +kernel
theorem dX13_wipe_0 : decode cX13_wipe 0 = .ok (.aload_n 0, 1) := dk_42 (dk_at dksX13_wipe_0 0 rfl rfl)
theorem dX13_wipe_1 : decode cX13_wipe 1 = .ok (.getfield 276, 3) := dk_180 1 20 (dk_at dksX13_wipe_0 1 rfl rfl)
theorem dX13_wipe_4 : decode cX13_wipe 4 = .ok (.istore_n 1, 1) := dk_60 (dk_at dksX13_wipe_0 4 rfl rfl)
theorem dX13_wipe_5 : decode cX13_wipe 5 = .ok (.aload_n 0, 1) := dk_42 (dk_at dksX13_wipe_0 5 rfl rfl)
theorem dX13_wipe_6 : decode cX13_wipe 6 = .ok (.iconst 0, 1) := dk_3 (dk_at dksX13_wipe_0 6 rfl rfl)
theorem dX13_wipe_7 : decode cX13_wipe 7 = .ok (.putfield 276, 3) := dk_181 1 20 (dk_at dksX13_wipe_0 7 rfl rfl)
theorem dX13_wipe_10 : decode cX13_wipe 10 = .ok (.iload_n 1, 1) := dk_27 (dk_at dksX13_wipe_0 10 rfl rfl)
theorem dX13_wipe_11 : decode cX13_wipe 11 = .ok (.ireturn, 1) := dk_172 (dk_at dksX13_wipe_0 11 rfl rfl)
abbrev cX13_text : ByteArray := prog_16_method_105_code
def yX13_text : MethodName := ⟨RX13, "text", "()I"⟩
def dkwX13_text_6 : List UInt8 := [132, 2, 1, 167, 255, 227, 27, 172]
abbrev dktX13_text_6 : List UInt8 := dkwX13_text_6 ++ []
def dkwX13_text_5 : List UInt8 := [180, 1, 56, 162, 0, 27, 27, 42, 8, 28, 104, 182, 1, 111, 156, 0, 7, 3, 167, 0, 4, 4, 96, 60]
abbrev dktX13_text_5 : List UInt8 := dkwX13_text_5 ++ dktX13_text_6
def dkwX13_text_4 : List UInt8 := [181, 1, 20, 42, 180, 1, 45, 153, 0, 10, 2, 42, 180, 1, 26, 100, 172, 3, 60, 3, 61, 28, 42]
abbrev dktX13_text_4 : List UInt8 := dkwX13_text_4 ++ dktX13_text_5
def dkwX13_text_3 : List UInt8 := [182, 1, 108, 167, 255, 218, 42, 42, 180, 1, 35, 154, 0, 7, 4, 167, 0, 4, 3, 182, 1, 52, 42, 3]
abbrev dktX13_text_3 : List UInt8 := dkwX13_text_3 ++ dktX13_text_4
def dkwX13_text_2 : List UInt8 := [160, 0, 29, 42, 180, 0, 25, 42, 180, 1, 26, 46, 16, 59, 160, 0, 15, 42, 4, 182, 1, 52, 42]
abbrev dktX13_text_2 : List UInt8 := dkwX13_text_2 ++ dktX13_text_3
def dkwX13_text_1 : List UInt8 := [181, 1, 85, 42, 182, 1, 49, 42, 182, 1, 108, 42, 180, 1, 45, 154, 0, 37, 42, 180, 1, 35, 6]
abbrev dktX13_text_1 : List UInt8 := dkwX13_text_1 ++ dktX13_text_2
def dkwX13_text_0 : List UInt8 := [42, 3, 181, 1, 23, 42, 3, 181, 1, 45, 42, 3, 181, 1, 56, 42, 42, 180, 0, 9, 4, 46]
abbrev dktX13_text_0 : List UInt8 := dkwX13_text_0 ++ dktX13_text_1
theorem dksX13_text_0 : cX13_text.data.toList.drop 0 = dktX13_text_0 := by decide +kernel
theorem dksX13_text_1 : cX13_text.data.toList.drop 22 = dktX13_text_1 := dk_seg dksX13_text_0 22 rfl rfl
theorem dksX13_text_2 : cX13_text.data.toList.drop 45 = dktX13_text_2 := dk_seg dksX13_text_1 23 rfl rfl
theorem dksX13_text_3 : cX13_text.data.toList.drop 68 = dktX13_text_3 := dk_seg dksX13_text_2 23 rfl rfl
theorem dksX13_text_4 : cX13_text.data.toList.drop 92 = dktX13_text_4 := dk_seg dksX13_text_3 24 rfl rfl
theorem dksX13_text_5 : cX13_text.data.toList.drop 115 = dktX13_text_5 := dk_seg dksX13_text_4 23 rfl rfl
theorem dksX13_text_6 : cX13_text.data.toList.drop 139 = dktX13_text_6 := dk_seg dksX13_text_5 24 rfl rfl
theorem dX13_text_0 : decode cX13_text 0 = .ok (.aload_n 0, 1) := dk_42 (dk_at dksX13_text_0 0 rfl rfl)
theorem dX13_text_1 : decode cX13_text 1 = .ok (.iconst 0, 1) := dk_3 (dk_at dksX13_text_0 1 rfl rfl)
theorem dX13_text_2 : decode cX13_text 2 = .ok (.putfield 279, 3) := dk_181 1 23 (dk_at dksX13_text_0 2 rfl rfl)
theorem dX13_text_5 : decode cX13_text 5 = .ok (.aload_n 0, 1) := dk_42 (dk_at dksX13_text_0 5 rfl rfl)
theorem dX13_text_6 : decode cX13_text 6 = .ok (.iconst 0, 1) := dk_3 (dk_at dksX13_text_0 6 rfl rfl)
theorem dX13_text_7 : decode cX13_text 7 = .ok (.putfield 301, 3) := dk_181 1 45 (dk_at dksX13_text_0 7 rfl rfl)
theorem dX13_text_10 : decode cX13_text 10 = .ok (.aload_n 0, 1) := dk_42 (dk_at dksX13_text_0 10 rfl rfl)
theorem dX13_text_11 : decode cX13_text 11 = .ok (.iconst 0, 1) := dk_3 (dk_at dksX13_text_0 11 rfl rfl)
theorem dX13_text_12 : decode cX13_text 12 = .ok (.putfield 312, 3) := dk_181 1 56 (dk_at dksX13_text_0 12 rfl rfl)
theorem dX13_text_15 : decode cX13_text 15 = .ok (.aload_n 0, 1) := dk_42 (dk_at dksX13_text_0 15 rfl rfl)
theorem dX13_text_16 : decode cX13_text 16 = .ok (.aload_n 0, 1) := dk_42 (dk_at dksX13_text_0 16 rfl rfl)
theorem dX13_text_17 : decode cX13_text 17 = .ok (.getfield 9, 3) := dk_180 0 9 (dk_at dksX13_text_0 17 rfl rfl)
theorem dX13_text_20 : decode cX13_text 20 = .ok (.iconst 1, 1) := dk_4 (dk_at dksX13_text_0 20 rfl rfl)
theorem dX13_text_21 : decode cX13_text 21 = .ok (.iaload, 1) := dk_46 (dk_at dksX13_text_0 21 rfl rfl)
theorem dX13_text_22 : decode cX13_text 22 = .ok (.putfield 341, 3) := dk_181 1 85 (dk_at dksX13_text_1 0 rfl rfl)
theorem dX13_text_25 : decode cX13_text 25 = .ok (.aload_n 0, 1) := dk_42 (dk_at dksX13_text_1 3 rfl rfl)
theorem dX13_text_26 : decode cX13_text 26 = .ok (.invokevirtual 305, 3) := dk_182 1 49 (dk_at dksX13_text_1 4 rfl rfl)
theorem dX13_text_29 : decode cX13_text 29 = .ok (.aload_n 0, 1) := dk_42 (dk_at dksX13_text_1 7 rfl rfl)
theorem dX13_text_30 : decode cX13_text 30 = .ok (.invokevirtual 364, 3) := dk_182 1 108 (dk_at dksX13_text_1 8 rfl rfl)
theorem dX13_text_33 : decode cX13_text 33 = .ok (.aload_n 0, 1) := dk_42 (dk_at dksX13_text_1 11 rfl rfl)
theorem dX13_text_34 : decode cX13_text 34 = .ok (.getfield 301, 3) := dk_180 1 45 (dk_at dksX13_text_1 12 rfl rfl)
theorem dX13_text_37 : decode cX13_text 37 = .ok (.ifCond .ne 37, 3) := dk_154 0 37 (dk_at dksX13_text_1 15 rfl rfl)
theorem dX13_text_40 : decode cX13_text 40 = .ok (.aload_n 0, 1) := dk_42 (dk_at dksX13_text_1 18 rfl rfl)
theorem dX13_text_41 : decode cX13_text 41 = .ok (.getfield 291, 3) := dk_180 1 35 (dk_at dksX13_text_1 19 rfl rfl)
theorem dX13_text_44 : decode cX13_text 44 = .ok (.iconst 3, 1) := dk_6 (dk_at dksX13_text_1 22 rfl rfl)
theorem dX13_text_45 : decode cX13_text 45 = .ok (.if_icmp .ne 29, 3) := dk_160 0 29 (dk_at dksX13_text_2 0 rfl rfl)
theorem dX13_text_48 : decode cX13_text 48 = .ok (.aload_n 0, 1) := dk_42 (dk_at dksX13_text_2 3 rfl rfl)
theorem dX13_text_49 : decode cX13_text 49 = .ok (.getfield 25, 3) := dk_180 0 25 (dk_at dksX13_text_2 4 rfl rfl)
theorem dX13_text_52 : decode cX13_text 52 = .ok (.aload_n 0, 1) := dk_42 (dk_at dksX13_text_2 7 rfl rfl)
theorem dX13_text_53 : decode cX13_text 53 = .ok (.getfield 282, 3) := dk_180 1 26 (dk_at dksX13_text_2 8 rfl rfl)
theorem dX13_text_56 : decode cX13_text 56 = .ok (.iaload, 1) := dk_46 (dk_at dksX13_text_2 11 rfl rfl)
theorem dX13_text_57 : decode cX13_text 57 = .ok (.bipush 59, 2) := dk_16 59 (dk_at dksX13_text_2 12 rfl rfl)
theorem dX13_text_59 : decode cX13_text 59 = .ok (.if_icmp .ne 15, 3) := dk_160 0 15 (dk_at dksX13_text_2 14 rfl rfl)
theorem dX13_text_62 : decode cX13_text 62 = .ok (.aload_n 0, 1) := dk_42 (dk_at dksX13_text_2 17 rfl rfl)
theorem dX13_text_63 : decode cX13_text 63 = .ok (.iconst 1, 1) := dk_4 (dk_at dksX13_text_2 18 rfl rfl)
theorem dX13_text_64 : decode cX13_text 64 = .ok (.invokevirtual 308, 3) := dk_182 1 52 (dk_at dksX13_text_2 19 rfl rfl)
theorem dX13_text_67 : decode cX13_text 67 = .ok (.aload_n 0, 1) := dk_42 (dk_at dksX13_text_2 22 rfl rfl)
theorem dX13_text_68 : decode cX13_text 68 = .ok (.invokevirtual 364, 3) := dk_182 1 108 (dk_at dksX13_text_3 0 rfl rfl)
theorem dX13_text_71 : decode cX13_text 71 = .ok (.goto (-38), 3) := dk_167 255 218 (dk_at dksX13_text_3 3 rfl rfl)
theorem dX13_text_74 : decode cX13_text 74 = .ok (.aload_n 0, 1) := dk_42 (dk_at dksX13_text_3 6 rfl rfl)
theorem dX13_text_75 : decode cX13_text 75 = .ok (.aload_n 0, 1) := dk_42 (dk_at dksX13_text_3 7 rfl rfl)
theorem dX13_text_76 : decode cX13_text 76 = .ok (.getfield 291, 3) := dk_180 1 35 (dk_at dksX13_text_3 8 rfl rfl)
theorem dX13_text_79 : decode cX13_text 79 = .ok (.ifCond .ne 7, 3) := dk_154 0 7 (dk_at dksX13_text_3 11 rfl rfl)
theorem dX13_text_82 : decode cX13_text 82 = .ok (.iconst 1, 1) := dk_4 (dk_at dksX13_text_3 14 rfl rfl)
theorem dX13_text_83 : decode cX13_text 83 = .ok (.goto 4, 3) := dk_167 0 4 (dk_at dksX13_text_3 15 rfl rfl)
theorem dX13_text_86 : decode cX13_text 86 = .ok (.iconst 0, 1) := dk_3 (dk_at dksX13_text_3 18 rfl rfl)
theorem dX13_text_87 : decode cX13_text 87 = .ok (.invokevirtual 308, 3) := dk_182 1 52 (dk_at dksX13_text_3 19 rfl rfl)
theorem dX13_text_90 : decode cX13_text 90 = .ok (.aload_n 0, 1) := dk_42 (dk_at dksX13_text_3 22 rfl rfl)
theorem dX13_text_91 : decode cX13_text 91 = .ok (.iconst 0, 1) := dk_3 (dk_at dksX13_text_3 23 rfl rfl)
theorem dX13_text_92 : decode cX13_text 92 = .ok (.putfield 276, 3) := dk_181 1 20 (dk_at dksX13_text_4 0 rfl rfl)
theorem dX13_text_95 : decode cX13_text 95 = .ok (.aload_n 0, 1) := dk_42 (dk_at dksX13_text_4 3 rfl rfl)
theorem dX13_text_96 : decode cX13_text 96 = .ok (.getfield 301, 3) := dk_180 1 45 (dk_at dksX13_text_4 4 rfl rfl)
theorem dX13_text_99 : decode cX13_text 99 = .ok (.ifCond .eq 10, 3) := dk_153 0 10 (dk_at dksX13_text_4 7 rfl rfl)
theorem dX13_text_102 : decode cX13_text 102 = .ok (.iconst (-1), 1) := dk_2 (dk_at dksX13_text_4 10 rfl rfl)
theorem dX13_text_103 : decode cX13_text 103 = .ok (.aload_n 0, 1) := dk_42 (dk_at dksX13_text_4 11 rfl rfl)
theorem dX13_text_104 : decode cX13_text 104 = .ok (.getfield 282, 3) := dk_180 1 26 (dk_at dksX13_text_4 12 rfl rfl)
theorem dX13_text_107 : decode cX13_text 107 = .ok (.isub, 1) := dk_100 (dk_at dksX13_text_4 15 rfl rfl)
theorem dX13_text_108 : decode cX13_text 108 = .ok (.ireturn, 1) := dk_172 (dk_at dksX13_text_4 16 rfl rfl)
theorem dX13_text_109 : decode cX13_text 109 = .ok (.iconst 0, 1) := dk_3 (dk_at dksX13_text_4 17 rfl rfl)
theorem dX13_text_110 : decode cX13_text 110 = .ok (.istore_n 1, 1) := dk_60 (dk_at dksX13_text_4 18 rfl rfl)
theorem dX13_text_111 : decode cX13_text 111 = .ok (.iconst 0, 1) := dk_3 (dk_at dksX13_text_4 19 rfl rfl)
theorem dX13_text_112 : decode cX13_text 112 = .ok (.istore_n 2, 1) := dk_61 (dk_at dksX13_text_4 20 rfl rfl)
theorem dX13_text_113 : decode cX13_text 113 = .ok (.iload_n 2, 1) := dk_28 (dk_at dksX13_text_4 21 rfl rfl)
theorem dX13_text_114 : decode cX13_text 114 = .ok (.aload_n 0, 1) := dk_42 (dk_at dksX13_text_4 22 rfl rfl)
theorem dX13_text_115 : decode cX13_text 115 = .ok (.getfield 312, 3) := dk_180 1 56 (dk_at dksX13_text_5 0 rfl rfl)
theorem dX13_text_118 : decode cX13_text 118 = .ok (.if_icmp .ge 27, 3) := dk_162 0 27 (dk_at dksX13_text_5 3 rfl rfl)
theorem dX13_text_121 : decode cX13_text 121 = .ok (.iload_n 1, 1) := dk_27 (dk_at dksX13_text_5 6 rfl rfl)
theorem dX13_text_122 : decode cX13_text 122 = .ok (.aload_n 0, 1) := dk_42 (dk_at dksX13_text_5 7 rfl rfl)
theorem dX13_text_123 : decode cX13_text 123 = .ok (.iconst 5, 1) := dk_8 (dk_at dksX13_text_5 8 rfl rfl)
theorem dX13_text_124 : decode cX13_text 124 = .ok (.iload_n 2, 1) := dk_28 (dk_at dksX13_text_5 9 rfl rfl)
theorem dX13_text_125 : decode cX13_text 125 = .ok (.imul, 1) := dk_104 (dk_at dksX13_text_5 10 rfl rfl)
theorem dX13_text_126 : decode cX13_text 126 = .ok (.invokevirtual 367, 3) := dk_182 1 111 (dk_at dksX13_text_5 11 rfl rfl)
theorem dX13_text_129 : decode cX13_text 129 = .ok (.ifCond .ge 7, 3) := dk_156 0 7 (dk_at dksX13_text_5 14 rfl rfl)
theorem dX13_text_132 : decode cX13_text 132 = .ok (.iconst 0, 1) := dk_3 (dk_at dksX13_text_5 17 rfl rfl)
theorem dX13_text_133 : decode cX13_text 133 = .ok (.goto 4, 3) := dk_167 0 4 (dk_at dksX13_text_5 18 rfl rfl)
theorem dX13_text_136 : decode cX13_text 136 = .ok (.iconst 1, 1) := dk_4 (dk_at dksX13_text_5 21 rfl rfl)
theorem dX13_text_137 : decode cX13_text 137 = .ok (.iadd, 1) := dk_96 (dk_at dksX13_text_5 22 rfl rfl)
theorem dX13_text_138 : decode cX13_text 138 = .ok (.istore_n 1, 1) := dk_60 (dk_at dksX13_text_5 23 rfl rfl)
theorem dX13_text_139 : decode cX13_text 139 = .ok (.iinc 2 1, 3) := dk_132 2 1 (dk_at dksX13_text_6 0 rfl rfl)
theorem dX13_text_142 : decode cX13_text 142 = .ok (.goto (-29), 3) := dk_167 255 227 (dk_at dksX13_text_6 3 rfl rfl)
theorem dX13_text_145 : decode cX13_text 145 = .ok (.iload_n 1, 1) := dk_27 (dk_at dksX13_text_6 6 rfl rfl)
theorem dX13_text_146 : decode cX13_text 146 = .ok (.ireturn, 1) := dk_172 (dk_at dksX13_text_6 7 rfl rfl)
abbrev cX13_next : ByteArray := prog_16_method_92_code
def yX13_next : MethodName := ⟨RX13, "next", "()V"⟩
def dkwX13_next_8 : List UInt8 := [181, 1, 23, 167, 255, 199, 42, 6, 181, 1, 35, 42, 89, 180, 1, 23, 4, 96, 181, 1, 23, 177]
abbrev dktX13_next_8 : List UInt8 := dkwX13_next_8 ++ []
def dkwX13_next_7 : List UInt8 := [180, 1, 23, 182, 1, 29, 96, 16, 48, 100, 184, 0, 188, 181, 1, 32, 42, 89, 180, 1, 23, 4, 96]
abbrev dktX13_next_7 : List UInt8 := dkwX13_next_7 ++ dktX13_next_8
def dkwX13_next_6 : List UInt8 := [16, 48, 16, 57, 184, 0, 84, 153, 0, 60, 42, 17, 3, 232, 16, 10, 42, 180, 1, 32, 104, 42, 42]
abbrev dktX13_next_6 : List UInt8 := dkwX13_next_6 ++ dktX13_next_7
def dkwX13_next_5 : List UInt8 := [16, 48, 16, 57, 184, 0, 84, 153, 0, 68, 42, 5, 181, 1, 35, 42, 42, 180, 1, 23, 182, 1, 29]
abbrev dktX13_next_5 : List UInt8 := dkwX13_next_5 ++ dktX13_next_6
def dkwX13_next_4 : List UInt8 := [16, 97, 16, 122, 184, 0, 84, 153, 0, 107, 42, 89, 180, 1, 23, 4, 96, 181, 1, 23, 167, 255, 228, 27]
abbrev dktX13_next_4 : List UInt8 := dkwX13_next_4 ++ dktX13_next_5
def dkwX13_next_3 : List UInt8 := [16, 97, 16, 122, 184, 0, 84, 153, 0, 39, 42, 4, 181, 1, 35, 42, 42, 180, 1, 23, 182, 1, 29]
abbrev dktX13_next_3 : List UInt8 := dkwX13_next_3 ++ dktX13_next_4
def dkwX13_next_2 : List UInt8 := [180, 1, 26, 181, 1, 23, 42, 3, 181, 1, 32, 27, 156, 0, 11, 42, 3, 181, 1, 35, 167, 0, 141, 27]
abbrev dktX13_next_2 : List UInt8 := dkwX13_next_2 ++ dktX13_next_3
def dkwX13_next_1 : List UInt8 := [180, 1, 26, 4, 96, 181, 1, 26, 167, 255, 233, 42, 42, 180, 1, 26, 182, 1, 29, 60, 42, 42]
abbrev dktX13_next_1 : List UInt8 := dkwX13_next_1 ++ dktX13_next_2
def dkwX13_next_0 : List UInt8 := [42, 42, 180, 1, 23, 181, 1, 26, 42, 42, 180, 1, 26, 182, 1, 29, 16, 32, 160, 0, 16, 42, 89]
abbrev dktX13_next_0 : List UInt8 := dkwX13_next_0 ++ dktX13_next_1
theorem dksX13_next_0 : cX13_next.data.toList.drop 0 = dktX13_next_0 := by decide +kernel
theorem dksX13_next_1 : cX13_next.data.toList.drop 23 = dktX13_next_1 := dk_seg dksX13_next_0 23 rfl rfl
theorem dksX13_next_2 : cX13_next.data.toList.drop 45 = dktX13_next_2 := dk_seg dksX13_next_1 22 rfl rfl
theorem dksX13_next_3 : cX13_next.data.toList.drop 69 = dktX13_next_3 := dk_seg dksX13_next_2 24 rfl rfl
theorem dksX13_next_4 : cX13_next.data.toList.drop 92 = dktX13_next_4 := dk_seg dksX13_next_3 23 rfl rfl
theorem dksX13_next_5 : cX13_next.data.toList.drop 116 = dktX13_next_5 := dk_seg dksX13_next_4 24 rfl rfl
theorem dksX13_next_6 : cX13_next.data.toList.drop 139 = dktX13_next_6 := dk_seg dksX13_next_5 23 rfl rfl
theorem dksX13_next_7 : cX13_next.data.toList.drop 162 = dktX13_next_7 := dk_seg dksX13_next_6 23 rfl rfl
theorem dksX13_next_8 : cX13_next.data.toList.drop 185 = dktX13_next_8 := dk_seg dksX13_next_7 23 rfl rfl
theorem dX13_next_0 : decode cX13_next 0 = .ok (.aload_n 0, 1) := dk_42 (dk_at dksX13_next_0 0 rfl rfl)
theorem dX13_next_1 : decode cX13_next 1 = .ok (.aload_n 0, 1) := dk_42 (dk_at dksX13_next_0 1 rfl rfl)
theorem dX13_next_2 : decode cX13_next 2 = .ok (.getfield 279, 3) := dk_180 1 23 (dk_at dksX13_next_0 2 rfl rfl)
theorem dX13_next_5 : decode cX13_next 5 = .ok (.putfield 282, 3) := dk_181 1 26 (dk_at dksX13_next_0 5 rfl rfl)
theorem dX13_next_8 : decode cX13_next 8 = .ok (.aload_n 0, 1) := dk_42 (dk_at dksX13_next_0 8 rfl rfl)
theorem dX13_next_9 : decode cX13_next 9 = .ok (.aload_n 0, 1) := dk_42 (dk_at dksX13_next_0 9 rfl rfl)
theorem dX13_next_10 : decode cX13_next 10 = .ok (.getfield 282, 3) := dk_180 1 26 (dk_at dksX13_next_0 10 rfl rfl)
theorem dX13_next_13 : decode cX13_next 13 = .ok (.invokevirtual 285, 3) := dk_182 1 29 (dk_at dksX13_next_0 13 rfl rfl)
theorem dX13_next_16 : decode cX13_next 16 = .ok (.bipush 32, 2) := dk_16 32 (dk_at dksX13_next_0 16 rfl rfl)
theorem dX13_next_18 : decode cX13_next 18 = .ok (.if_icmp .ne 16, 3) := dk_160 0 16 (dk_at dksX13_next_0 18 rfl rfl)
theorem dX13_next_21 : decode cX13_next 21 = .ok (.aload_n 0, 1) := dk_42 (dk_at dksX13_next_0 21 rfl rfl)
theorem dX13_next_22 : decode cX13_next 22 = .ok (.dup, 1) := dk_89 (dk_at dksX13_next_0 22 rfl rfl)
theorem dX13_next_23 : decode cX13_next 23 = .ok (.getfield 282, 3) := dk_180 1 26 (dk_at dksX13_next_1 0 rfl rfl)
theorem dX13_next_26 : decode cX13_next 26 = .ok (.iconst 1, 1) := dk_4 (dk_at dksX13_next_1 3 rfl rfl)
theorem dX13_next_27 : decode cX13_next 27 = .ok (.iadd, 1) := dk_96 (dk_at dksX13_next_1 4 rfl rfl)
theorem dX13_next_28 : decode cX13_next 28 = .ok (.putfield 282, 3) := dk_181 1 26 (dk_at dksX13_next_1 5 rfl rfl)
theorem dX13_next_31 : decode cX13_next 31 = .ok (.goto (-23), 3) := dk_167 255 233 (dk_at dksX13_next_1 8 rfl rfl)
theorem dX13_next_34 : decode cX13_next 34 = .ok (.aload_n 0, 1) := dk_42 (dk_at dksX13_next_1 11 rfl rfl)
theorem dX13_next_35 : decode cX13_next 35 = .ok (.aload_n 0, 1) := dk_42 (dk_at dksX13_next_1 12 rfl rfl)
theorem dX13_next_36 : decode cX13_next 36 = .ok (.getfield 282, 3) := dk_180 1 26 (dk_at dksX13_next_1 13 rfl rfl)
theorem dX13_next_39 : decode cX13_next 39 = .ok (.invokevirtual 285, 3) := dk_182 1 29 (dk_at dksX13_next_1 16 rfl rfl)
theorem dX13_next_42 : decode cX13_next 42 = .ok (.istore_n 1, 1) := dk_60 (dk_at dksX13_next_1 19 rfl rfl)
theorem dX13_next_43 : decode cX13_next 43 = .ok (.aload_n 0, 1) := dk_42 (dk_at dksX13_next_1 20 rfl rfl)
theorem dX13_next_44 : decode cX13_next 44 = .ok (.aload_n 0, 1) := dk_42 (dk_at dksX13_next_1 21 rfl rfl)
theorem dX13_next_45 : decode cX13_next 45 = .ok (.getfield 282, 3) := dk_180 1 26 (dk_at dksX13_next_2 0 rfl rfl)
theorem dX13_next_48 : decode cX13_next 48 = .ok (.putfield 279, 3) := dk_181 1 23 (dk_at dksX13_next_2 3 rfl rfl)
theorem dX13_next_51 : decode cX13_next 51 = .ok (.aload_n 0, 1) := dk_42 (dk_at dksX13_next_2 6 rfl rfl)
theorem dX13_next_52 : decode cX13_next 52 = .ok (.iconst 0, 1) := dk_3 (dk_at dksX13_next_2 7 rfl rfl)
theorem dX13_next_53 : decode cX13_next 53 = .ok (.putfield 288, 3) := dk_181 1 32 (dk_at dksX13_next_2 8 rfl rfl)
theorem dX13_next_56 : decode cX13_next 56 = .ok (.iload_n 1, 1) := dk_27 (dk_at dksX13_next_2 11 rfl rfl)
theorem dX13_next_57 : decode cX13_next 57 = .ok (.ifCond .ge 11, 3) := dk_156 0 11 (dk_at dksX13_next_2 12 rfl rfl)
theorem dX13_next_60 : decode cX13_next 60 = .ok (.aload_n 0, 1) := dk_42 (dk_at dksX13_next_2 15 rfl rfl)
theorem dX13_next_61 : decode cX13_next 61 = .ok (.iconst 0, 1) := dk_3 (dk_at dksX13_next_2 16 rfl rfl)
theorem dX13_next_62 : decode cX13_next 62 = .ok (.putfield 291, 3) := dk_181 1 35 (dk_at dksX13_next_2 17 rfl rfl)
theorem dX13_next_65 : decode cX13_next 65 = .ok (.goto 141, 3) := dk_167 0 141 (dk_at dksX13_next_2 20 rfl rfl)
theorem dX13_next_68 : decode cX13_next 68 = .ok (.iload_n 1, 1) := dk_27 (dk_at dksX13_next_2 23 rfl rfl)
theorem dX13_next_69 : decode cX13_next 69 = .ok (.bipush 97, 2) := dk_16 97 (dk_at dksX13_next_3 0 rfl rfl)
theorem dX13_next_71 : decode cX13_next 71 = .ok (.bipush 122, 2) := dk_16 122 (dk_at dksX13_next_3 2 rfl rfl)
theorem dX13_next_73 : decode cX13_next 73 = .ok (.invokestatic 84, 3) := dk_184 0 84 (dk_at dksX13_next_3 4 rfl rfl)
theorem dX13_next_76 : decode cX13_next 76 = .ok (.ifCond .eq 39, 3) := dk_153 0 39 (dk_at dksX13_next_3 7 rfl rfl)
theorem dX13_next_79 : decode cX13_next 79 = .ok (.aload_n 0, 1) := dk_42 (dk_at dksX13_next_3 10 rfl rfl)
theorem dX13_next_80 : decode cX13_next 80 = .ok (.iconst 1, 1) := dk_4 (dk_at dksX13_next_3 11 rfl rfl)
theorem dX13_next_81 : decode cX13_next 81 = .ok (.putfield 291, 3) := dk_181 1 35 (dk_at dksX13_next_3 12 rfl rfl)
theorem dX13_next_84 : decode cX13_next 84 = .ok (.aload_n 0, 1) := dk_42 (dk_at dksX13_next_3 15 rfl rfl)
theorem dX13_next_85 : decode cX13_next 85 = .ok (.aload_n 0, 1) := dk_42 (dk_at dksX13_next_3 16 rfl rfl)
theorem dX13_next_86 : decode cX13_next 86 = .ok (.getfield 279, 3) := dk_180 1 23 (dk_at dksX13_next_3 17 rfl rfl)
theorem dX13_next_89 : decode cX13_next 89 = .ok (.invokevirtual 285, 3) := dk_182 1 29 (dk_at dksX13_next_3 20 rfl rfl)
theorem dX13_next_92 : decode cX13_next 92 = .ok (.bipush 97, 2) := dk_16 97 (dk_at dksX13_next_4 0 rfl rfl)
theorem dX13_next_94 : decode cX13_next 94 = .ok (.bipush 122, 2) := dk_16 122 (dk_at dksX13_next_4 2 rfl rfl)
theorem dX13_next_96 : decode cX13_next 96 = .ok (.invokestatic 84, 3) := dk_184 0 84 (dk_at dksX13_next_4 4 rfl rfl)
theorem dX13_next_99 : decode cX13_next 99 = .ok (.ifCond .eq 107, 3) := dk_153 0 107 (dk_at dksX13_next_4 7 rfl rfl)
theorem dX13_next_102 : decode cX13_next 102 = .ok (.aload_n 0, 1) := dk_42 (dk_at dksX13_next_4 10 rfl rfl)
theorem dX13_next_103 : decode cX13_next 103 = .ok (.dup, 1) := dk_89 (dk_at dksX13_next_4 11 rfl rfl)
theorem dX13_next_104 : decode cX13_next 104 = .ok (.getfield 279, 3) := dk_180 1 23 (dk_at dksX13_next_4 12 rfl rfl)
theorem dX13_next_107 : decode cX13_next 107 = .ok (.iconst 1, 1) := dk_4 (dk_at dksX13_next_4 15 rfl rfl)
theorem dX13_next_108 : decode cX13_next 108 = .ok (.iadd, 1) := dk_96 (dk_at dksX13_next_4 16 rfl rfl)
theorem dX13_next_109 : decode cX13_next 109 = .ok (.putfield 279, 3) := dk_181 1 23 (dk_at dksX13_next_4 17 rfl rfl)
theorem dX13_next_112 : decode cX13_next 112 = .ok (.goto (-28), 3) := dk_167 255 228 (dk_at dksX13_next_4 20 rfl rfl)
theorem dX13_next_115 : decode cX13_next 115 = .ok (.iload_n 1, 1) := dk_27 (dk_at dksX13_next_4 23 rfl rfl)
theorem dX13_next_116 : decode cX13_next 116 = .ok (.bipush 48, 2) := dk_16 48 (dk_at dksX13_next_5 0 rfl rfl)
theorem dX13_next_118 : decode cX13_next 118 = .ok (.bipush 57, 2) := dk_16 57 (dk_at dksX13_next_5 2 rfl rfl)
theorem dX13_next_120 : decode cX13_next 120 = .ok (.invokestatic 84, 3) := dk_184 0 84 (dk_at dksX13_next_5 4 rfl rfl)
theorem dX13_next_123 : decode cX13_next 123 = .ok (.ifCond .eq 68, 3) := dk_153 0 68 (dk_at dksX13_next_5 7 rfl rfl)
theorem dX13_next_126 : decode cX13_next 126 = .ok (.aload_n 0, 1) := dk_42 (dk_at dksX13_next_5 10 rfl rfl)
theorem dX13_next_127 : decode cX13_next 127 = .ok (.iconst 2, 1) := dk_5 (dk_at dksX13_next_5 11 rfl rfl)
theorem dX13_next_128 : decode cX13_next 128 = .ok (.putfield 291, 3) := dk_181 1 35 (dk_at dksX13_next_5 12 rfl rfl)
theorem dX13_next_131 : decode cX13_next 131 = .ok (.aload_n 0, 1) := dk_42 (dk_at dksX13_next_5 15 rfl rfl)
theorem dX13_next_132 : decode cX13_next 132 = .ok (.aload_n 0, 1) := dk_42 (dk_at dksX13_next_5 16 rfl rfl)
theorem dX13_next_133 : decode cX13_next 133 = .ok (.getfield 279, 3) := dk_180 1 23 (dk_at dksX13_next_5 17 rfl rfl)
theorem dX13_next_136 : decode cX13_next 136 = .ok (.invokevirtual 285, 3) := dk_182 1 29 (dk_at dksX13_next_5 20 rfl rfl)
theorem dX13_next_139 : decode cX13_next 139 = .ok (.bipush 48, 2) := dk_16 48 (dk_at dksX13_next_6 0 rfl rfl)
theorem dX13_next_141 : decode cX13_next 141 = .ok (.bipush 57, 2) := dk_16 57 (dk_at dksX13_next_6 2 rfl rfl)
theorem dX13_next_143 : decode cX13_next 143 = .ok (.invokestatic 84, 3) := dk_184 0 84 (dk_at dksX13_next_6 4 rfl rfl)
theorem dX13_next_146 : decode cX13_next 146 = .ok (.ifCond .eq 60, 3) := dk_153 0 60 (dk_at dksX13_next_6 7 rfl rfl)
theorem dX13_next_149 : decode cX13_next 149 = .ok (.aload_n 0, 1) := dk_42 (dk_at dksX13_next_6 10 rfl rfl)
theorem dX13_next_150 : decode cX13_next 150 = .ok (.sipush 1000, 3) := dk_17 3 232 (dk_at dksX13_next_6 11 rfl rfl)
theorem dX13_next_153 : decode cX13_next 153 = .ok (.bipush 10, 2) := dk_16 10 (dk_at dksX13_next_6 14 rfl rfl)
theorem dX13_next_155 : decode cX13_next 155 = .ok (.aload_n 0, 1) := dk_42 (dk_at dksX13_next_6 16 rfl rfl)
theorem dX13_next_156 : decode cX13_next 156 = .ok (.getfield 288, 3) := dk_180 1 32 (dk_at dksX13_next_6 17 rfl rfl)
theorem dX13_next_159 : decode cX13_next 159 = .ok (.imul, 1) := dk_104 (dk_at dksX13_next_6 20 rfl rfl)
theorem dX13_next_160 : decode cX13_next 160 = .ok (.aload_n 0, 1) := dk_42 (dk_at dksX13_next_6 21 rfl rfl)
theorem dX13_next_161 : decode cX13_next 161 = .ok (.aload_n 0, 1) := dk_42 (dk_at dksX13_next_6 22 rfl rfl)
theorem dX13_next_162 : decode cX13_next 162 = .ok (.getfield 279, 3) := dk_180 1 23 (dk_at dksX13_next_7 0 rfl rfl)
theorem dX13_next_165 : decode cX13_next 165 = .ok (.invokevirtual 285, 3) := dk_182 1 29 (dk_at dksX13_next_7 3 rfl rfl)
theorem dX13_next_168 : decode cX13_next 168 = .ok (.iadd, 1) := dk_96 (dk_at dksX13_next_7 6 rfl rfl)
theorem dX13_next_169 : decode cX13_next 169 = .ok (.bipush 48, 2) := dk_16 48 (dk_at dksX13_next_7 7 rfl rfl)
theorem dX13_next_171 : decode cX13_next 171 = .ok (.isub, 1) := dk_100 (dk_at dksX13_next_7 9 rfl rfl)
theorem dX13_next_172 : decode cX13_next 172 = .ok (.invokestatic 188, 3) := dk_184 0 188 (dk_at dksX13_next_7 10 rfl rfl)
theorem dX13_next_175 : decode cX13_next 175 = .ok (.putfield 288, 3) := dk_181 1 32 (dk_at dksX13_next_7 13 rfl rfl)
theorem dX13_next_178 : decode cX13_next 178 = .ok (.aload_n 0, 1) := dk_42 (dk_at dksX13_next_7 16 rfl rfl)
theorem dX13_next_179 : decode cX13_next 179 = .ok (.dup, 1) := dk_89 (dk_at dksX13_next_7 17 rfl rfl)
theorem dX13_next_180 : decode cX13_next 180 = .ok (.getfield 279, 3) := dk_180 1 23 (dk_at dksX13_next_7 18 rfl rfl)
theorem dX13_next_183 : decode cX13_next 183 = .ok (.iconst 1, 1) := dk_4 (dk_at dksX13_next_7 21 rfl rfl)
theorem dX13_next_184 : decode cX13_next 184 = .ok (.iadd, 1) := dk_96 (dk_at dksX13_next_7 22 rfl rfl)
theorem dX13_next_185 : decode cX13_next 185 = .ok (.putfield 279, 3) := dk_181 1 23 (dk_at dksX13_next_8 0 rfl rfl)
theorem dX13_next_188 : decode cX13_next 188 = .ok (.goto (-57), 3) := dk_167 255 199 (dk_at dksX13_next_8 3 rfl rfl)
theorem dX13_next_191 : decode cX13_next 191 = .ok (.aload_n 0, 1) := dk_42 (dk_at dksX13_next_8 6 rfl rfl)
theorem dX13_next_192 : decode cX13_next 192 = .ok (.iconst 3, 1) := dk_6 (dk_at dksX13_next_8 7 rfl rfl)
theorem dX13_next_193 : decode cX13_next 193 = .ok (.putfield 291, 3) := dk_181 1 35 (dk_at dksX13_next_8 8 rfl rfl)
theorem dX13_next_196 : decode cX13_next 196 = .ok (.aload_n 0, 1) := dk_42 (dk_at dksX13_next_8 11 rfl rfl)
theorem dX13_next_197 : decode cX13_next 197 = .ok (.dup, 1) := dk_89 (dk_at dksX13_next_8 12 rfl rfl)
theorem dX13_next_198 : decode cX13_next 198 = .ok (.getfield 279, 3) := dk_180 1 23 (dk_at dksX13_next_8 13 rfl rfl)
theorem dX13_next_201 : decode cX13_next 201 = .ok (.iconst 1, 1) := dk_4 (dk_at dksX13_next_8 16 rfl rfl)
theorem dX13_next_202 : decode cX13_next 202 = .ok (.iadd, 1) := dk_96 (dk_at dksX13_next_8 17 rfl rfl)
theorem dX13_next_203 : decode cX13_next 203 = .ok (.putfield 279, 3) := dk_181 1 23 (dk_at dksX13_next_8 18 rfl rfl)
theorem dX13_next_206 : decode cX13_next 206 = .ok (.return_, 1) := dk_177 (dk_at dksX13_next_8 21 rfl rfl)
abbrev cX13_byteAt : ByteArray := prog_16_method_91_code
def yX13_byteAt : MethodName := ⟨RX13, "byteAt", "(I)I"⟩
def dkwX13_byteAt_0 : List UInt8 := [27, 42, 180, 1, 20, 162, 0, 12, 42, 180, 0, 25, 27, 46, 167, 0, 4, 2, 172]
abbrev dktX13_byteAt_0 : List UInt8 := dkwX13_byteAt_0 ++ []
theorem dksX13_byteAt_0 : cX13_byteAt.data.toList.drop 0 = dktX13_byteAt_0 := by decide +kernel
theorem dX13_byteAt_0 : decode cX13_byteAt 0 = .ok (.iload_n 1, 1) := dk_27 (dk_at dksX13_byteAt_0 0 rfl rfl)
theorem dX13_byteAt_1 : decode cX13_byteAt 1 = .ok (.aload_n 0, 1) := dk_42 (dk_at dksX13_byteAt_0 1 rfl rfl)
theorem dX13_byteAt_2 : decode cX13_byteAt 2 = .ok (.getfield 276, 3) := dk_180 1 20 (dk_at dksX13_byteAt_0 2 rfl rfl)
theorem dX13_byteAt_5 : decode cX13_byteAt 5 = .ok (.if_icmp .ge 12, 3) := dk_162 0 12 (dk_at dksX13_byteAt_0 5 rfl rfl)
theorem dX13_byteAt_8 : decode cX13_byteAt 8 = .ok (.aload_n 0, 1) := dk_42 (dk_at dksX13_byteAt_0 8 rfl rfl)
theorem dX13_byteAt_9 : decode cX13_byteAt 9 = .ok (.getfield 25, 3) := dk_180 0 25 (dk_at dksX13_byteAt_0 9 rfl rfl)
theorem dX13_byteAt_12 : decode cX13_byteAt 12 = .ok (.iload_n 1, 1) := dk_27 (dk_at dksX13_byteAt_0 12 rfl rfl)
theorem dX13_byteAt_13 : decode cX13_byteAt 13 = .ok (.iaload, 1) := dk_46 (dk_at dksX13_byteAt_0 13 rfl rfl)
theorem dX13_byteAt_14 : decode cX13_byteAt 14 = .ok (.goto 4, 3) := dk_167 0 4 (dk_at dksX13_byteAt_0 14 rfl rfl)
theorem dX13_byteAt_17 : decode cX13_byteAt 17 = .ok (.iconst (-1), 1) := dk_2 (dk_at dksX13_byteAt_0 17 rfl rfl)
theorem dX13_byteAt_18 : decode cX13_byteAt 18 = .ok (.ireturn, 1) := dk_172 (dk_at dksX13_byteAt_0 18 rfl rfl)
abbrev cX13_readItem : ByteArray := prog_16_method_102_code
def yX13_readItem : MethodName := ⟨RX13, "readItem", "()V"⟩
def dkwX13_readItem_6 : List UInt8 := [16, 35, 182, 1, 67, 61, 42, 16, 11, 28, 42, 182, 1, 70, 3, 3, 182, 1, 81, 177]
abbrev dktX13_readItem_6 : List UInt8 := dkwX13_readItem_6 ++ []
def dkwX13_readItem_5 : List UInt8 := [42, 16, 13, 16, 99, 182, 1, 97, 167, 0, 35, 42, 42, 19, 1, 103, 182, 1, 59, 182, 1, 52, 42, 3]
abbrev dktX13_readItem_5 : List UInt8 := dkwX13_readItem_5 ++ dktX13_readItem_6
def dkwX13_readItem_4 : List UInt8 := [153, 0, 14, 42, 16, 12, 16, 30, 182, 1, 97, 167, 0, 56, 42, 19, 1, 101, 182, 1, 59, 153, 0, 14]
abbrev dktX13_readItem_4 : List UInt8 := dkwX13_readItem_4 ++ dktX13_readItem_5
def dkwX13_readItem_3 : List UInt8 := [19, 1, 90, 182, 1, 59, 153, 0, 10, 42, 182, 1, 92, 167, 0, 77, 42, 19, 1, 95, 182, 1, 59]
abbrev dktX13_readItem_3 : List UInt8 := dkwX13_readItem_3 ++ dktX13_readItem_4
def dkwX13_readItem_2 : List UInt8 := [61, 42, 27, 28, 42, 19, 1, 88, 3, 3, 182, 1, 75, 3, 3, 182, 1, 81, 167, 0, 94, 42]
abbrev dktX13_readItem_2 : List UInt8 := dkwX13_readItem_2 ++ dktX13_readItem_3
def dkwX13_readItem_1 : List UInt8 := [167, 0, 4, 3, 182, 1, 52, 42, 89, 180, 1, 85, 4, 96, 181, 1, 85, 42, 3, 16, 35, 182, 1, 67]
abbrev dktX13_readItem_1 : List UInt8 := dkwX13_readItem_1 ++ dktX13_readItem_2
def dkwX13_readItem_0 : List UInt8 := [42, 42, 180, 0, 44, 182, 1, 63, 60, 27, 155, 0, 59, 42, 42, 180, 1, 85, 16, 8, 162, 0, 7, 4]
abbrev dktX13_readItem_0 : List UInt8 := dkwX13_readItem_0 ++ dktX13_readItem_1
theorem dksX13_readItem_0 : cX13_readItem.data.toList.drop 0 = dktX13_readItem_0 := by decide +kernel
theorem dksX13_readItem_1 : cX13_readItem.data.toList.drop 24 = dktX13_readItem_1 := dk_seg dksX13_readItem_0 24 rfl rfl
theorem dksX13_readItem_2 : cX13_readItem.data.toList.drop 48 = dktX13_readItem_2 := dk_seg dksX13_readItem_1 24 rfl rfl
theorem dksX13_readItem_3 : cX13_readItem.data.toList.drop 70 = dktX13_readItem_3 := dk_seg dksX13_readItem_2 22 rfl rfl
theorem dksX13_readItem_4 : cX13_readItem.data.toList.drop 93 = dktX13_readItem_4 := dk_seg dksX13_readItem_3 23 rfl rfl
theorem dksX13_readItem_5 : cX13_readItem.data.toList.drop 117 = dktX13_readItem_5 := dk_seg dksX13_readItem_4 24 rfl rfl
theorem dksX13_readItem_6 : cX13_readItem.data.toList.drop 141 = dktX13_readItem_6 := dk_seg dksX13_readItem_5 24 rfl rfl
theorem dX13_readItem_0 : decode cX13_readItem 0 = .ok (.aload_n 0, 1) := dk_42 (dk_at dksX13_readItem_0 0 rfl rfl)
theorem dX13_readItem_1 : decode cX13_readItem 1 = .ok (.aload_n 0, 1) := dk_42 (dk_at dksX13_readItem_0 1 rfl rfl)
theorem dX13_readItem_2 : decode cX13_readItem 2 = .ok (.getfield 44, 3) := dk_180 0 44 (dk_at dksX13_readItem_0 2 rfl rfl)
theorem dX13_readItem_5 : decode cX13_readItem 5 = .ok (.invokevirtual 319, 3) := dk_182 1 63 (dk_at dksX13_readItem_0 5 rfl rfl)
theorem dX13_readItem_8 : decode cX13_readItem 8 = .ok (.istore_n 1, 1) := dk_60 (dk_at dksX13_readItem_0 8 rfl rfl)
theorem dX13_readItem_9 : decode cX13_readItem 9 = .ok (.iload_n 1, 1) := dk_27 (dk_at dksX13_readItem_0 9 rfl rfl)
theorem dX13_readItem_10 : decode cX13_readItem 10 = .ok (.ifCond .lt 59, 3) := dk_155 0 59 (dk_at dksX13_readItem_0 10 rfl rfl)
theorem dX13_readItem_13 : decode cX13_readItem 13 = .ok (.aload_n 0, 1) := dk_42 (dk_at dksX13_readItem_0 13 rfl rfl)
theorem dX13_readItem_14 : decode cX13_readItem 14 = .ok (.aload_n 0, 1) := dk_42 (dk_at dksX13_readItem_0 14 rfl rfl)
theorem dX13_readItem_15 : decode cX13_readItem 15 = .ok (.getfield 341, 3) := dk_180 1 85 (dk_at dksX13_readItem_0 15 rfl rfl)
theorem dX13_readItem_18 : decode cX13_readItem 18 = .ok (.bipush 8, 2) := dk_16 8 (dk_at dksX13_readItem_0 18 rfl rfl)
theorem dX13_readItem_20 : decode cX13_readItem 20 = .ok (.if_icmp .ge 7, 3) := dk_162 0 7 (dk_at dksX13_readItem_0 20 rfl rfl)
theorem dX13_readItem_23 : decode cX13_readItem 23 = .ok (.iconst 1, 1) := dk_4 (dk_at dksX13_readItem_0 23 rfl rfl)
theorem dX13_readItem_24 : decode cX13_readItem 24 = .ok (.goto 4, 3) := dk_167 0 4 (dk_at dksX13_readItem_1 0 rfl rfl)
theorem dX13_readItem_27 : decode cX13_readItem 27 = .ok (.iconst 0, 1) := dk_3 (dk_at dksX13_readItem_1 3 rfl rfl)
theorem dX13_readItem_28 : decode cX13_readItem 28 = .ok (.invokevirtual 308, 3) := dk_182 1 52 (dk_at dksX13_readItem_1 4 rfl rfl)
theorem dX13_readItem_31 : decode cX13_readItem 31 = .ok (.aload_n 0, 1) := dk_42 (dk_at dksX13_readItem_1 7 rfl rfl)
theorem dX13_readItem_32 : decode cX13_readItem 32 = .ok (.dup, 1) := dk_89 (dk_at dksX13_readItem_1 8 rfl rfl)
theorem dX13_readItem_33 : decode cX13_readItem 33 = .ok (.getfield 341, 3) := dk_180 1 85 (dk_at dksX13_readItem_1 9 rfl rfl)
theorem dX13_readItem_36 : decode cX13_readItem 36 = .ok (.iconst 1, 1) := dk_4 (dk_at dksX13_readItem_1 12 rfl rfl)
theorem dX13_readItem_37 : decode cX13_readItem 37 = .ok (.iadd, 1) := dk_96 (dk_at dksX13_readItem_1 13 rfl rfl)
theorem dX13_readItem_38 : decode cX13_readItem 38 = .ok (.putfield 341, 3) := dk_181 1 85 (dk_at dksX13_readItem_1 14 rfl rfl)
theorem dX13_readItem_41 : decode cX13_readItem 41 = .ok (.aload_n 0, 1) := dk_42 (dk_at dksX13_readItem_1 17 rfl rfl)
theorem dX13_readItem_42 : decode cX13_readItem 42 = .ok (.iconst 0, 1) := dk_3 (dk_at dksX13_readItem_1 18 rfl rfl)
theorem dX13_readItem_43 : decode cX13_readItem 43 = .ok (.bipush 35, 2) := dk_16 35 (dk_at dksX13_readItem_1 19 rfl rfl)
theorem dX13_readItem_45 : decode cX13_readItem 45 = .ok (.invokevirtual 323, 3) := dk_182 1 67 (dk_at dksX13_readItem_1 21 rfl rfl)
theorem dX13_readItem_48 : decode cX13_readItem 48 = .ok (.istore_n 2, 1) := dk_61 (dk_at dksX13_readItem_2 0 rfl rfl)
theorem dX13_readItem_49 : decode cX13_readItem 49 = .ok (.aload_n 0, 1) := dk_42 (dk_at dksX13_readItem_2 1 rfl rfl)
theorem dX13_readItem_50 : decode cX13_readItem 50 = .ok (.iload_n 1, 1) := dk_27 (dk_at dksX13_readItem_2 2 rfl rfl)
theorem dX13_readItem_51 : decode cX13_readItem 51 = .ok (.iload_n 2, 1) := dk_28 (dk_at dksX13_readItem_2 3 rfl rfl)
theorem dX13_readItem_52 : decode cX13_readItem 52 = .ok (.aload_n 0, 1) := dk_42 (dk_at dksX13_readItem_2 4 rfl rfl)
theorem dX13_readItem_53 : decode cX13_readItem 53 = .ok (.ldc_w 344, 3) := dk_19 1 88 (dk_at dksX13_readItem_2 5 rfl rfl)
theorem dX13_readItem_56 : decode cX13_readItem 56 = .ok (.iconst 0, 1) := dk_3 (dk_at dksX13_readItem_2 8 rfl rfl)
theorem dX13_readItem_57 : decode cX13_readItem 57 = .ok (.iconst 0, 1) := dk_3 (dk_at dksX13_readItem_2 9 rfl rfl)
theorem dX13_readItem_58 : decode cX13_readItem 58 = .ok (.invokevirtual 331, 3) := dk_182 1 75 (dk_at dksX13_readItem_2 10 rfl rfl)
theorem dX13_readItem_61 : decode cX13_readItem 61 = .ok (.iconst 0, 1) := dk_3 (dk_at dksX13_readItem_2 13 rfl rfl)
theorem dX13_readItem_62 : decode cX13_readItem 62 = .ok (.iconst 0, 1) := dk_3 (dk_at dksX13_readItem_2 14 rfl rfl)
theorem dX13_readItem_63 : decode cX13_readItem 63 = .ok (.invokevirtual 337, 3) := dk_182 1 81 (dk_at dksX13_readItem_2 15 rfl rfl)
theorem dX13_readItem_66 : decode cX13_readItem 66 = .ok (.goto 94, 3) := dk_167 0 94 (dk_at dksX13_readItem_2 18 rfl rfl)
theorem dX13_readItem_69 : decode cX13_readItem 69 = .ok (.aload_n 0, 1) := dk_42 (dk_at dksX13_readItem_2 21 rfl rfl)
theorem dX13_readItem_70 : decode cX13_readItem 70 = .ok (.ldc_w 346, 3) := dk_19 1 90 (dk_at dksX13_readItem_3 0 rfl rfl)
theorem dX13_readItem_73 : decode cX13_readItem 73 = .ok (.invokevirtual 315, 3) := dk_182 1 59 (dk_at dksX13_readItem_3 3 rfl rfl)
theorem dX13_readItem_76 : decode cX13_readItem 76 = .ok (.ifCond .eq 10, 3) := dk_153 0 10 (dk_at dksX13_readItem_3 6 rfl rfl)
theorem dX13_readItem_79 : decode cX13_readItem 79 = .ok (.aload_n 0, 1) := dk_42 (dk_at dksX13_readItem_3 9 rfl rfl)
theorem dX13_readItem_80 : decode cX13_readItem 80 = .ok (.invokevirtual 348, 3) := dk_182 1 92 (dk_at dksX13_readItem_3 10 rfl rfl)
theorem dX13_readItem_83 : decode cX13_readItem 83 = .ok (.goto 77, 3) := dk_167 0 77 (dk_at dksX13_readItem_3 13 rfl rfl)
theorem dX13_readItem_86 : decode cX13_readItem 86 = .ok (.aload_n 0, 1) := dk_42 (dk_at dksX13_readItem_3 16 rfl rfl)
theorem dX13_readItem_87 : decode cX13_readItem 87 = .ok (.ldc_w 351, 3) := dk_19 1 95 (dk_at dksX13_readItem_3 17 rfl rfl)
theorem dX13_readItem_90 : decode cX13_readItem 90 = .ok (.invokevirtual 315, 3) := dk_182 1 59 (dk_at dksX13_readItem_3 20 rfl rfl)
theorem dX13_readItem_93 : decode cX13_readItem 93 = .ok (.ifCond .eq 14, 3) := dk_153 0 14 (dk_at dksX13_readItem_4 0 rfl rfl)
theorem dX13_readItem_96 : decode cX13_readItem 96 = .ok (.aload_n 0, 1) := dk_42 (dk_at dksX13_readItem_4 3 rfl rfl)
theorem dX13_readItem_97 : decode cX13_readItem 97 = .ok (.bipush 12, 2) := dk_16 12 (dk_at dksX13_readItem_4 4 rfl rfl)
theorem dX13_readItem_99 : decode cX13_readItem 99 = .ok (.bipush 30, 2) := dk_16 30 (dk_at dksX13_readItem_4 6 rfl rfl)
theorem dX13_readItem_101 : decode cX13_readItem 101 = .ok (.invokevirtual 353, 3) := dk_182 1 97 (dk_at dksX13_readItem_4 8 rfl rfl)
theorem dX13_readItem_104 : decode cX13_readItem 104 = .ok (.goto 56, 3) := dk_167 0 56 (dk_at dksX13_readItem_4 11 rfl rfl)
theorem dX13_readItem_107 : decode cX13_readItem 107 = .ok (.aload_n 0, 1) := dk_42 (dk_at dksX13_readItem_4 14 rfl rfl)
theorem dX13_readItem_108 : decode cX13_readItem 108 = .ok (.ldc_w 357, 3) := dk_19 1 101 (dk_at dksX13_readItem_4 15 rfl rfl)
theorem dX13_readItem_111 : decode cX13_readItem 111 = .ok (.invokevirtual 315, 3) := dk_182 1 59 (dk_at dksX13_readItem_4 18 rfl rfl)
theorem dX13_readItem_114 : decode cX13_readItem 114 = .ok (.ifCond .eq 14, 3) := dk_153 0 14 (dk_at dksX13_readItem_4 21 rfl rfl)
theorem dX13_readItem_117 : decode cX13_readItem 117 = .ok (.aload_n 0, 1) := dk_42 (dk_at dksX13_readItem_5 0 rfl rfl)
theorem dX13_readItem_118 : decode cX13_readItem 118 = .ok (.bipush 13, 2) := dk_16 13 (dk_at dksX13_readItem_5 1 rfl rfl)
theorem dX13_readItem_120 : decode cX13_readItem 120 = .ok (.bipush 99, 2) := dk_16 99 (dk_at dksX13_readItem_5 3 rfl rfl)
theorem dX13_readItem_122 : decode cX13_readItem 122 = .ok (.invokevirtual 353, 3) := dk_182 1 97 (dk_at dksX13_readItem_5 5 rfl rfl)
theorem dX13_readItem_125 : decode cX13_readItem 125 = .ok (.goto 35, 3) := dk_167 0 35 (dk_at dksX13_readItem_5 8 rfl rfl)
theorem dX13_readItem_128 : decode cX13_readItem 128 = .ok (.aload_n 0, 1) := dk_42 (dk_at dksX13_readItem_5 11 rfl rfl)
theorem dX13_readItem_129 : decode cX13_readItem 129 = .ok (.aload_n 0, 1) := dk_42 (dk_at dksX13_readItem_5 12 rfl rfl)
theorem dX13_readItem_130 : decode cX13_readItem 130 = .ok (.ldc_w 359, 3) := dk_19 1 103 (dk_at dksX13_readItem_5 13 rfl rfl)
theorem dX13_readItem_133 : decode cX13_readItem 133 = .ok (.invokevirtual 315, 3) := dk_182 1 59 (dk_at dksX13_readItem_5 16 rfl rfl)
theorem dX13_readItem_136 : decode cX13_readItem 136 = .ok (.invokevirtual 308, 3) := dk_182 1 52 (dk_at dksX13_readItem_5 19 rfl rfl)
theorem dX13_readItem_139 : decode cX13_readItem 139 = .ok (.aload_n 0, 1) := dk_42 (dk_at dksX13_readItem_5 22 rfl rfl)
theorem dX13_readItem_140 : decode cX13_readItem 140 = .ok (.iconst 0, 1) := dk_3 (dk_at dksX13_readItem_5 23 rfl rfl)
theorem dX13_readItem_141 : decode cX13_readItem 141 = .ok (.bipush 35, 2) := dk_16 35 (dk_at dksX13_readItem_6 0 rfl rfl)
theorem dX13_readItem_143 : decode cX13_readItem 143 = .ok (.invokevirtual 323, 3) := dk_182 1 67 (dk_at dksX13_readItem_6 2 rfl rfl)
theorem dX13_readItem_146 : decode cX13_readItem 146 = .ok (.istore_n 2, 1) := dk_61 (dk_at dksX13_readItem_6 5 rfl rfl)
theorem dX13_readItem_147 : decode cX13_readItem 147 = .ok (.aload_n 0, 1) := dk_42 (dk_at dksX13_readItem_6 6 rfl rfl)
theorem dX13_readItem_148 : decode cX13_readItem 148 = .ok (.bipush 11, 2) := dk_16 11 (dk_at dksX13_readItem_6 7 rfl rfl)
theorem dX13_readItem_150 : decode cX13_readItem 150 = .ok (.iload_n 2, 1) := dk_28 (dk_at dksX13_readItem_6 9 rfl rfl)
theorem dX13_readItem_151 : decode cX13_readItem 151 = .ok (.aload_n 0, 1) := dk_42 (dk_at dksX13_readItem_6 10 rfl rfl)
theorem dX13_readItem_152 : decode cX13_readItem 152 = .ok (.invokevirtual 326, 3) := dk_182 1 70 (dk_at dksX13_readItem_6 11 rfl rfl)
theorem dX13_readItem_155 : decode cX13_readItem 155 = .ok (.iconst 0, 1) := dk_3 (dk_at dksX13_readItem_6 14 rfl rfl)
theorem dX13_readItem_156 : decode cX13_readItem 156 = .ok (.iconst 0, 1) := dk_3 (dk_at dksX13_readItem_6 15 rfl rfl)
theorem dX13_readItem_157 : decode cX13_readItem 157 = .ok (.invokevirtual 337, 3) := dk_182 1 81 (dk_at dksX13_readItem_6 16 rfl rfl)
theorem dX13_readItem_160 : decode cX13_readItem 160 = .ok (.return_, 1) := dk_177 (dk_at dksX13_readItem_6 19 rfl rfl)
abbrev cX13_wordOf : ByteArray := prog_16_method_97_code
def yX13_wordOf : MethodName := ⟨RX13, "wordOf", "([Ljava/lang/String;)I"⟩
def dkwX13_wordOf_1 : List UInt8 := [153, 0, 7, 29, 167, 0, 4, 28, 61, 132, 3, 1, 167, 255, 224, 28, 172]
abbrev dktX13_wordOf_1 : List UInt8 := dkwX13_wordOf_1 ++ []
def dkwX13_wordOf_0 : List UInt8 := [2, 61, 3, 62, 29, 43, 190, 162, 0, 32, 42, 180, 1, 45, 154, 0, 25, 42, 43, 29, 50, 182, 1, 59]
abbrev dktX13_wordOf_0 : List UInt8 := dkwX13_wordOf_0 ++ dktX13_wordOf_1
theorem dksX13_wordOf_0 : cX13_wordOf.data.toList.drop 0 = dktX13_wordOf_0 := by decide +kernel
theorem dksX13_wordOf_1 : cX13_wordOf.data.toList.drop 24 = dktX13_wordOf_1 := dk_seg dksX13_wordOf_0 24 rfl rfl
theorem dX13_wordOf_0 : decode cX13_wordOf 0 = .ok (.iconst (-1), 1) := dk_2 (dk_at dksX13_wordOf_0 0 rfl rfl)
theorem dX13_wordOf_1 : decode cX13_wordOf 1 = .ok (.istore_n 2, 1) := dk_61 (dk_at dksX13_wordOf_0 1 rfl rfl)
theorem dX13_wordOf_2 : decode cX13_wordOf 2 = .ok (.iconst 0, 1) := dk_3 (dk_at dksX13_wordOf_0 2 rfl rfl)
theorem dX13_wordOf_3 : decode cX13_wordOf 3 = .ok (.istore_n 3, 1) := dk_62 (dk_at dksX13_wordOf_0 3 rfl rfl)
theorem dX13_wordOf_4 : decode cX13_wordOf 4 = .ok (.iload_n 3, 1) := dk_29 (dk_at dksX13_wordOf_0 4 rfl rfl)
theorem dX13_wordOf_5 : decode cX13_wordOf 5 = .ok (.aload_n 1, 1) := dk_43 (dk_at dksX13_wordOf_0 5 rfl rfl)
theorem dX13_wordOf_6 : decode cX13_wordOf 6 = .ok (.arraylength, 1) := dk_190 (dk_at dksX13_wordOf_0 6 rfl rfl)
theorem dX13_wordOf_7 : decode cX13_wordOf 7 = .ok (.if_icmp .ge 32, 3) := dk_162 0 32 (dk_at dksX13_wordOf_0 7 rfl rfl)
theorem dX13_wordOf_10 : decode cX13_wordOf 10 = .ok (.aload_n 0, 1) := dk_42 (dk_at dksX13_wordOf_0 10 rfl rfl)
theorem dX13_wordOf_11 : decode cX13_wordOf 11 = .ok (.getfield 301, 3) := dk_180 1 45 (dk_at dksX13_wordOf_0 11 rfl rfl)
theorem dX13_wordOf_14 : decode cX13_wordOf 14 = .ok (.ifCond .ne 25, 3) := dk_154 0 25 (dk_at dksX13_wordOf_0 14 rfl rfl)
theorem dX13_wordOf_17 : decode cX13_wordOf 17 = .ok (.aload_n 0, 1) := dk_42 (dk_at dksX13_wordOf_0 17 rfl rfl)
theorem dX13_wordOf_18 : decode cX13_wordOf 18 = .ok (.aload_n 1, 1) := dk_43 (dk_at dksX13_wordOf_0 18 rfl rfl)
theorem dX13_wordOf_19 : decode cX13_wordOf 19 = .ok (.iload_n 3, 1) := dk_29 (dk_at dksX13_wordOf_0 19 rfl rfl)
theorem dX13_wordOf_20 : decode cX13_wordOf 20 = .ok (.aaload, 1) := dk_50 (dk_at dksX13_wordOf_0 20 rfl rfl)
theorem dX13_wordOf_21 : decode cX13_wordOf 21 = .ok (.invokevirtual 315, 3) := dk_182 1 59 (dk_at dksX13_wordOf_0 21 rfl rfl)
theorem dX13_wordOf_24 : decode cX13_wordOf 24 = .ok (.ifCond .eq 7, 3) := dk_153 0 7 (dk_at dksX13_wordOf_1 0 rfl rfl)
theorem dX13_wordOf_27 : decode cX13_wordOf 27 = .ok (.iload_n 3, 1) := dk_29 (dk_at dksX13_wordOf_1 3 rfl rfl)
theorem dX13_wordOf_28 : decode cX13_wordOf 28 = .ok (.goto 4, 3) := dk_167 0 4 (dk_at dksX13_wordOf_1 4 rfl rfl)
theorem dX13_wordOf_31 : decode cX13_wordOf 31 = .ok (.iload_n 2, 1) := dk_28 (dk_at dksX13_wordOf_1 7 rfl rfl)
theorem dX13_wordOf_32 : decode cX13_wordOf 32 = .ok (.istore_n 2, 1) := dk_61 (dk_at dksX13_wordOf_1 8 rfl rfl)
theorem dX13_wordOf_33 : decode cX13_wordOf 33 = .ok (.iinc 3 1, 3) := dk_132 3 1 (dk_at dksX13_wordOf_1 9 rfl rfl)
theorem dX13_wordOf_36 : decode cX13_wordOf 36 = .ok (.goto (-32), 3) := dk_167 255 224 (dk_at dksX13_wordOf_1 12 rfl rfl)
theorem dX13_wordOf_39 : decode cX13_wordOf 39 = .ok (.iload_n 2, 1) := dk_28 (dk_at dksX13_wordOf_1 15 rfl rfl)
theorem dX13_wordOf_40 : decode cX13_wordOf 40 = .ok (.ireturn, 1) := dk_172 (dk_at dksX13_wordOf_1 16 rfl rfl)
abbrev cX13_isWord : ByteArray := prog_16_method_93_code
def yX13_isWord : MethodName := ⟨RX13, "isWord", "(Ljava/lang/String;)Z"⟩
def dkwX13_isWord_3 : List UInt8 := [167, 255, 216, 28, 172]
abbrev dktX13_isWord_3 : List UInt8 := dkwX13_isWord_3 ++ []
def dkwX13_isWord_2 : List UInt8 := [42, 180, 1, 26, 29, 96, 46, 43, 29, 182, 1, 41, 160, 0, 7, 4, 167, 0, 4, 3, 61, 132, 3, 1]
abbrev dktX13_isWord_2 : List UInt8 := dkwX13_isWord_2 ++ dktX13_isWord_3
def dkwX13_isWord_1 : List UInt8 := [4, 167, 0, 4, 3, 61, 3, 62, 29, 43, 182, 1, 38, 162, 0, 38, 28, 153, 0, 34, 42, 180, 0, 25]
abbrev dktX13_isWord_1 : List UInt8 := dkwX13_isWord_1 ++ dktX13_isWord_2
def dkwX13_isWord_0 : List UInt8 := [42, 180, 1, 35, 4, 160, 0, 23, 42, 180, 1, 23, 42, 180, 1, 26, 100, 43, 182, 1, 38, 160, 0, 7]
abbrev dktX13_isWord_0 : List UInt8 := dkwX13_isWord_0 ++ dktX13_isWord_1
theorem dksX13_isWord_0 : cX13_isWord.data.toList.drop 0 = dktX13_isWord_0 := by decide +kernel
theorem dksX13_isWord_1 : cX13_isWord.data.toList.drop 24 = dktX13_isWord_1 := dk_seg dksX13_isWord_0 24 rfl rfl
theorem dksX13_isWord_2 : cX13_isWord.data.toList.drop 48 = dktX13_isWord_2 := dk_seg dksX13_isWord_1 24 rfl rfl
theorem dksX13_isWord_3 : cX13_isWord.data.toList.drop 72 = dktX13_isWord_3 := dk_seg dksX13_isWord_2 24 rfl rfl
theorem dX13_isWord_0 : decode cX13_isWord 0 = .ok (.aload_n 0, 1) := dk_42 (dk_at dksX13_isWord_0 0 rfl rfl)
theorem dX13_isWord_1 : decode cX13_isWord 1 = .ok (.getfield 291, 3) := dk_180 1 35 (dk_at dksX13_isWord_0 1 rfl rfl)
theorem dX13_isWord_4 : decode cX13_isWord 4 = .ok (.iconst 1, 1) := dk_4 (dk_at dksX13_isWord_0 4 rfl rfl)
theorem dX13_isWord_5 : decode cX13_isWord 5 = .ok (.if_icmp .ne 23, 3) := dk_160 0 23 (dk_at dksX13_isWord_0 5 rfl rfl)
theorem dX13_isWord_8 : decode cX13_isWord 8 = .ok (.aload_n 0, 1) := dk_42 (dk_at dksX13_isWord_0 8 rfl rfl)
theorem dX13_isWord_9 : decode cX13_isWord 9 = .ok (.getfield 279, 3) := dk_180 1 23 (dk_at dksX13_isWord_0 9 rfl rfl)
theorem dX13_isWord_12 : decode cX13_isWord 12 = .ok (.aload_n 0, 1) := dk_42 (dk_at dksX13_isWord_0 12 rfl rfl)
theorem dX13_isWord_13 : decode cX13_isWord 13 = .ok (.getfield 282, 3) := dk_180 1 26 (dk_at dksX13_isWord_0 13 rfl rfl)
theorem dX13_isWord_16 : decode cX13_isWord 16 = .ok (.isub, 1) := dk_100 (dk_at dksX13_isWord_0 16 rfl rfl)
theorem dX13_isWord_17 : decode cX13_isWord 17 = .ok (.aload_n 1, 1) := dk_43 (dk_at dksX13_isWord_0 17 rfl rfl)
theorem dX13_isWord_18 : decode cX13_isWord 18 = .ok (.invokevirtual 294, 3) := dk_182 1 38 (dk_at dksX13_isWord_0 18 rfl rfl)
theorem dX13_isWord_21 : decode cX13_isWord 21 = .ok (.if_icmp .ne 7, 3) := dk_160 0 7 (dk_at dksX13_isWord_0 21 rfl rfl)
theorem dX13_isWord_24 : decode cX13_isWord 24 = .ok (.iconst 1, 1) := dk_4 (dk_at dksX13_isWord_1 0 rfl rfl)
theorem dX13_isWord_25 : decode cX13_isWord 25 = .ok (.goto 4, 3) := dk_167 0 4 (dk_at dksX13_isWord_1 1 rfl rfl)
theorem dX13_isWord_28 : decode cX13_isWord 28 = .ok (.iconst 0, 1) := dk_3 (dk_at dksX13_isWord_1 4 rfl rfl)
theorem dX13_isWord_29 : decode cX13_isWord 29 = .ok (.istore_n 2, 1) := dk_61 (dk_at dksX13_isWord_1 5 rfl rfl)
theorem dX13_isWord_30 : decode cX13_isWord 30 = .ok (.iconst 0, 1) := dk_3 (dk_at dksX13_isWord_1 6 rfl rfl)
theorem dX13_isWord_31 : decode cX13_isWord 31 = .ok (.istore_n 3, 1) := dk_62 (dk_at dksX13_isWord_1 7 rfl rfl)
theorem dX13_isWord_32 : decode cX13_isWord 32 = .ok (.iload_n 3, 1) := dk_29 (dk_at dksX13_isWord_1 8 rfl rfl)
theorem dX13_isWord_33 : decode cX13_isWord 33 = .ok (.aload_n 1, 1) := dk_43 (dk_at dksX13_isWord_1 9 rfl rfl)
theorem dX13_isWord_34 : decode cX13_isWord 34 = .ok (.invokevirtual 294, 3) := dk_182 1 38 (dk_at dksX13_isWord_1 10 rfl rfl)
theorem dX13_isWord_37 : decode cX13_isWord 37 = .ok (.if_icmp .ge 38, 3) := dk_162 0 38 (dk_at dksX13_isWord_1 13 rfl rfl)
theorem dX13_isWord_40 : decode cX13_isWord 40 = .ok (.iload_n 2, 1) := dk_28 (dk_at dksX13_isWord_1 16 rfl rfl)
theorem dX13_isWord_41 : decode cX13_isWord 41 = .ok (.ifCond .eq 34, 3) := dk_153 0 34 (dk_at dksX13_isWord_1 17 rfl rfl)
theorem dX13_isWord_44 : decode cX13_isWord 44 = .ok (.aload_n 0, 1) := dk_42 (dk_at dksX13_isWord_1 20 rfl rfl)
theorem dX13_isWord_45 : decode cX13_isWord 45 = .ok (.getfield 25, 3) := dk_180 0 25 (dk_at dksX13_isWord_1 21 rfl rfl)
theorem dX13_isWord_48 : decode cX13_isWord 48 = .ok (.aload_n 0, 1) := dk_42 (dk_at dksX13_isWord_2 0 rfl rfl)
theorem dX13_isWord_49 : decode cX13_isWord 49 = .ok (.getfield 282, 3) := dk_180 1 26 (dk_at dksX13_isWord_2 1 rfl rfl)
theorem dX13_isWord_52 : decode cX13_isWord 52 = .ok (.iload_n 3, 1) := dk_29 (dk_at dksX13_isWord_2 4 rfl rfl)
theorem dX13_isWord_53 : decode cX13_isWord 53 = .ok (.iadd, 1) := dk_96 (dk_at dksX13_isWord_2 5 rfl rfl)
theorem dX13_isWord_54 : decode cX13_isWord 54 = .ok (.iaload, 1) := dk_46 (dk_at dksX13_isWord_2 6 rfl rfl)
theorem dX13_isWord_55 : decode cX13_isWord 55 = .ok (.aload_n 1, 1) := dk_43 (dk_at dksX13_isWord_2 7 rfl rfl)
theorem dX13_isWord_56 : decode cX13_isWord 56 = .ok (.iload_n 3, 1) := dk_29 (dk_at dksX13_isWord_2 8 rfl rfl)
theorem dX13_isWord_57 : decode cX13_isWord 57 = .ok (.invokevirtual 297, 3) := dk_182 1 41 (dk_at dksX13_isWord_2 9 rfl rfl)
theorem dX13_isWord_60 : decode cX13_isWord 60 = .ok (.if_icmp .ne 7, 3) := dk_160 0 7 (dk_at dksX13_isWord_2 12 rfl rfl)
theorem dX13_isWord_63 : decode cX13_isWord 63 = .ok (.iconst 1, 1) := dk_4 (dk_at dksX13_isWord_2 15 rfl rfl)
theorem dX13_isWord_64 : decode cX13_isWord 64 = .ok (.goto 4, 3) := dk_167 0 4 (dk_at dksX13_isWord_2 16 rfl rfl)
theorem dX13_isWord_67 : decode cX13_isWord 67 = .ok (.iconst 0, 1) := dk_3 (dk_at dksX13_isWord_2 19 rfl rfl)
theorem dX13_isWord_68 : decode cX13_isWord 68 = .ok (.istore_n 2, 1) := dk_61 (dk_at dksX13_isWord_2 20 rfl rfl)
theorem dX13_isWord_69 : decode cX13_isWord 69 = .ok (.iinc 3 1, 3) := dk_132 3 1 (dk_at dksX13_isWord_2 21 rfl rfl)
theorem dX13_isWord_72 : decode cX13_isWord 72 = .ok (.goto (-40), 3) := dk_167 255 216 (dk_at dksX13_isWord_3 0 rfl rfl)
theorem dX13_isWord_75 : decode cX13_isWord 75 = .ok (.iload_n 2, 1) := dk_28 (dk_at dksX13_isWord_3 3 rfl rfl)
theorem dX13_isWord_76 : decode cX13_isWord 76 = .ok (.ireturn, 1) := dk_172 (dk_at dksX13_isWord_3 4 rfl rfl)
abbrev cX13_must : ByteArray := prog_16_method_94_code
def yX13_must : MethodName := ⟨RX13, "must", "(Z)V"⟩
def dkwX13_must_1 : List UInt8 := [154, 0, 7, 42, 182, 1, 49, 177]
abbrev dktX13_must_1 : List UInt8 := dkwX13_must_1 ++ []
def dkwX13_must_0 : List UInt8 := [42, 42, 180, 1, 45, 154, 0, 7, 27, 154, 0, 7, 4, 167, 0, 4, 3, 181, 1, 45, 42, 180, 1, 45]
abbrev dktX13_must_0 : List UInt8 := dkwX13_must_0 ++ dktX13_must_1
theorem dksX13_must_0 : cX13_must.data.toList.drop 0 = dktX13_must_0 := by decide +kernel
theorem dksX13_must_1 : cX13_must.data.toList.drop 24 = dktX13_must_1 := dk_seg dksX13_must_0 24 rfl rfl
theorem dX13_must_0 : decode cX13_must 0 = .ok (.aload_n 0, 1) := dk_42 (dk_at dksX13_must_0 0 rfl rfl)
theorem dX13_must_1 : decode cX13_must 1 = .ok (.aload_n 0, 1) := dk_42 (dk_at dksX13_must_0 1 rfl rfl)
theorem dX13_must_2 : decode cX13_must 2 = .ok (.getfield 301, 3) := dk_180 1 45 (dk_at dksX13_must_0 2 rfl rfl)
theorem dX13_must_5 : decode cX13_must 5 = .ok (.ifCond .ne 7, 3) := dk_154 0 7 (dk_at dksX13_must_0 5 rfl rfl)
theorem dX13_must_8 : decode cX13_must 8 = .ok (.iload_n 1, 1) := dk_27 (dk_at dksX13_must_0 8 rfl rfl)
theorem dX13_must_9 : decode cX13_must 9 = .ok (.ifCond .ne 7, 3) := dk_154 0 7 (dk_at dksX13_must_0 9 rfl rfl)
theorem dX13_must_12 : decode cX13_must 12 = .ok (.iconst 1, 1) := dk_4 (dk_at dksX13_must_0 12 rfl rfl)
theorem dX13_must_13 : decode cX13_must 13 = .ok (.goto 4, 3) := dk_167 0 4 (dk_at dksX13_must_0 13 rfl rfl)
theorem dX13_must_16 : decode cX13_must 16 = .ok (.iconst 0, 1) := dk_3 (dk_at dksX13_must_0 16 rfl rfl)
theorem dX13_must_17 : decode cX13_must 17 = .ok (.putfield 301, 3) := dk_181 1 45 (dk_at dksX13_must_0 17 rfl rfl)
theorem dX13_must_20 : decode cX13_must 20 = .ok (.aload_n 0, 1) := dk_42 (dk_at dksX13_must_0 20 rfl rfl)
theorem dX13_must_21 : decode cX13_must 21 = .ok (.getfield 301, 3) := dk_180 1 45 (dk_at dksX13_must_0 21 rfl rfl)
theorem dX13_must_24 : decode cX13_must 24 = .ok (.ifCond .ne 7, 3) := dk_154 0 7 (dk_at dksX13_must_1 0 rfl rfl)
theorem dX13_must_27 : decode cX13_must 27 = .ok (.aload_n 0, 1) := dk_42 (dk_at dksX13_must_1 3 rfl rfl)
theorem dX13_must_28 : decode cX13_must 28 = .ok (.invokevirtual 305, 3) := dk_182 1 49 (dk_at dksX13_must_1 4 rfl rfl)
theorem dX13_must_31 : decode cX13_must 31 = .ok (.return_, 1) := dk_177 (dk_at dksX13_must_1 7 rfl rfl)
abbrev cX13_number : ByteArray := prog_16_method_95_code
def yX13_number : MethodName := ⟨RX13, "number", "(II)I"⟩
def dkwX13_number_1 : List UInt8 := [167, 0, 4, 3, 182, 1, 52, 29, 172]
abbrev dktX13_number_1 : List UInt8 := dkwX13_number_1 ++ []
def dkwX13_number_0 : List UInt8 := [42, 180, 1, 32, 62, 42, 42, 180, 1, 35, 5, 160, 0, 16, 29, 27, 28, 184, 0, 84, 153, 0, 7, 4]
abbrev dktX13_number_0 : List UInt8 := dkwX13_number_0 ++ dktX13_number_1
theorem dksX13_number_0 : cX13_number.data.toList.drop 0 = dktX13_number_0 := by decide +kernel
theorem dksX13_number_1 : cX13_number.data.toList.drop 24 = dktX13_number_1 := dk_seg dksX13_number_0 24 rfl rfl
theorem dX13_number_0 : decode cX13_number 0 = .ok (.aload_n 0, 1) := dk_42 (dk_at dksX13_number_0 0 rfl rfl)
theorem dX13_number_1 : decode cX13_number 1 = .ok (.getfield 288, 3) := dk_180 1 32 (dk_at dksX13_number_0 1 rfl rfl)
theorem dX13_number_4 : decode cX13_number 4 = .ok (.istore_n 3, 1) := dk_62 (dk_at dksX13_number_0 4 rfl rfl)
theorem dX13_number_5 : decode cX13_number 5 = .ok (.aload_n 0, 1) := dk_42 (dk_at dksX13_number_0 5 rfl rfl)
theorem dX13_number_6 : decode cX13_number 6 = .ok (.aload_n 0, 1) := dk_42 (dk_at dksX13_number_0 6 rfl rfl)
theorem dX13_number_7 : decode cX13_number 7 = .ok (.getfield 291, 3) := dk_180 1 35 (dk_at dksX13_number_0 7 rfl rfl)
theorem dX13_number_10 : decode cX13_number 10 = .ok (.iconst 2, 1) := dk_5 (dk_at dksX13_number_0 10 rfl rfl)
theorem dX13_number_11 : decode cX13_number 11 = .ok (.if_icmp .ne 16, 3) := dk_160 0 16 (dk_at dksX13_number_0 11 rfl rfl)
theorem dX13_number_14 : decode cX13_number 14 = .ok (.iload_n 3, 1) := dk_29 (dk_at dksX13_number_0 14 rfl rfl)
theorem dX13_number_15 : decode cX13_number 15 = .ok (.iload_n 1, 1) := dk_27 (dk_at dksX13_number_0 15 rfl rfl)
theorem dX13_number_16 : decode cX13_number 16 = .ok (.iload_n 2, 1) := dk_28 (dk_at dksX13_number_0 16 rfl rfl)
theorem dX13_number_17 : decode cX13_number 17 = .ok (.invokestatic 84, 3) := dk_184 0 84 (dk_at dksX13_number_0 17 rfl rfl)
theorem dX13_number_20 : decode cX13_number 20 = .ok (.ifCond .eq 7, 3) := dk_153 0 7 (dk_at dksX13_number_0 20 rfl rfl)
theorem dX13_number_23 : decode cX13_number 23 = .ok (.iconst 1, 1) := dk_4 (dk_at dksX13_number_0 23 rfl rfl)
theorem dX13_number_24 : decode cX13_number 24 = .ok (.goto 4, 3) := dk_167 0 4 (dk_at dksX13_number_1 0 rfl rfl)
theorem dX13_number_27 : decode cX13_number 27 = .ok (.iconst 0, 1) := dk_3 (dk_at dksX13_number_1 3 rfl rfl)
theorem dX13_number_28 : decode cX13_number 28 = .ok (.invokevirtual 308, 3) := dk_182 1 52 (dk_at dksX13_number_1 4 rfl rfl)
theorem dX13_number_31 : decode cX13_number 31 = .ok (.iload_n 3, 1) := dk_29 (dk_at dksX13_number_1 7 rfl rfl)
theorem dX13_number_32 : decode cX13_number 32 = .ok (.ireturn, 1) := dk_172 (dk_at dksX13_number_1 8 rfl rfl)
abbrev cX13_afterWord : ByteArray := prog_16_method_99_code
def yX13_afterWord : MethodName := ⟨RX13, "afterWord", "(Ljava/lang/String;II)I"⟩
def dkwX13_afterWord_1 : List UInt8 := [16, 9, 182, 1, 67, 172]
abbrev dktX13_afterWord_1 : List UInt8 := dkwX13_afterWord_1 ++ []
def dkwX13_afterWord_0 : List UInt8 := [42, 180, 1, 45, 154, 0, 11, 42, 43, 182, 1, 59, 154, 0, 5, 29, 172, 42, 4, 182, 1, 52, 42, 28]
abbrev dktX13_afterWord_0 : List UInt8 := dkwX13_afterWord_0 ++ dktX13_afterWord_1
theorem dksX13_afterWord_0 : cX13_afterWord.data.toList.drop 0 = dktX13_afterWord_0 := by decide +kernel
theorem dksX13_afterWord_1 : cX13_afterWord.data.toList.drop 24 = dktX13_afterWord_1 := dk_seg dksX13_afterWord_0 24 rfl rfl
theorem dX13_afterWord_0 : decode cX13_afterWord 0 = .ok (.aload_n 0, 1) := dk_42 (dk_at dksX13_afterWord_0 0 rfl rfl)
theorem dX13_afterWord_1 : decode cX13_afterWord 1 = .ok (.getfield 301, 3) := dk_180 1 45 (dk_at dksX13_afterWord_0 1 rfl rfl)
theorem dX13_afterWord_4 : decode cX13_afterWord 4 = .ok (.ifCond .ne 11, 3) := dk_154 0 11 (dk_at dksX13_afterWord_0 4 rfl rfl)
theorem dX13_afterWord_7 : decode cX13_afterWord 7 = .ok (.aload_n 0, 1) := dk_42 (dk_at dksX13_afterWord_0 7 rfl rfl)
theorem dX13_afterWord_8 : decode cX13_afterWord 8 = .ok (.aload_n 1, 1) := dk_43 (dk_at dksX13_afterWord_0 8 rfl rfl)
theorem dX13_afterWord_9 : decode cX13_afterWord 9 = .ok (.invokevirtual 315, 3) := dk_182 1 59 (dk_at dksX13_afterWord_0 9 rfl rfl)
theorem dX13_afterWord_12 : decode cX13_afterWord 12 = .ok (.ifCond .ne 5, 3) := dk_154 0 5 (dk_at dksX13_afterWord_0 12 rfl rfl)
theorem dX13_afterWord_15 : decode cX13_afterWord 15 = .ok (.iload_n 3, 1) := dk_29 (dk_at dksX13_afterWord_0 15 rfl rfl)
theorem dX13_afterWord_16 : decode cX13_afterWord 16 = .ok (.ireturn, 1) := dk_172 (dk_at dksX13_afterWord_0 16 rfl rfl)
theorem dX13_afterWord_17 : decode cX13_afterWord 17 = .ok (.aload_n 0, 1) := dk_42 (dk_at dksX13_afterWord_0 17 rfl rfl)
theorem dX13_afterWord_18 : decode cX13_afterWord 18 = .ok (.iconst 1, 1) := dk_4 (dk_at dksX13_afterWord_0 18 rfl rfl)
theorem dX13_afterWord_19 : decode cX13_afterWord 19 = .ok (.invokevirtual 308, 3) := dk_182 1 52 (dk_at dksX13_afterWord_0 19 rfl rfl)
theorem dX13_afterWord_22 : decode cX13_afterWord 22 = .ok (.aload_n 0, 1) := dk_42 (dk_at dksX13_afterWord_0 22 rfl rfl)
theorem dX13_afterWord_23 : decode cX13_afterWord 23 = .ok (.iload_n 2, 1) := dk_28 (dk_at dksX13_afterWord_0 23 rfl rfl)
theorem dX13_afterWord_24 : decode cX13_afterWord 24 = .ok (.bipush 9, 2) := dk_16 9 (dk_at dksX13_afterWord_1 0 rfl rfl)
theorem dX13_afterWord_26 : decode cX13_afterWord 26 = .ok (.invokevirtual 323, 3) := dk_182 1 67 (dk_at dksX13_afterWord_1 2 rfl rfl)
theorem dX13_afterWord_29 : decode cX13_afterWord 29 = .ok (.ireturn, 1) := dk_172 (dk_at dksX13_afterWord_1 5 rfl rfl)
abbrev cX13_addItem : ByteArray := prog_16_method_96_code
def yX13_addItem : MethodName := ⟨RX13, "addItem", "(IIIII)V"⟩
def dkwX13_addItem_2 : List UInt8 := [180, 0, 59, 21, 6, 7, 96, 21, 5, 79, 42, 89, 180, 1, 56, 4, 96, 181, 1, 56, 177]
abbrev dktX13_addItem_2 : List UInt8 := dkwX13_addItem_2 ++ []
def dkwX13_addItem_1 : List UInt8 := [28, 79, 42, 180, 0, 59, 21, 6, 5, 96, 29, 79, 42, 180, 0, 59, 21, 6, 6, 96, 21, 4, 79, 42]
abbrev dktX13_addItem_1 : List UInt8 := dkwX13_addItem_1 ++ dktX13_addItem_2
def dkwX13_addItem_0 : List UInt8 := [8, 42, 180, 1, 56, 104, 54, 6, 42, 180, 0, 59, 21, 6, 27, 79, 42, 180, 0, 59, 21, 6, 4, 96]
abbrev dktX13_addItem_0 : List UInt8 := dkwX13_addItem_0 ++ dktX13_addItem_1
theorem dksX13_addItem_0 : cX13_addItem.data.toList.drop 0 = dktX13_addItem_0 := by decide +kernel
theorem dksX13_addItem_1 : cX13_addItem.data.toList.drop 24 = dktX13_addItem_1 := dk_seg dksX13_addItem_0 24 rfl rfl
theorem dksX13_addItem_2 : cX13_addItem.data.toList.drop 48 = dktX13_addItem_2 := dk_seg dksX13_addItem_1 24 rfl rfl
theorem dX13_addItem_0 : decode cX13_addItem 0 = .ok (.iconst 5, 1) := dk_8 (dk_at dksX13_addItem_0 0 rfl rfl)
theorem dX13_addItem_1 : decode cX13_addItem 1 = .ok (.aload_n 0, 1) := dk_42 (dk_at dksX13_addItem_0 1 rfl rfl)
theorem dX13_addItem_2 : decode cX13_addItem 2 = .ok (.getfield 312, 3) := dk_180 1 56 (dk_at dksX13_addItem_0 2 rfl rfl)
theorem dX13_addItem_5 : decode cX13_addItem 5 = .ok (.imul, 1) := dk_104 (dk_at dksX13_addItem_0 5 rfl rfl)
theorem dX13_addItem_6 : decode cX13_addItem 6 = .ok (.istore 6, 2) := dk_54 6 (dk_at dksX13_addItem_0 6 rfl rfl)
theorem dX13_addItem_8 : decode cX13_addItem 8 = .ok (.aload_n 0, 1) := dk_42 (dk_at dksX13_addItem_0 8 rfl rfl)
theorem dX13_addItem_9 : decode cX13_addItem 9 = .ok (.getfield 59, 3) := dk_180 0 59 (dk_at dksX13_addItem_0 9 rfl rfl)
theorem dX13_addItem_12 : decode cX13_addItem 12 = .ok (.iload 6, 2) := dk_21 6 (dk_at dksX13_addItem_0 12 rfl rfl)
theorem dX13_addItem_14 : decode cX13_addItem 14 = .ok (.iload_n 1, 1) := dk_27 (dk_at dksX13_addItem_0 14 rfl rfl)
theorem dX13_addItem_15 : decode cX13_addItem 15 = .ok (.iastore, 1) := dk_79 (dk_at dksX13_addItem_0 15 rfl rfl)
theorem dX13_addItem_16 : decode cX13_addItem 16 = .ok (.aload_n 0, 1) := dk_42 (dk_at dksX13_addItem_0 16 rfl rfl)
theorem dX13_addItem_17 : decode cX13_addItem 17 = .ok (.getfield 59, 3) := dk_180 0 59 (dk_at dksX13_addItem_0 17 rfl rfl)
theorem dX13_addItem_20 : decode cX13_addItem 20 = .ok (.iload 6, 2) := dk_21 6 (dk_at dksX13_addItem_0 20 rfl rfl)
theorem dX13_addItem_22 : decode cX13_addItem 22 = .ok (.iconst 1, 1) := dk_4 (dk_at dksX13_addItem_0 22 rfl rfl)
theorem dX13_addItem_23 : decode cX13_addItem 23 = .ok (.iadd, 1) := dk_96 (dk_at dksX13_addItem_0 23 rfl rfl)
theorem dX13_addItem_24 : decode cX13_addItem 24 = .ok (.iload_n 2, 1) := dk_28 (dk_at dksX13_addItem_1 0 rfl rfl)
theorem dX13_addItem_25 : decode cX13_addItem 25 = .ok (.iastore, 1) := dk_79 (dk_at dksX13_addItem_1 1 rfl rfl)
theorem dX13_addItem_26 : decode cX13_addItem 26 = .ok (.aload_n 0, 1) := dk_42 (dk_at dksX13_addItem_1 2 rfl rfl)
theorem dX13_addItem_27 : decode cX13_addItem 27 = .ok (.getfield 59, 3) := dk_180 0 59 (dk_at dksX13_addItem_1 3 rfl rfl)
theorem dX13_addItem_30 : decode cX13_addItem 30 = .ok (.iload 6, 2) := dk_21 6 (dk_at dksX13_addItem_1 6 rfl rfl)
theorem dX13_addItem_32 : decode cX13_addItem 32 = .ok (.iconst 2, 1) := dk_5 (dk_at dksX13_addItem_1 8 rfl rfl)
theorem dX13_addItem_33 : decode cX13_addItem 33 = .ok (.iadd, 1) := dk_96 (dk_at dksX13_addItem_1 9 rfl rfl)
theorem dX13_addItem_34 : decode cX13_addItem 34 = .ok (.iload_n 3, 1) := dk_29 (dk_at dksX13_addItem_1 10 rfl rfl)
theorem dX13_addItem_35 : decode cX13_addItem 35 = .ok (.iastore, 1) := dk_79 (dk_at dksX13_addItem_1 11 rfl rfl)
theorem dX13_addItem_36 : decode cX13_addItem 36 = .ok (.aload_n 0, 1) := dk_42 (dk_at dksX13_addItem_1 12 rfl rfl)
theorem dX13_addItem_37 : decode cX13_addItem 37 = .ok (.getfield 59, 3) := dk_180 0 59 (dk_at dksX13_addItem_1 13 rfl rfl)
theorem dX13_addItem_40 : decode cX13_addItem 40 = .ok (.iload 6, 2) := dk_21 6 (dk_at dksX13_addItem_1 16 rfl rfl)
theorem dX13_addItem_42 : decode cX13_addItem 42 = .ok (.iconst 3, 1) := dk_6 (dk_at dksX13_addItem_1 18 rfl rfl)
theorem dX13_addItem_43 : decode cX13_addItem 43 = .ok (.iadd, 1) := dk_96 (dk_at dksX13_addItem_1 19 rfl rfl)
theorem dX13_addItem_44 : decode cX13_addItem 44 = .ok (.iload 4, 2) := dk_21 4 (dk_at dksX13_addItem_1 20 rfl rfl)
theorem dX13_addItem_46 : decode cX13_addItem 46 = .ok (.iastore, 1) := dk_79 (dk_at dksX13_addItem_1 22 rfl rfl)
theorem dX13_addItem_47 : decode cX13_addItem 47 = .ok (.aload_n 0, 1) := dk_42 (dk_at dksX13_addItem_1 23 rfl rfl)
theorem dX13_addItem_48 : decode cX13_addItem 48 = .ok (.getfield 59, 3) := dk_180 0 59 (dk_at dksX13_addItem_2 0 rfl rfl)
theorem dX13_addItem_51 : decode cX13_addItem 51 = .ok (.iload 6, 2) := dk_21 6 (dk_at dksX13_addItem_2 3 rfl rfl)
theorem dX13_addItem_53 : decode cX13_addItem 53 = .ok (.iconst 4, 1) := dk_7 (dk_at dksX13_addItem_2 5 rfl rfl)
theorem dX13_addItem_54 : decode cX13_addItem 54 = .ok (.iadd, 1) := dk_96 (dk_at dksX13_addItem_2 6 rfl rfl)
theorem dX13_addItem_55 : decode cX13_addItem 55 = .ok (.iload 5, 2) := dk_21 5 (dk_at dksX13_addItem_2 7 rfl rfl)
theorem dX13_addItem_57 : decode cX13_addItem 57 = .ok (.iastore, 1) := dk_79 (dk_at dksX13_addItem_2 9 rfl rfl)
theorem dX13_addItem_58 : decode cX13_addItem 58 = .ok (.aload_n 0, 1) := dk_42 (dk_at dksX13_addItem_2 10 rfl rfl)
theorem dX13_addItem_59 : decode cX13_addItem 59 = .ok (.dup, 1) := dk_89 (dk_at dksX13_addItem_2 11 rfl rfl)
theorem dX13_addItem_60 : decode cX13_addItem 60 = .ok (.getfield 312, 3) := dk_180 1 56 (dk_at dksX13_addItem_2 12 rfl rfl)
theorem dX13_addItem_63 : decode cX13_addItem 63 = .ok (.iconst 1, 1) := dk_4 (dk_at dksX13_addItem_2 15 rfl rfl)
theorem dX13_addItem_64 : decode cX13_addItem 64 = .ok (.iadd, 1) := dk_96 (dk_at dksX13_addItem_2 16 rfl rfl)
theorem dX13_addItem_65 : decode cX13_addItem 65 = .ok (.putfield 312, 3) := dk_181 1 56 (dk_at dksX13_addItem_2 17 rfl rfl)
theorem dX13_addItem_68 : decode cX13_addItem 68 = .ok (.return_, 1) := dk_177 (dk_at dksX13_addItem_2 20 rfl rfl)
abbrev cX13_readMouse : ByteArray := prog_16_method_100_code
def yX13_readMouse : MethodName := ⟨RX13, "readMouse", "()V"⟩
def dkwX13_readMouse_1 : List UInt8 := [182, 1, 75, 62, 42, 16, 10, 27, 28, 29, 42, 19, 1, 79, 3, 2, 182, 1, 75, 182, 1, 81, 177]
abbrev dktX13_readMouse_1 : List UInt8 := dkwX13_readMouse_1 ++ []
def dkwX13_readMouse_0 : List UInt8 := [42, 4, 182, 1, 52, 42, 3, 16, 35, 182, 1, 67, 60, 42, 182, 1, 70, 61, 42, 19, 1, 73, 4, 2]
abbrev dktX13_readMouse_0 : List UInt8 := dkwX13_readMouse_0 ++ dktX13_readMouse_1
theorem dksX13_readMouse_0 : cX13_readMouse.data.toList.drop 0 = dktX13_readMouse_0 := by decide +kernel
theorem dksX13_readMouse_1 : cX13_readMouse.data.toList.drop 24 = dktX13_readMouse_1 := dk_seg dksX13_readMouse_0 24 rfl rfl
theorem dX13_readMouse_0 : decode cX13_readMouse 0 = .ok (.aload_n 0, 1) := dk_42 (dk_at dksX13_readMouse_0 0 rfl rfl)
theorem dX13_readMouse_1 : decode cX13_readMouse 1 = .ok (.iconst 1, 1) := dk_4 (dk_at dksX13_readMouse_0 1 rfl rfl)
theorem dX13_readMouse_2 : decode cX13_readMouse 2 = .ok (.invokevirtual 308, 3) := dk_182 1 52 (dk_at dksX13_readMouse_0 2 rfl rfl)
theorem dX13_readMouse_5 : decode cX13_readMouse 5 = .ok (.aload_n 0, 1) := dk_42 (dk_at dksX13_readMouse_0 5 rfl rfl)
theorem dX13_readMouse_6 : decode cX13_readMouse 6 = .ok (.iconst 0, 1) := dk_3 (dk_at dksX13_readMouse_0 6 rfl rfl)
theorem dX13_readMouse_7 : decode cX13_readMouse 7 = .ok (.bipush 35, 2) := dk_16 35 (dk_at dksX13_readMouse_0 7 rfl rfl)
theorem dX13_readMouse_9 : decode cX13_readMouse 9 = .ok (.invokevirtual 323, 3) := dk_182 1 67 (dk_at dksX13_readMouse_0 9 rfl rfl)
theorem dX13_readMouse_12 : decode cX13_readMouse 12 = .ok (.istore_n 1, 1) := dk_60 (dk_at dksX13_readMouse_0 12 rfl rfl)
theorem dX13_readMouse_13 : decode cX13_readMouse 13 = .ok (.aload_n 0, 1) := dk_42 (dk_at dksX13_readMouse_0 13 rfl rfl)
theorem dX13_readMouse_14 : decode cX13_readMouse 14 = .ok (.invokevirtual 326, 3) := dk_182 1 70 (dk_at dksX13_readMouse_0 14 rfl rfl)
theorem dX13_readMouse_17 : decode cX13_readMouse 17 = .ok (.istore_n 2, 1) := dk_61 (dk_at dksX13_readMouse_0 17 rfl rfl)
theorem dX13_readMouse_18 : decode cX13_readMouse 18 = .ok (.aload_n 0, 1) := dk_42 (dk_at dksX13_readMouse_0 18 rfl rfl)
theorem dX13_readMouse_19 : decode cX13_readMouse 19 = .ok (.ldc_w 329, 3) := dk_19 1 73 (dk_at dksX13_readMouse_0 19 rfl rfl)
theorem dX13_readMouse_22 : decode cX13_readMouse 22 = .ok (.iconst 1, 1) := dk_4 (dk_at dksX13_readMouse_0 22 rfl rfl)
theorem dX13_readMouse_23 : decode cX13_readMouse 23 = .ok (.iconst (-1), 1) := dk_2 (dk_at dksX13_readMouse_0 23 rfl rfl)
theorem dX13_readMouse_24 : decode cX13_readMouse 24 = .ok (.invokevirtual 331, 3) := dk_182 1 75 (dk_at dksX13_readMouse_1 0 rfl rfl)
theorem dX13_readMouse_27 : decode cX13_readMouse 27 = .ok (.istore_n 3, 1) := dk_62 (dk_at dksX13_readMouse_1 3 rfl rfl)
theorem dX13_readMouse_28 : decode cX13_readMouse 28 = .ok (.aload_n 0, 1) := dk_42 (dk_at dksX13_readMouse_1 4 rfl rfl)
theorem dX13_readMouse_29 : decode cX13_readMouse 29 = .ok (.bipush 10, 2) := dk_16 10 (dk_at dksX13_readMouse_1 5 rfl rfl)
theorem dX13_readMouse_31 : decode cX13_readMouse 31 = .ok (.iload_n 1, 1) := dk_27 (dk_at dksX13_readMouse_1 7 rfl rfl)
theorem dX13_readMouse_32 : decode cX13_readMouse 32 = .ok (.iload_n 2, 1) := dk_28 (dk_at dksX13_readMouse_1 8 rfl rfl)
theorem dX13_readMouse_33 : decode cX13_readMouse 33 = .ok (.iload_n 3, 1) := dk_29 (dk_at dksX13_readMouse_1 9 rfl rfl)
theorem dX13_readMouse_34 : decode cX13_readMouse 34 = .ok (.aload_n 0, 1) := dk_42 (dk_at dksX13_readMouse_1 10 rfl rfl)
theorem dX13_readMouse_35 : decode cX13_readMouse 35 = .ok (.ldc_w 335, 3) := dk_19 1 79 (dk_at dksX13_readMouse_1 11 rfl rfl)
theorem dX13_readMouse_38 : decode cX13_readMouse 38 = .ok (.iconst 0, 1) := dk_3 (dk_at dksX13_readMouse_1 14 rfl rfl)
theorem dX13_readMouse_39 : decode cX13_readMouse 39 = .ok (.iconst (-1), 1) := dk_2 (dk_at dksX13_readMouse_1 15 rfl rfl)
theorem dX13_readMouse_40 : decode cX13_readMouse 40 = .ok (.invokevirtual 331, 3) := dk_182 1 75 (dk_at dksX13_readMouse_1 16 rfl rfl)
theorem dX13_readMouse_43 : decode cX13_readMouse 43 = .ok (.invokevirtual 337, 3) := dk_182 1 81 (dk_at dksX13_readMouse_1 19 rfl rfl)
theorem dX13_readMouse_46 : decode cX13_readMouse 46 = .ok (.return_, 1) := dk_177 (dk_at dksX13_readMouse_1 22 rfl rfl)
abbrev cX13_headingTold : ByteArray := prog_16_method_98_code
def yX13_headingTold : MethodName := ⟨RX13, "headingTold", "()I"⟩
def dkwX13_headingTold_0 : List UInt8 := [42, 42, 180, 0, 56, 182, 1, 63, 60, 27, 155, 0, 8, 42, 4, 182, 1, 52, 27, 172]
abbrev dktX13_headingTold_0 : List UInt8 := dkwX13_headingTold_0 ++ []
theorem dksX13_headingTold_0 : cX13_headingTold.data.toList.drop 0 = dktX13_headingTold_0 := by decide +kernel
theorem dX13_headingTold_0 : decode cX13_headingTold 0 = .ok (.aload_n 0, 1) := dk_42 (dk_at dksX13_headingTold_0 0 rfl rfl)
theorem dX13_headingTold_1 : decode cX13_headingTold 1 = .ok (.aload_n 0, 1) := dk_42 (dk_at dksX13_headingTold_0 1 rfl rfl)
theorem dX13_headingTold_2 : decode cX13_headingTold 2 = .ok (.getfield 56, 3) := dk_180 0 56 (dk_at dksX13_headingTold_0 2 rfl rfl)
theorem dX13_headingTold_5 : decode cX13_headingTold 5 = .ok (.invokevirtual 319, 3) := dk_182 1 63 (dk_at dksX13_headingTold_0 5 rfl rfl)
theorem dX13_headingTold_8 : decode cX13_headingTold 8 = .ok (.istore_n 1, 1) := dk_60 (dk_at dksX13_headingTold_0 8 rfl rfl)
theorem dX13_headingTold_9 : decode cX13_headingTold 9 = .ok (.iload_n 1, 1) := dk_27 (dk_at dksX13_headingTold_0 9 rfl rfl)
theorem dX13_headingTold_10 : decode cX13_headingTold 10 = .ok (.ifCond .lt 8, 3) := dk_155 0 8 (dk_at dksX13_headingTold_0 10 rfl rfl)
theorem dX13_headingTold_13 : decode cX13_headingTold 13 = .ok (.aload_n 0, 1) := dk_42 (dk_at dksX13_headingTold_0 13 rfl rfl)
theorem dX13_headingTold_14 : decode cX13_headingTold 14 = .ok (.iconst 1, 1) := dk_4 (dk_at dksX13_headingTold_0 14 rfl rfl)
theorem dX13_headingTold_15 : decode cX13_headingTold 15 = .ok (.invokevirtual 308, 3) := dk_182 1 52 (dk_at dksX13_headingTold_0 15 rfl rfl)
theorem dX13_headingTold_18 : decode cX13_headingTold 18 = .ok (.iload_n 1, 1) := dk_27 (dk_at dksX13_headingTold_0 18 rfl rfl)
theorem dX13_headingTold_19 : decode cX13_headingTold 19 = .ok (.ireturn, 1) := dk_172 (dk_at dksX13_headingTold_0 19 rfl rfl)
abbrev cX13_readLying : ByteArray := prog_16_method_101_code
def yX13_readLying : MethodName := ⟨RX13, "readLying", "(II)V"⟩
def dkwX13_readLying_1 : List UInt8 := [182, 1, 81, 177]
abbrev dktX13_readLying_1 : List UInt8 := dkwX13_readLying_1 ++ []
def dkwX13_readLying_0 : List UInt8 := [42, 4, 182, 1, 52, 42, 3, 16, 35, 182, 1, 67, 62, 42, 27, 29, 42, 3, 28, 182, 1, 67, 3, 3]
abbrev dktX13_readLying_0 : List UInt8 := dkwX13_readLying_0 ++ dktX13_readLying_1
theorem dksX13_readLying_0 : cX13_readLying.data.toList.drop 0 = dktX13_readLying_0 := by decide +kernel
theorem dksX13_readLying_1 : cX13_readLying.data.toList.drop 24 = dktX13_readLying_1 := dk_seg dksX13_readLying_0 24 rfl rfl
theorem dX13_readLying_0 : decode cX13_readLying 0 = .ok (.aload_n 0, 1) := dk_42 (dk_at dksX13_readLying_0 0 rfl rfl)
theorem dX13_readLying_1 : decode cX13_readLying 1 = .ok (.iconst 1, 1) := dk_4 (dk_at dksX13_readLying_0 1 rfl rfl)
theorem dX13_readLying_2 : decode cX13_readLying 2 = .ok (.invokevirtual 308, 3) := dk_182 1 52 (dk_at dksX13_readLying_0 2 rfl rfl)
theorem dX13_readLying_5 : decode cX13_readLying 5 = .ok (.aload_n 0, 1) := dk_42 (dk_at dksX13_readLying_0 5 rfl rfl)
theorem dX13_readLying_6 : decode cX13_readLying 6 = .ok (.iconst 0, 1) := dk_3 (dk_at dksX13_readLying_0 6 rfl rfl)
theorem dX13_readLying_7 : decode cX13_readLying 7 = .ok (.bipush 35, 2) := dk_16 35 (dk_at dksX13_readLying_0 7 rfl rfl)
theorem dX13_readLying_9 : decode cX13_readLying 9 = .ok (.invokevirtual 323, 3) := dk_182 1 67 (dk_at dksX13_readLying_0 9 rfl rfl)
theorem dX13_readLying_12 : decode cX13_readLying 12 = .ok (.istore_n 3, 1) := dk_62 (dk_at dksX13_readLying_0 12 rfl rfl)
theorem dX13_readLying_13 : decode cX13_readLying 13 = .ok (.aload_n 0, 1) := dk_42 (dk_at dksX13_readLying_0 13 rfl rfl)
theorem dX13_readLying_14 : decode cX13_readLying 14 = .ok (.iload_n 1, 1) := dk_27 (dk_at dksX13_readLying_0 14 rfl rfl)
theorem dX13_readLying_15 : decode cX13_readLying 15 = .ok (.iload_n 3, 1) := dk_29 (dk_at dksX13_readLying_0 15 rfl rfl)
theorem dX13_readLying_16 : decode cX13_readLying 16 = .ok (.aload_n 0, 1) := dk_42 (dk_at dksX13_readLying_0 16 rfl rfl)
theorem dX13_readLying_17 : decode cX13_readLying 17 = .ok (.iconst 0, 1) := dk_3 (dk_at dksX13_readLying_0 17 rfl rfl)
theorem dX13_readLying_18 : decode cX13_readLying 18 = .ok (.iload_n 2, 1) := dk_28 (dk_at dksX13_readLying_0 18 rfl rfl)
theorem dX13_readLying_19 : decode cX13_readLying 19 = .ok (.invokevirtual 323, 3) := dk_182 1 67 (dk_at dksX13_readLying_0 19 rfl rfl)
theorem dX13_readLying_22 : decode cX13_readLying 22 = .ok (.iconst 0, 1) := dk_3 (dk_at dksX13_readLying_0 22 rfl rfl)
theorem dX13_readLying_23 : decode cX13_readLying 23 = .ok (.iconst 0, 1) := dk_3 (dk_at dksX13_readLying_0 23 rfl rfl)
theorem dX13_readLying_24 : decode cX13_readLying 24 = .ok (.invokevirtual 337, 3) := dk_182 1 81 (dk_at dksX13_readLying_1 0 rfl rfl)
theorem dX13_readLying_27 : decode cX13_readLying 27 = .ok (.return_, 1) := dk_177 (dk_at dksX13_readLying_1 3 rfl rfl)
abbrev cX13_isToldSo : ByteArray := prog_16_method_104_code
def yX13_isToldSo : MethodName := ⟨RX13, "isToldSo", "(I)I"⟩
def dkwX13_isToldSo_6 : List UInt8 := [182, 0, 156, 172]
abbrev dktX13_isToldSo_6 : List UInt8 := dkwX13_isToldSo_6 ++ []
def dkwX13_isToldSo_5 : List UInt8 := [182, 0, 105, 172, 42, 16, 56, 28, 96, 29, 182, 0, 105, 172, 42, 42, 180, 0, 59, 27, 46, 28, 29]
abbrev dktX13_isToldSo_5 : List UInt8 := dkwX13_isToldSo_5 ++ dktX13_isToldSo_6
def dkwX13_isToldSo_4 : List UInt8 := [172, 42, 16, 9, 29, 182, 1, 105, 42, 16, 8, 28, 182, 0, 105, 172, 42, 16, 20, 28, 96, 29]
abbrev dktX13_isToldSo_4 : List UInt8 := dkwX13_isToldSo_4 ++ dktX13_isToldSo_5
def dkwX13_isToldSo_3 : List UInt8 := [180, 0, 59, 27, 7, 96, 46, 182, 1, 105, 42, 180, 0, 9, 16, 7, 3, 79, 42, 6, 28, 182, 0, 105]
abbrev dktX13_isToldSo_3 : List UInt8 := dkwX13_isToldSo_3 ++ dktX13_isToldSo_4
def dkwX13_isToldSo_2 : List UInt8 := [42, 7, 29, 182, 1, 105, 42, 8, 42, 180, 0, 59, 27, 6, 96, 46, 182, 1, 105, 42, 16, 6, 42]
abbrev dktX13_isToldSo_2 : List UInt8 := dkwX13_isToldSo_2 ++ dktX13_isToldSo_3
def dkwX13_isToldSo_1 : List UInt8 := [170, 0, 0, 0, 0, 0, 0, 115, 0, 0, 0, 10, 0, 0, 0, 13, 0, 0, 0, 32, 0, 0, 0, 80, 0, 0, 0, 95, 0, 0, 0, 105]
abbrev dktX13_isToldSo_1 : List UInt8 := dkwX13_isToldSo_1 ++ dktX13_isToldSo_2
def dkwX13_isToldSo_0 : List UInt8 := [42, 180, 0, 59, 27, 4, 96, 46, 61, 42, 180, 0, 59, 27, 5, 96, 46, 62, 42, 180, 0, 59, 27, 46]
abbrev dktX13_isToldSo_0 : List UInt8 := dkwX13_isToldSo_0 ++ dktX13_isToldSo_1
theorem dksX13_isToldSo_0 : cX13_isToldSo.data.toList.drop 0 = dktX13_isToldSo_0 := by decide +kernel
theorem dksX13_isToldSo_1 : cX13_isToldSo.data.toList.drop 24 = dktX13_isToldSo_1 := dk_seg dksX13_isToldSo_0 24 rfl rfl
theorem dksX13_isToldSo_2 : cX13_isToldSo.data.toList.drop 56 = dktX13_isToldSo_2 := dk_seg dksX13_isToldSo_1 32 rfl rfl
theorem dksX13_isToldSo_3 : cX13_isToldSo.data.toList.drop 79 = dktX13_isToldSo_3 := dk_seg dksX13_isToldSo_2 23 rfl rfl
theorem dksX13_isToldSo_4 : cX13_isToldSo.data.toList.drop 103 = dktX13_isToldSo_4 := dk_seg dksX13_isToldSo_3 24 rfl rfl
theorem dksX13_isToldSo_5 : cX13_isToldSo.data.toList.drop 125 = dktX13_isToldSo_5 := dk_seg dksX13_isToldSo_4 22 rfl rfl
theorem dksX13_isToldSo_6 : cX13_isToldSo.data.toList.drop 148 = dktX13_isToldSo_6 := dk_seg dksX13_isToldSo_5 23 rfl rfl
theorem dX13_isToldSo_0 : decode cX13_isToldSo 0 = .ok (.aload_n 0, 1) := dk_42 (dk_at dksX13_isToldSo_0 0 rfl rfl)
theorem dX13_isToldSo_1 : decode cX13_isToldSo 1 = .ok (.getfield 59, 3) := dk_180 0 59 (dk_at dksX13_isToldSo_0 1 rfl rfl)
theorem dX13_isToldSo_4 : decode cX13_isToldSo 4 = .ok (.iload_n 1, 1) := dk_27 (dk_at dksX13_isToldSo_0 4 rfl rfl)
theorem dX13_isToldSo_5 : decode cX13_isToldSo 5 = .ok (.iconst 1, 1) := dk_4 (dk_at dksX13_isToldSo_0 5 rfl rfl)
theorem dX13_isToldSo_6 : decode cX13_isToldSo 6 = .ok (.iadd, 1) := dk_96 (dk_at dksX13_isToldSo_0 6 rfl rfl)
theorem dX13_isToldSo_7 : decode cX13_isToldSo 7 = .ok (.iaload, 1) := dk_46 (dk_at dksX13_isToldSo_0 7 rfl rfl)
theorem dX13_isToldSo_8 : decode cX13_isToldSo 8 = .ok (.istore_n 2, 1) := dk_61 (dk_at dksX13_isToldSo_0 8 rfl rfl)
theorem dX13_isToldSo_9 : decode cX13_isToldSo 9 = .ok (.aload_n 0, 1) := dk_42 (dk_at dksX13_isToldSo_0 9 rfl rfl)
theorem dX13_isToldSo_10 : decode cX13_isToldSo 10 = .ok (.getfield 59, 3) := dk_180 0 59 (dk_at dksX13_isToldSo_0 10 rfl rfl)
theorem dX13_isToldSo_13 : decode cX13_isToldSo 13 = .ok (.iload_n 1, 1) := dk_27 (dk_at dksX13_isToldSo_0 13 rfl rfl)
theorem dX13_isToldSo_14 : decode cX13_isToldSo 14 = .ok (.iconst 2, 1) := dk_5 (dk_at dksX13_isToldSo_0 14 rfl rfl)
theorem dX13_isToldSo_15 : decode cX13_isToldSo 15 = .ok (.iadd, 1) := dk_96 (dk_at dksX13_isToldSo_0 15 rfl rfl)
theorem dX13_isToldSo_16 : decode cX13_isToldSo 16 = .ok (.iaload, 1) := dk_46 (dk_at dksX13_isToldSo_0 16 rfl rfl)
theorem dX13_isToldSo_17 : decode cX13_isToldSo 17 = .ok (.istore_n 3, 1) := dk_62 (dk_at dksX13_isToldSo_0 17 rfl rfl)
theorem dX13_isToldSo_18 : decode cX13_isToldSo 18 = .ok (.aload_n 0, 1) := dk_42 (dk_at dksX13_isToldSo_0 18 rfl rfl)
theorem dX13_isToldSo_19 : decode cX13_isToldSo 19 = .ok (.getfield 59, 3) := dk_180 0 59 (dk_at dksX13_isToldSo_0 19 rfl rfl)
theorem dX13_isToldSo_22 : decode cX13_isToldSo 22 = .ok (.iload_n 1, 1) := dk_27 (dk_at dksX13_isToldSo_0 22 rfl rfl)
theorem dX13_isToldSo_23 : decode cX13_isToldSo 23 = .ok (.iaload, 1) := dk_46 (dk_at dksX13_isToldSo_0 23 rfl rfl)
theorem dX13_isToldSo_24 : decode cX13_isToldSo 24 = .ok (.tableswitch 115 10 13 #[32, 80, 95, 105], 32) := by decide +kernel
theorem dX13_isToldSo_56 : decode cX13_isToldSo 56 = .ok (.aload_n 0, 1) := dk_42 (dk_at dksX13_isToldSo_2 0 rfl rfl)
theorem dX13_isToldSo_57 : decode cX13_isToldSo 57 = .ok (.iconst 4, 1) := dk_7 (dk_at dksX13_isToldSo_2 1 rfl rfl)
theorem dX13_isToldSo_58 : decode cX13_isToldSo 58 = .ok (.iload_n 3, 1) := dk_29 (dk_at dksX13_isToldSo_2 2 rfl rfl)
theorem dX13_isToldSo_59 : decode cX13_isToldSo 59 = .ok (.invokevirtual 361, 3) := dk_182 1 105 (dk_at dksX13_isToldSo_2 3 rfl rfl)
theorem dX13_isToldSo_62 : decode cX13_isToldSo 62 = .ok (.aload_n 0, 1) := dk_42 (dk_at dksX13_isToldSo_2 6 rfl rfl)
theorem dX13_isToldSo_63 : decode cX13_isToldSo 63 = .ok (.iconst 5, 1) := dk_8 (dk_at dksX13_isToldSo_2 7 rfl rfl)
theorem dX13_isToldSo_64 : decode cX13_isToldSo 64 = .ok (.aload_n 0, 1) := dk_42 (dk_at dksX13_isToldSo_2 8 rfl rfl)
theorem dX13_isToldSo_65 : decode cX13_isToldSo 65 = .ok (.getfield 59, 3) := dk_180 0 59 (dk_at dksX13_isToldSo_2 9 rfl rfl)
theorem dX13_isToldSo_68 : decode cX13_isToldSo 68 = .ok (.iload_n 1, 1) := dk_27 (dk_at dksX13_isToldSo_2 12 rfl rfl)
theorem dX13_isToldSo_69 : decode cX13_isToldSo 69 = .ok (.iconst 3, 1) := dk_6 (dk_at dksX13_isToldSo_2 13 rfl rfl)
theorem dX13_isToldSo_70 : decode cX13_isToldSo 70 = .ok (.iadd, 1) := dk_96 (dk_at dksX13_isToldSo_2 14 rfl rfl)
theorem dX13_isToldSo_71 : decode cX13_isToldSo 71 = .ok (.iaload, 1) := dk_46 (dk_at dksX13_isToldSo_2 15 rfl rfl)
theorem dX13_isToldSo_72 : decode cX13_isToldSo 72 = .ok (.invokevirtual 361, 3) := dk_182 1 105 (dk_at dksX13_isToldSo_2 16 rfl rfl)
theorem dX13_isToldSo_75 : decode cX13_isToldSo 75 = .ok (.aload_n 0, 1) := dk_42 (dk_at dksX13_isToldSo_2 19 rfl rfl)
theorem dX13_isToldSo_76 : decode cX13_isToldSo 76 = .ok (.bipush 6, 2) := dk_16 6 (dk_at dksX13_isToldSo_2 20 rfl rfl)
theorem dX13_isToldSo_78 : decode cX13_isToldSo 78 = .ok (.aload_n 0, 1) := dk_42 (dk_at dksX13_isToldSo_2 22 rfl rfl)
theorem dX13_isToldSo_79 : decode cX13_isToldSo 79 = .ok (.getfield 59, 3) := dk_180 0 59 (dk_at dksX13_isToldSo_3 0 rfl rfl)
theorem dX13_isToldSo_82 : decode cX13_isToldSo 82 = .ok (.iload_n 1, 1) := dk_27 (dk_at dksX13_isToldSo_3 3 rfl rfl)
theorem dX13_isToldSo_83 : decode cX13_isToldSo 83 = .ok (.iconst 4, 1) := dk_7 (dk_at dksX13_isToldSo_3 4 rfl rfl)
theorem dX13_isToldSo_84 : decode cX13_isToldSo 84 = .ok (.iadd, 1) := dk_96 (dk_at dksX13_isToldSo_3 5 rfl rfl)
theorem dX13_isToldSo_85 : decode cX13_isToldSo 85 = .ok (.iaload, 1) := dk_46 (dk_at dksX13_isToldSo_3 6 rfl rfl)
theorem dX13_isToldSo_86 : decode cX13_isToldSo 86 = .ok (.invokevirtual 361, 3) := dk_182 1 105 (dk_at dksX13_isToldSo_3 7 rfl rfl)
theorem dX13_isToldSo_89 : decode cX13_isToldSo 89 = .ok (.aload_n 0, 1) := dk_42 (dk_at dksX13_isToldSo_3 10 rfl rfl)
theorem dX13_isToldSo_90 : decode cX13_isToldSo 90 = .ok (.getfield 9, 3) := dk_180 0 9 (dk_at dksX13_isToldSo_3 11 rfl rfl)
theorem dX13_isToldSo_93 : decode cX13_isToldSo 93 = .ok (.bipush 7, 2) := dk_16 7 (dk_at dksX13_isToldSo_3 14 rfl rfl)
theorem dX13_isToldSo_95 : decode cX13_isToldSo 95 = .ok (.iconst 0, 1) := dk_3 (dk_at dksX13_isToldSo_3 16 rfl rfl)
theorem dX13_isToldSo_96 : decode cX13_isToldSo 96 = .ok (.iastore, 1) := dk_79 (dk_at dksX13_isToldSo_3 17 rfl rfl)
theorem dX13_isToldSo_97 : decode cX13_isToldSo 97 = .ok (.aload_n 0, 1) := dk_42 (dk_at dksX13_isToldSo_3 18 rfl rfl)
theorem dX13_isToldSo_98 : decode cX13_isToldSo 98 = .ok (.iconst 3, 1) := dk_6 (dk_at dksX13_isToldSo_3 19 rfl rfl)
theorem dX13_isToldSo_99 : decode cX13_isToldSo 99 = .ok (.iload_n 2, 1) := dk_28 (dk_at dksX13_isToldSo_3 20 rfl rfl)
theorem dX13_isToldSo_100 : decode cX13_isToldSo 100 = .ok (.invokevirtual 105, 3) := dk_182 0 105 (dk_at dksX13_isToldSo_3 21 rfl rfl)
theorem dX13_isToldSo_103 : decode cX13_isToldSo 103 = .ok (.ireturn, 1) := dk_172 (dk_at dksX13_isToldSo_4 0 rfl rfl)
theorem dX13_isToldSo_104 : decode cX13_isToldSo 104 = .ok (.aload_n 0, 1) := dk_42 (dk_at dksX13_isToldSo_4 1 rfl rfl)
theorem dX13_isToldSo_105 : decode cX13_isToldSo 105 = .ok (.bipush 9, 2) := dk_16 9 (dk_at dksX13_isToldSo_4 2 rfl rfl)
theorem dX13_isToldSo_107 : decode cX13_isToldSo 107 = .ok (.iload_n 3, 1) := dk_29 (dk_at dksX13_isToldSo_4 4 rfl rfl)
theorem dX13_isToldSo_108 : decode cX13_isToldSo 108 = .ok (.invokevirtual 361, 3) := dk_182 1 105 (dk_at dksX13_isToldSo_4 5 rfl rfl)
theorem dX13_isToldSo_111 : decode cX13_isToldSo 111 = .ok (.aload_n 0, 1) := dk_42 (dk_at dksX13_isToldSo_4 8 rfl rfl)
theorem dX13_isToldSo_112 : decode cX13_isToldSo 112 = .ok (.bipush 8, 2) := dk_16 8 (dk_at dksX13_isToldSo_4 9 rfl rfl)
theorem dX13_isToldSo_114 : decode cX13_isToldSo 114 = .ok (.iload_n 2, 1) := dk_28 (dk_at dksX13_isToldSo_4 11 rfl rfl)
theorem dX13_isToldSo_115 : decode cX13_isToldSo 115 = .ok (.invokevirtual 105, 3) := dk_182 0 105 (dk_at dksX13_isToldSo_4 12 rfl rfl)
theorem dX13_isToldSo_118 : decode cX13_isToldSo 118 = .ok (.ireturn, 1) := dk_172 (dk_at dksX13_isToldSo_4 15 rfl rfl)
theorem dX13_isToldSo_119 : decode cX13_isToldSo 119 = .ok (.aload_n 0, 1) := dk_42 (dk_at dksX13_isToldSo_4 16 rfl rfl)
theorem dX13_isToldSo_120 : decode cX13_isToldSo 120 = .ok (.bipush 20, 2) := dk_16 20 (dk_at dksX13_isToldSo_4 17 rfl rfl)
theorem dX13_isToldSo_122 : decode cX13_isToldSo 122 = .ok (.iload_n 2, 1) := dk_28 (dk_at dksX13_isToldSo_4 19 rfl rfl)
theorem dX13_isToldSo_123 : decode cX13_isToldSo 123 = .ok (.iadd, 1) := dk_96 (dk_at dksX13_isToldSo_4 20 rfl rfl)
theorem dX13_isToldSo_124 : decode cX13_isToldSo 124 = .ok (.iload_n 3, 1) := dk_29 (dk_at dksX13_isToldSo_4 21 rfl rfl)
theorem dX13_isToldSo_125 : decode cX13_isToldSo 125 = .ok (.invokevirtual 105, 3) := dk_182 0 105 (dk_at dksX13_isToldSo_5 0 rfl rfl)
theorem dX13_isToldSo_128 : decode cX13_isToldSo 128 = .ok (.ireturn, 1) := dk_172 (dk_at dksX13_isToldSo_5 3 rfl rfl)
theorem dX13_isToldSo_129 : decode cX13_isToldSo 129 = .ok (.aload_n 0, 1) := dk_42 (dk_at dksX13_isToldSo_5 4 rfl rfl)
theorem dX13_isToldSo_130 : decode cX13_isToldSo 130 = .ok (.bipush 56, 2) := dk_16 56 (dk_at dksX13_isToldSo_5 5 rfl rfl)
theorem dX13_isToldSo_132 : decode cX13_isToldSo 132 = .ok (.iload_n 2, 1) := dk_28 (dk_at dksX13_isToldSo_5 7 rfl rfl)
theorem dX13_isToldSo_133 : decode cX13_isToldSo 133 = .ok (.iadd, 1) := dk_96 (dk_at dksX13_isToldSo_5 8 rfl rfl)
theorem dX13_isToldSo_134 : decode cX13_isToldSo 134 = .ok (.iload_n 3, 1) := dk_29 (dk_at dksX13_isToldSo_5 9 rfl rfl)
theorem dX13_isToldSo_135 : decode cX13_isToldSo 135 = .ok (.invokevirtual 105, 3) := dk_182 0 105 (dk_at dksX13_isToldSo_5 10 rfl rfl)
theorem dX13_isToldSo_138 : decode cX13_isToldSo 138 = .ok (.ireturn, 1) := dk_172 (dk_at dksX13_isToldSo_5 13 rfl rfl)
theorem dX13_isToldSo_139 : decode cX13_isToldSo 139 = .ok (.aload_n 0, 1) := dk_42 (dk_at dksX13_isToldSo_5 14 rfl rfl)
theorem dX13_isToldSo_140 : decode cX13_isToldSo 140 = .ok (.aload_n 0, 1) := dk_42 (dk_at dksX13_isToldSo_5 15 rfl rfl)
theorem dX13_isToldSo_141 : decode cX13_isToldSo 141 = .ok (.getfield 59, 3) := dk_180 0 59 (dk_at dksX13_isToldSo_5 16 rfl rfl)
theorem dX13_isToldSo_144 : decode cX13_isToldSo 144 = .ok (.iload_n 1, 1) := dk_27 (dk_at dksX13_isToldSo_5 19 rfl rfl)
theorem dX13_isToldSo_145 : decode cX13_isToldSo 145 = .ok (.iaload, 1) := dk_46 (dk_at dksX13_isToldSo_5 20 rfl rfl)
theorem dX13_isToldSo_146 : decode cX13_isToldSo 146 = .ok (.iload_n 2, 1) := dk_28 (dk_at dksX13_isToldSo_5 21 rfl rfl)
theorem dX13_isToldSo_147 : decode cX13_isToldSo 147 = .ok (.iload_n 3, 1) := dk_29 (dk_at dksX13_isToldSo_5 22 rfl rfl)
theorem dX13_isToldSo_148 : decode cX13_isToldSo 148 = .ok (.invokevirtual 156, 3) := dk_182 0 156 (dk_at dksX13_isToldSo_6 0 rfl rfl)
theorem dX13_isToldSo_151 : decode cX13_isToldSo 151 = .ok (.ireturn, 1) := dk_172 (dk_at dksX13_isToldSo_6 3 rfl rfl)
abbrev cX13_tellsTo : ByteArray := prog_16_method_103_code
def yX13_tellsTo : MethodName := ⟨RX13, "tellsTo", "(II)V"⟩
def dkwX13_tellsTo_0 : List UInt8 := [42, 180, 0, 9, 27, 28, 156, 0, 12, 42, 180, 0, 9, 27, 46, 167, 0, 4, 28, 79, 177]
abbrev dktX13_tellsTo_0 : List UInt8 := dkwX13_tellsTo_0 ++ []
theorem dksX13_tellsTo_0 : cX13_tellsTo.data.toList.drop 0 = dktX13_tellsTo_0 := by decide +kernel
theorem dX13_tellsTo_0 : decode cX13_tellsTo 0 = .ok (.aload_n 0, 1) := dk_42 (dk_at dksX13_tellsTo_0 0 rfl rfl)
theorem dX13_tellsTo_1 : decode cX13_tellsTo 1 = .ok (.getfield 9, 3) := dk_180 0 9 (dk_at dksX13_tellsTo_0 1 rfl rfl)
theorem dX13_tellsTo_4 : decode cX13_tellsTo 4 = .ok (.iload_n 1, 1) := dk_27 (dk_at dksX13_tellsTo_0 4 rfl rfl)
theorem dX13_tellsTo_5 : decode cX13_tellsTo 5 = .ok (.iload_n 2, 1) := dk_28 (dk_at dksX13_tellsTo_0 5 rfl rfl)
theorem dX13_tellsTo_6 : decode cX13_tellsTo 6 = .ok (.ifCond .ge 12, 3) := dk_156 0 12 (dk_at dksX13_tellsTo_0 6 rfl rfl)
theorem dX13_tellsTo_9 : decode cX13_tellsTo 9 = .ok (.aload_n 0, 1) := dk_42 (dk_at dksX13_tellsTo_0 9 rfl rfl)
theorem dX13_tellsTo_10 : decode cX13_tellsTo 10 = .ok (.getfield 9, 3) := dk_180 0 9 (dk_at dksX13_tellsTo_0 10 rfl rfl)
theorem dX13_tellsTo_13 : decode cX13_tellsTo 13 = .ok (.iload_n 1, 1) := dk_27 (dk_at dksX13_tellsTo_0 13 rfl rfl)
theorem dX13_tellsTo_14 : decode cX13_tellsTo 14 = .ok (.iaload, 1) := dk_46 (dk_at dksX13_tellsTo_0 14 rfl rfl)
theorem dX13_tellsTo_15 : decode cX13_tellsTo 15 = .ok (.goto 4, 3) := dk_167 0 4 (dk_at dksX13_tellsTo_0 15 rfl rfl)
theorem dX13_tellsTo_18 : decode cX13_tellsTo 18 = .ok (.iload_n 2, 1) := dk_28 (dk_at dksX13_tellsTo_0 18 rfl rfl)
theorem dX13_tellsTo_19 : decode cX13_tellsTo 19 = .ok (.iastore, 1) := dk_79 (dk_at dksX13_tellsTo_0 19 rfl rfl)
theorem dX13_tellsTo_20 : decode cX13_tellsTo 20 = .ok (.return_, 1) := dk_177 (dk_at dksX13_tellsTo_0 20 rfl rfl)
abbrev cX13_hold : ByteArray := prog_16_method_107_code
def yX13_hold : MethodName := ⟨RX13, "hold", "(II)I"⟩
def dkwX13_hold_1 : List UInt8 := [182, 0, 80, 172, 42, 180, 0, 9, 16, 10, 27, 96, 28, 79, 4, 172]
abbrev dktX13_hold_1 : List UInt8 := dkwX13_hold_1 ++ []
def dkwX13_hold_0 : List UInt8 := [27, 184, 1, 114, 153, 0, 16, 28, 2, 159, 0, 18, 42, 28, 182, 0, 179, 154, 0, 10, 42, 18, 74]
abbrev dktX13_hold_0 : List UInt8 := dkwX13_hold_0 ++ dktX13_hold_1
theorem dksX13_hold_0 : cX13_hold.data.toList.drop 0 = dktX13_hold_0 := by decide +kernel
theorem dksX13_hold_1 : cX13_hold.data.toList.drop 23 = dktX13_hold_1 := dk_seg dksX13_hold_0 23 rfl rfl
theorem dX13_hold_0 : decode cX13_hold 0 = .ok (.iload_n 1, 1) := dk_27 (dk_at dksX13_hold_0 0 rfl rfl)
theorem dX13_hold_1 : decode cX13_hold 1 = .ok (.invokestatic 370, 3) := dk_184 1 114 (dk_at dksX13_hold_0 1 rfl rfl)
theorem dX13_hold_4 : decode cX13_hold 4 = .ok (.ifCond .eq 16, 3) := dk_153 0 16 (dk_at dksX13_hold_0 4 rfl rfl)
theorem dX13_hold_7 : decode cX13_hold 7 = .ok (.iload_n 2, 1) := dk_28 (dk_at dksX13_hold_0 7 rfl rfl)
theorem dX13_hold_8 : decode cX13_hold 8 = .ok (.iconst (-1), 1) := dk_2 (dk_at dksX13_hold_0 8 rfl rfl)
theorem dX13_hold_9 : decode cX13_hold 9 = .ok (.if_icmp .eq 18, 3) := dk_159 0 18 (dk_at dksX13_hold_0 9 rfl rfl)
theorem dX13_hold_12 : decode cX13_hold 12 = .ok (.aload_n 0, 1) := dk_42 (dk_at dksX13_hold_0 12 rfl rfl)
theorem dX13_hold_13 : decode cX13_hold 13 = .ok (.iload_n 2, 1) := dk_28 (dk_at dksX13_hold_0 13 rfl rfl)
theorem dX13_hold_14 : decode cX13_hold 14 = .ok (.invokevirtual 179, 3) := dk_182 0 179 (dk_at dksX13_hold_0 14 rfl rfl)
theorem dX13_hold_17 : decode cX13_hold 17 = .ok (.ifCond .ne 10, 3) := dk_154 0 10 (dk_at dksX13_hold_0 17 rfl rfl)
theorem dX13_hold_20 : decode cX13_hold 20 = .ok (.aload_n 0, 1) := dk_42 (dk_at dksX13_hold_0 20 rfl rfl)
theorem dX13_hold_21 : decode cX13_hold 21 = .ok (.ldc 74, 2) := dk_18 74 (dk_at dksX13_hold_0 21 rfl rfl)
theorem dX13_hold_23 : decode cX13_hold 23 = .ok (.invokevirtual 80, 3) := dk_182 0 80 (dk_at dksX13_hold_1 0 rfl rfl)
theorem dX13_hold_26 : decode cX13_hold 26 = .ok (.ireturn, 1) := dk_172 (dk_at dksX13_hold_1 3 rfl rfl)
theorem dX13_hold_27 : decode cX13_hold 27 = .ok (.aload_n 0, 1) := dk_42 (dk_at dksX13_hold_1 4 rfl rfl)
theorem dX13_hold_28 : decode cX13_hold 28 = .ok (.getfield 9, 3) := dk_180 0 9 (dk_at dksX13_hold_1 5 rfl rfl)
theorem dX13_hold_31 : decode cX13_hold 31 = .ok (.bipush 10, 2) := dk_16 10 (dk_at dksX13_hold_1 8 rfl rfl)
theorem dX13_hold_33 : decode cX13_hold 33 = .ok (.iload_n 1, 1) := dk_27 (dk_at dksX13_hold_1 10 rfl rfl)
theorem dX13_hold_34 : decode cX13_hold 34 = .ok (.iadd, 1) := dk_96 (dk_at dksX13_hold_1 11 rfl rfl)
theorem dX13_hold_35 : decode cX13_hold 35 = .ok (.iload_n 2, 1) := dk_28 (dk_at dksX13_hold_1 12 rfl rfl)
theorem dX13_hold_36 : decode cX13_hold 36 = .ok (.iastore, 1) := dk_79 (dk_at dksX13_hold_1 13 rfl rfl)
theorem dX13_hold_37 : decode cX13_hold 37 = .ok (.iconst 1, 1) := dk_4 (dk_at dksX13_hold_1 14 rfl rfl)
theorem dX13_hold_38 : decode cX13_hold 38 = .ok (.ireturn, 1) := dk_172 (dk_at dksX13_hold_1 15 rfl rfl)
abbrev cX13_isSpot : ByteArray := prog_16_method_106_code
def yX13_isSpot : MethodName := ⟨RX13, "isSpot", "(I)Z"⟩
def dkwX13_isSpot_0 : List UInt8 := [26, 3, 16, 9, 184, 0, 84, 172]
abbrev dktX13_isSpot_0 : List UInt8 := dkwX13_isSpot_0 ++ []
theorem dksX13_isSpot_0 : cX13_isSpot.data.toList.drop 0 = dktX13_isSpot_0 := by decide +kernel
theorem dX13_isSpot_0 : decode cX13_isSpot 0 = .ok (.iload_n 0, 1) := dk_26 (dk_at dksX13_isSpot_0 0 rfl rfl)
theorem dX13_isSpot_1 : decode cX13_isSpot 1 = .ok (.iconst 0, 1) := dk_3 (dk_at dksX13_isSpot_0 1 rfl rfl)
theorem dX13_isSpot_2 : decode cX13_isSpot 2 = .ok (.bipush 9, 2) := dk_16 9 (dk_at dksX13_isSpot_0 2 rfl rfl)
theorem dX13_isSpot_4 : decode cX13_isSpot 4 = .ok (.invokestatic 84, 3) := dk_184 0 84 (dk_at dksX13_isSpot_0 4 rfl rfl)
theorem dX13_isSpot_7 : decode cX13_isSpot 7 = .ok (.ireturn, 1) := dk_172 (dk_at dksX13_isSpot_0 7 rfl rfl)
abbrev cX13_as : ByteArray := prog_16_method_108_code
def yX13_as : MethodName := ⟨RX13, "as", "(II)I"⟩
def dkwX13_as_2 : List UInt8 := [182, 0, 160, 28, 184, 1, 117, 153, 0, 7, 29, 167, 0, 10, 42, 19, 1, 120, 182, 0, 80, 172]
abbrev dktX13_as_2 : List UInt8 := dkwX13_as_2 ++ []
def dkwX13_as_1 : List UInt8 := [180, 0, 9, 16, 10, 27, 96, 46, 62, 29, 156, 0, 10, 42, 18, 255, 182, 0, 80, 172, 42, 29, 3]
abbrev dktX13_as_1 : List UInt8 := dkwX13_as_1 ++ dktX13_as_2
def dkwX13_as_0 : List UInt8 := [27, 184, 1, 114, 153, 0, 10, 28, 184, 0, 152, 154, 0, 10, 42, 18, 74, 182, 0, 80, 172, 42]
abbrev dktX13_as_0 : List UInt8 := dkwX13_as_0 ++ dktX13_as_1
theorem dksX13_as_0 : cX13_as.data.toList.drop 0 = dktX13_as_0 := by decide +kernel
theorem dksX13_as_1 : cX13_as.data.toList.drop 22 = dktX13_as_1 := dk_seg dksX13_as_0 22 rfl rfl
theorem dksX13_as_2 : cX13_as.data.toList.drop 45 = dktX13_as_2 := dk_seg dksX13_as_1 23 rfl rfl
theorem dX13_as_0 : decode cX13_as 0 = .ok (.iload_n 1, 1) := dk_27 (dk_at dksX13_as_0 0 rfl rfl)
theorem dX13_as_1 : decode cX13_as 1 = .ok (.invokestatic 370, 3) := dk_184 1 114 (dk_at dksX13_as_0 1 rfl rfl)
theorem dX13_as_4 : decode cX13_as 4 = .ok (.ifCond .eq 10, 3) := dk_153 0 10 (dk_at dksX13_as_0 4 rfl rfl)
theorem dX13_as_7 : decode cX13_as 7 = .ok (.iload_n 2, 1) := dk_28 (dk_at dksX13_as_0 7 rfl rfl)
theorem dX13_as_8 : decode cX13_as 8 = .ok (.invokestatic 152, 3) := dk_184 0 152 (dk_at dksX13_as_0 8 rfl rfl)
theorem dX13_as_11 : decode cX13_as 11 = .ok (.ifCond .ne 10, 3) := dk_154 0 10 (dk_at dksX13_as_0 11 rfl rfl)
theorem dX13_as_14 : decode cX13_as 14 = .ok (.aload_n 0, 1) := dk_42 (dk_at dksX13_as_0 14 rfl rfl)
theorem dX13_as_15 : decode cX13_as 15 = .ok (.ldc 74, 2) := dk_18 74 (dk_at dksX13_as_0 15 rfl rfl)
theorem dX13_as_17 : decode cX13_as 17 = .ok (.invokevirtual 80, 3) := dk_182 0 80 (dk_at dksX13_as_0 17 rfl rfl)
theorem dX13_as_20 : decode cX13_as 20 = .ok (.ireturn, 1) := dk_172 (dk_at dksX13_as_0 20 rfl rfl)
theorem dX13_as_21 : decode cX13_as 21 = .ok (.aload_n 0, 1) := dk_42 (dk_at dksX13_as_0 21 rfl rfl)
theorem dX13_as_22 : decode cX13_as 22 = .ok (.getfield 9, 3) := dk_180 0 9 (dk_at dksX13_as_1 0 rfl rfl)
theorem dX13_as_25 : decode cX13_as 25 = .ok (.bipush 10, 2) := dk_16 10 (dk_at dksX13_as_1 3 rfl rfl)
theorem dX13_as_27 : decode cX13_as 27 = .ok (.iload_n 1, 1) := dk_27 (dk_at dksX13_as_1 5 rfl rfl)
theorem dX13_as_28 : decode cX13_as 28 = .ok (.iadd, 1) := dk_96 (dk_at dksX13_as_1 6 rfl rfl)
theorem dX13_as_29 : decode cX13_as 29 = .ok (.iaload, 1) := dk_46 (dk_at dksX13_as_1 7 rfl rfl)
theorem dX13_as_30 : decode cX13_as 30 = .ok (.istore_n 3, 1) := dk_62 (dk_at dksX13_as_1 8 rfl rfl)
theorem dX13_as_31 : decode cX13_as 31 = .ok (.iload_n 3, 1) := dk_29 (dk_at dksX13_as_1 9 rfl rfl)
theorem dX13_as_32 : decode cX13_as 32 = .ok (.ifCond .ge 10, 3) := dk_156 0 10 (dk_at dksX13_as_1 10 rfl rfl)
theorem dX13_as_35 : decode cX13_as 35 = .ok (.aload_n 0, 1) := dk_42 (dk_at dksX13_as_1 13 rfl rfl)
theorem dX13_as_36 : decode cX13_as 36 = .ok (.ldc 255, 2) := dk_18 255 (dk_at dksX13_as_1 14 rfl rfl)
theorem dX13_as_38 : decode cX13_as 38 = .ok (.invokevirtual 80, 3) := dk_182 0 80 (dk_at dksX13_as_1 16 rfl rfl)
theorem dX13_as_41 : decode cX13_as 41 = .ok (.ireturn, 1) := dk_172 (dk_at dksX13_as_1 19 rfl rfl)
theorem dX13_as_42 : decode cX13_as 42 = .ok (.aload_n 0, 1) := dk_42 (dk_at dksX13_as_1 20 rfl rfl)
theorem dX13_as_43 : decode cX13_as 43 = .ok (.iload_n 3, 1) := dk_29 (dk_at dksX13_as_1 21 rfl rfl)
theorem dX13_as_44 : decode cX13_as 44 = .ok (.iconst 0, 1) := dk_3 (dk_at dksX13_as_1 22 rfl rfl)
theorem dX13_as_45 : decode cX13_as 45 = .ok (.invokevirtual 160, 3) := dk_182 0 160 (dk_at dksX13_as_2 0 rfl rfl)
theorem dX13_as_48 : decode cX13_as 48 = .ok (.iload_n 2, 1) := dk_28 (dk_at dksX13_as_2 3 rfl rfl)
theorem dX13_as_49 : decode cX13_as 49 = .ok (.invokestatic 373, 3) := dk_184 1 117 (dk_at dksX13_as_2 4 rfl rfl)
theorem dX13_as_52 : decode cX13_as 52 = .ok (.ifCond .eq 7, 3) := dk_153 0 7 (dk_at dksX13_as_2 7 rfl rfl)
theorem dX13_as_55 : decode cX13_as 55 = .ok (.iload_n 3, 1) := dk_29 (dk_at dksX13_as_2 10 rfl rfl)
theorem dX13_as_56 : decode cX13_as 56 = .ok (.goto 10, 3) := dk_167 0 10 (dk_at dksX13_as_2 11 rfl rfl)
theorem dX13_as_59 : decode cX13_as 59 = .ok (.aload_n 0, 1) := dk_42 (dk_at dksX13_as_2 14 rfl rfl)
theorem dX13_as_60 : decode cX13_as 60 = .ok (.ldc_w 376, 3) := dk_19 1 120 (dk_at dksX13_as_2 15 rfl rfl)
theorem dX13_as_63 : decode cX13_as 63 = .ok (.invokevirtual 80, 3) := dk_182 0 80 (dk_at dksX13_as_2 18 rfl rfl)
theorem dX13_as_66 : decode cX13_as 66 = .ok (.ireturn, 1) := dk_172 (dk_at dksX13_as_2 21 rfl rfl)
abbrev cX13_isUnder : ByteArray := prog_16_method_115_code
def yX13_isUnder : MethodName := ⟨RX13, "isUnder", "(II)Z"⟩
def dkwX13_isUnder_1 : List UInt8 := [167, 0, 4, 3, 172]
abbrev dktX13_isUnder_1 : List UInt8 := dkwX13_isUnder_1 ++ []
def dkwX13_isUnder_0 : List UInt8 := [26, 61, 28, 155, 0, 16, 28, 27, 159, 0, 11, 28, 184, 1, 125, 61, 167, 255, 242, 28, 155, 0, 7, 4]
abbrev dktX13_isUnder_0 : List UInt8 := dkwX13_isUnder_0 ++ dktX13_isUnder_1
theorem dksX13_isUnder_0 : cX13_isUnder.data.toList.drop 0 = dktX13_isUnder_0 := by decide +kernel
theorem dksX13_isUnder_1 : cX13_isUnder.data.toList.drop 24 = dktX13_isUnder_1 := dk_seg dksX13_isUnder_0 24 rfl rfl
theorem dX13_isUnder_0 : decode cX13_isUnder 0 = .ok (.iload_n 0, 1) := dk_26 (dk_at dksX13_isUnder_0 0 rfl rfl)
theorem dX13_isUnder_1 : decode cX13_isUnder 1 = .ok (.istore_n 2, 1) := dk_61 (dk_at dksX13_isUnder_0 1 rfl rfl)
theorem dX13_isUnder_2 : decode cX13_isUnder 2 = .ok (.iload_n 2, 1) := dk_28 (dk_at dksX13_isUnder_0 2 rfl rfl)
theorem dX13_isUnder_3 : decode cX13_isUnder 3 = .ok (.ifCond .lt 16, 3) := dk_155 0 16 (dk_at dksX13_isUnder_0 3 rfl rfl)
theorem dX13_isUnder_6 : decode cX13_isUnder 6 = .ok (.iload_n 2, 1) := dk_28 (dk_at dksX13_isUnder_0 6 rfl rfl)
theorem dX13_isUnder_7 : decode cX13_isUnder 7 = .ok (.iload_n 1, 1) := dk_27 (dk_at dksX13_isUnder_0 7 rfl rfl)
theorem dX13_isUnder_8 : decode cX13_isUnder 8 = .ok (.if_icmp .eq 11, 3) := dk_159 0 11 (dk_at dksX13_isUnder_0 8 rfl rfl)
theorem dX13_isUnder_11 : decode cX13_isUnder 11 = .ok (.iload_n 2, 1) := dk_28 (dk_at dksX13_isUnder_0 11 rfl rfl)
theorem dX13_isUnder_12 : decode cX13_isUnder 12 = .ok (.invokestatic 381, 3) := dk_184 1 125 (dk_at dksX13_isUnder_0 12 rfl rfl)
theorem dX13_isUnder_15 : decode cX13_isUnder 15 = .ok (.istore_n 2, 1) := dk_61 (dk_at dksX13_isUnder_0 15 rfl rfl)
theorem dX13_isUnder_16 : decode cX13_isUnder 16 = .ok (.goto (-14), 3) := dk_167 255 242 (dk_at dksX13_isUnder_0 16 rfl rfl)
theorem dX13_isUnder_19 : decode cX13_isUnder 19 = .ok (.iload_n 2, 1) := dk_28 (dk_at dksX13_isUnder_0 19 rfl rfl)
theorem dX13_isUnder_20 : decode cX13_isUnder 20 = .ok (.ifCond .lt 7, 3) := dk_155 0 7 (dk_at dksX13_isUnder_0 20 rfl rfl)
theorem dX13_isUnder_23 : decode cX13_isUnder 23 = .ok (.iconst 1, 1) := dk_4 (dk_at dksX13_isUnder_0 23 rfl rfl)
theorem dX13_isUnder_24 : decode cX13_isUnder 24 = .ok (.goto 4, 3) := dk_167 0 4 (dk_at dksX13_isUnder_1 0 rfl rfl)
theorem dX13_isUnder_27 : decode cX13_isUnder 27 = .ok (.iconst 0, 1) := dk_3 (dk_at dksX13_isUnder_1 3 rfl rfl)
theorem dX13_isUnder_28 : decode cX13_isUnder 28 = .ok (.ireturn, 1) := dk_172 (dk_at dksX13_isUnder_1 4 rfl rfl)
abbrev cX13_above : ByteArray := prog_16_method_114_code
def yX13_above : MethodName := ⟨RX13, "above", "(I)I"⟩
def dkwX13_above_1 : List UInt8 := [167, 0, 14, 26, 16, 6, 160, 0, 7, 4, 167, 0, 4, 3, 172]
abbrev dktX13_above_1 : List UInt8 := dkwX13_above_1 ++ []
def dkwX13_above_0 : List UInt8 := [26, 154, 0, 7, 2, 167, 0, 32, 26, 6, 160, 0, 7, 5, 167, 0, 23, 26, 7, 160, 0, 7, 6]
abbrev dktX13_above_0 : List UInt8 := dkwX13_above_0 ++ dktX13_above_1
theorem dksX13_above_0 : cX13_above.data.toList.drop 0 = dktX13_above_0 := by decide +kernel
theorem dksX13_above_1 : cX13_above.data.toList.drop 23 = dktX13_above_1 := dk_seg dksX13_above_0 23 rfl rfl
theorem dX13_above_0 : decode cX13_above 0 = .ok (.iload_n 0, 1) := dk_26 (dk_at dksX13_above_0 0 rfl rfl)
theorem dX13_above_1 : decode cX13_above 1 = .ok (.ifCond .ne 7, 3) := dk_154 0 7 (dk_at dksX13_above_0 1 rfl rfl)
theorem dX13_above_4 : decode cX13_above 4 = .ok (.iconst (-1), 1) := dk_2 (dk_at dksX13_above_0 4 rfl rfl)
theorem dX13_above_5 : decode cX13_above 5 = .ok (.goto 32, 3) := dk_167 0 32 (dk_at dksX13_above_0 5 rfl rfl)
theorem dX13_above_8 : decode cX13_above 8 = .ok (.iload_n 0, 1) := dk_26 (dk_at dksX13_above_0 8 rfl rfl)
theorem dX13_above_9 : decode cX13_above 9 = .ok (.iconst 3, 1) := dk_6 (dk_at dksX13_above_0 9 rfl rfl)
theorem dX13_above_10 : decode cX13_above 10 = .ok (.if_icmp .ne 7, 3) := dk_160 0 7 (dk_at dksX13_above_0 10 rfl rfl)
theorem dX13_above_13 : decode cX13_above 13 = .ok (.iconst 2, 1) := dk_5 (dk_at dksX13_above_0 13 rfl rfl)
theorem dX13_above_14 : decode cX13_above 14 = .ok (.goto 23, 3) := dk_167 0 23 (dk_at dksX13_above_0 14 rfl rfl)
theorem dX13_above_17 : decode cX13_above 17 = .ok (.iload_n 0, 1) := dk_26 (dk_at dksX13_above_0 17 rfl rfl)
theorem dX13_above_18 : decode cX13_above 18 = .ok (.iconst 4, 1) := dk_7 (dk_at dksX13_above_0 18 rfl rfl)
theorem dX13_above_19 : decode cX13_above 19 = .ok (.if_icmp .ne 7, 3) := dk_160 0 7 (dk_at dksX13_above_0 19 rfl rfl)
theorem dX13_above_22 : decode cX13_above 22 = .ok (.iconst 3, 1) := dk_6 (dk_at dksX13_above_0 22 rfl rfl)
theorem dX13_above_23 : decode cX13_above 23 = .ok (.goto 14, 3) := dk_167 0 14 (dk_at dksX13_above_1 0 rfl rfl)
theorem dX13_above_26 : decode cX13_above 26 = .ok (.iload_n 0, 1) := dk_26 (dk_at dksX13_above_1 3 rfl rfl)
theorem dX13_above_27 : decode cX13_above 27 = .ok (.bipush 6, 2) := dk_16 6 (dk_at dksX13_above_1 4 rfl rfl)
theorem dX13_above_29 : decode cX13_above 29 = .ok (.if_icmp .ne 7, 3) := dk_160 0 7 (dk_at dksX13_above_1 6 rfl rfl)
theorem dX13_above_32 : decode cX13_above 32 = .ok (.iconst 1, 1) := dk_4 (dk_at dksX13_above_1 9 rfl rfl)
theorem dX13_above_33 : decode cX13_above 33 = .ok (.goto 4, 3) := dk_167 0 4 (dk_at dksX13_above_1 10 rfl rfl)
theorem dX13_above_36 : decode cX13_above 36 = .ok (.iconst 0, 1) := dk_3 (dk_at dksX13_above_1 13 rfl rfl)
theorem dX13_above_37 : decode cX13_above 37 = .ok (.ireturn, 1) := dk_172 (dk_at dksX13_above_1 14 rfl rfl)
abbrev cX13_sheet : ByteArray := prog_16_method_111_code
def yX13_sheet : MethodName := ⟨RX13, "sheet", "(III)I"⟩
def dkwX13_sheet_5 : List UInt8 := [172]
abbrev dktX13_sheet_5 : List UInt8 := dkwX13_sheet_5 ++ []
def dkwX13_sheet_4 : List UInt8 := [180, 0, 68, 16, 40, 27, 104, 21, 4, 96, 3, 79, 132, 4, 1, 167, 255, 233, 42, 180, 0, 65, 27, 46]
abbrev dktX13_sheet_4 : List UInt8 := dkwX13_sheet_4 ++ dktX13_sheet_5
def dkwX13_sheet_3 : List UInt8 := [27, 28, 154, 0, 7, 3, 167, 0, 4, 29, 79, 3, 54, 4, 21, 4, 16, 40, 162, 0, 22, 42]
abbrev dktX13_sheet_3 : List UInt8 := dkwX13_sheet_3 ++ dktX13_sheet_4
def dkwX13_sheet_2 : List UInt8 := [29, 16, 40, 164, 0, 10, 42, 18, 74, 182, 0, 80, 172, 42, 180, 0, 62, 27, 28, 79, 42, 180, 0, 65]
abbrev dktX13_sheet_2 : List UInt8 := dkwX13_sheet_2 ++ dktX13_sheet_3
def dkwX13_sheet_1 : List UInt8 := [16, 32, 159, 0, 10, 42, 18, 74, 182, 0, 80, 172, 29, 156, 0, 11, 42, 19, 1, 121, 182, 0, 80, 172]
abbrev dktX13_sheet_1 : List UInt8 := dkwX13_sheet_1 ++ dktX13_sheet_2
def dkwX13_sheet_0 : List UInt8 := [27, 184, 0, 252, 153, 0, 25, 28, 153, 0, 28, 28, 16, 8, 159, 0, 22, 28, 16, 16, 159, 0, 16, 28]
abbrev dktX13_sheet_0 : List UInt8 := dkwX13_sheet_0 ++ dktX13_sheet_1
theorem dksX13_sheet_0 : cX13_sheet.data.toList.drop 0 = dktX13_sheet_0 := by decide +kernel
theorem dksX13_sheet_1 : cX13_sheet.data.toList.drop 24 = dktX13_sheet_1 := dk_seg dksX13_sheet_0 24 rfl rfl
theorem dksX13_sheet_2 : cX13_sheet.data.toList.drop 48 = dktX13_sheet_2 := dk_seg dksX13_sheet_1 24 rfl rfl
theorem dksX13_sheet_3 : cX13_sheet.data.toList.drop 72 = dktX13_sheet_3 := dk_seg dksX13_sheet_2 24 rfl rfl
theorem dksX13_sheet_4 : cX13_sheet.data.toList.drop 94 = dktX13_sheet_4 := dk_seg dksX13_sheet_3 22 rfl rfl
theorem dksX13_sheet_5 : cX13_sheet.data.toList.drop 118 = dktX13_sheet_5 := dk_seg dksX13_sheet_4 24 rfl rfl
theorem dX13_sheet_0 : decode cX13_sheet 0 = .ok (.iload_n 1, 1) := dk_27 (dk_at dksX13_sheet_0 0 rfl rfl)
theorem dX13_sheet_1 : decode cX13_sheet 1 = .ok (.invokestatic 252, 3) := dk_184 0 252 (dk_at dksX13_sheet_0 1 rfl rfl)
theorem dX13_sheet_4 : decode cX13_sheet 4 = .ok (.ifCond .eq 25, 3) := dk_153 0 25 (dk_at dksX13_sheet_0 4 rfl rfl)
theorem dX13_sheet_7 : decode cX13_sheet 7 = .ok (.iload_n 2, 1) := dk_28 (dk_at dksX13_sheet_0 7 rfl rfl)
theorem dX13_sheet_8 : decode cX13_sheet 8 = .ok (.ifCond .eq 28, 3) := dk_153 0 28 (dk_at dksX13_sheet_0 8 rfl rfl)
theorem dX13_sheet_11 : decode cX13_sheet 11 = .ok (.iload_n 2, 1) := dk_28 (dk_at dksX13_sheet_0 11 rfl rfl)
theorem dX13_sheet_12 : decode cX13_sheet 12 = .ok (.bipush 8, 2) := dk_16 8 (dk_at dksX13_sheet_0 12 rfl rfl)
theorem dX13_sheet_14 : decode cX13_sheet 14 = .ok (.if_icmp .eq 22, 3) := dk_159 0 22 (dk_at dksX13_sheet_0 14 rfl rfl)
theorem dX13_sheet_17 : decode cX13_sheet 17 = .ok (.iload_n 2, 1) := dk_28 (dk_at dksX13_sheet_0 17 rfl rfl)
theorem dX13_sheet_18 : decode cX13_sheet 18 = .ok (.bipush 16, 2) := dk_16 16 (dk_at dksX13_sheet_0 18 rfl rfl)
theorem dX13_sheet_20 : decode cX13_sheet 20 = .ok (.if_icmp .eq 16, 3) := dk_159 0 16 (dk_at dksX13_sheet_0 20 rfl rfl)
theorem dX13_sheet_23 : decode cX13_sheet 23 = .ok (.iload_n 2, 1) := dk_28 (dk_at dksX13_sheet_0 23 rfl rfl)
theorem dX13_sheet_24 : decode cX13_sheet 24 = .ok (.bipush 32, 2) := dk_16 32 (dk_at dksX13_sheet_1 0 rfl rfl)
theorem dX13_sheet_26 : decode cX13_sheet 26 = .ok (.if_icmp .eq 10, 3) := dk_159 0 10 (dk_at dksX13_sheet_1 2 rfl rfl)
theorem dX13_sheet_29 : decode cX13_sheet 29 = .ok (.aload_n 0, 1) := dk_42 (dk_at dksX13_sheet_1 5 rfl rfl)
theorem dX13_sheet_30 : decode cX13_sheet 30 = .ok (.ldc 74, 2) := dk_18 74 (dk_at dksX13_sheet_1 6 rfl rfl)
theorem dX13_sheet_32 : decode cX13_sheet 32 = .ok (.invokevirtual 80, 3) := dk_182 0 80 (dk_at dksX13_sheet_1 8 rfl rfl)
theorem dX13_sheet_35 : decode cX13_sheet 35 = .ok (.ireturn, 1) := dk_172 (dk_at dksX13_sheet_1 11 rfl rfl)
theorem dX13_sheet_36 : decode cX13_sheet 36 = .ok (.iload_n 3, 1) := dk_29 (dk_at dksX13_sheet_1 12 rfl rfl)
theorem dX13_sheet_37 : decode cX13_sheet 37 = .ok (.ifCond .ge 11, 3) := dk_156 0 11 (dk_at dksX13_sheet_1 13 rfl rfl)
theorem dX13_sheet_40 : decode cX13_sheet 40 = .ok (.aload_n 0, 1) := dk_42 (dk_at dksX13_sheet_1 16 rfl rfl)
theorem dX13_sheet_41 : decode cX13_sheet 41 = .ok (.ldc_w 377, 3) := dk_19 1 121 (dk_at dksX13_sheet_1 17 rfl rfl)
theorem dX13_sheet_44 : decode cX13_sheet 44 = .ok (.invokevirtual 80, 3) := dk_182 0 80 (dk_at dksX13_sheet_1 20 rfl rfl)
theorem dX13_sheet_47 : decode cX13_sheet 47 = .ok (.ireturn, 1) := dk_172 (dk_at dksX13_sheet_1 23 rfl rfl)
theorem dX13_sheet_48 : decode cX13_sheet 48 = .ok (.iload_n 3, 1) := dk_29 (dk_at dksX13_sheet_2 0 rfl rfl)
theorem dX13_sheet_49 : decode cX13_sheet 49 = .ok (.bipush 40, 2) := dk_16 40 (dk_at dksX13_sheet_2 1 rfl rfl)
theorem dX13_sheet_51 : decode cX13_sheet 51 = .ok (.if_icmp .le 10, 3) := dk_164 0 10 (dk_at dksX13_sheet_2 3 rfl rfl)
theorem dX13_sheet_54 : decode cX13_sheet 54 = .ok (.aload_n 0, 1) := dk_42 (dk_at dksX13_sheet_2 6 rfl rfl)
theorem dX13_sheet_55 : decode cX13_sheet 55 = .ok (.ldc 74, 2) := dk_18 74 (dk_at dksX13_sheet_2 7 rfl rfl)
theorem dX13_sheet_57 : decode cX13_sheet 57 = .ok (.invokevirtual 80, 3) := dk_182 0 80 (dk_at dksX13_sheet_2 9 rfl rfl)
theorem dX13_sheet_60 : decode cX13_sheet 60 = .ok (.ireturn, 1) := dk_172 (dk_at dksX13_sheet_2 12 rfl rfl)
theorem dX13_sheet_61 : decode cX13_sheet 61 = .ok (.aload_n 0, 1) := dk_42 (dk_at dksX13_sheet_2 13 rfl rfl)
theorem dX13_sheet_62 : decode cX13_sheet 62 = .ok (.getfield 62, 3) := dk_180 0 62 (dk_at dksX13_sheet_2 14 rfl rfl)
theorem dX13_sheet_65 : decode cX13_sheet 65 = .ok (.iload_n 1, 1) := dk_27 (dk_at dksX13_sheet_2 17 rfl rfl)
theorem dX13_sheet_66 : decode cX13_sheet 66 = .ok (.iload_n 2, 1) := dk_28 (dk_at dksX13_sheet_2 18 rfl rfl)
theorem dX13_sheet_67 : decode cX13_sheet 67 = .ok (.iastore, 1) := dk_79 (dk_at dksX13_sheet_2 19 rfl rfl)
theorem dX13_sheet_68 : decode cX13_sheet 68 = .ok (.aload_n 0, 1) := dk_42 (dk_at dksX13_sheet_2 20 rfl rfl)
theorem dX13_sheet_69 : decode cX13_sheet 69 = .ok (.getfield 65, 3) := dk_180 0 65 (dk_at dksX13_sheet_2 21 rfl rfl)
theorem dX13_sheet_72 : decode cX13_sheet 72 = .ok (.iload_n 1, 1) := dk_27 (dk_at dksX13_sheet_3 0 rfl rfl)
theorem dX13_sheet_73 : decode cX13_sheet 73 = .ok (.iload_n 2, 1) := dk_28 (dk_at dksX13_sheet_3 1 rfl rfl)
theorem dX13_sheet_74 : decode cX13_sheet 74 = .ok (.ifCond .ne 7, 3) := dk_154 0 7 (dk_at dksX13_sheet_3 2 rfl rfl)
theorem dX13_sheet_77 : decode cX13_sheet 77 = .ok (.iconst 0, 1) := dk_3 (dk_at dksX13_sheet_3 5 rfl rfl)
theorem dX13_sheet_78 : decode cX13_sheet 78 = .ok (.goto 4, 3) := dk_167 0 4 (dk_at dksX13_sheet_3 6 rfl rfl)
theorem dX13_sheet_81 : decode cX13_sheet 81 = .ok (.iload_n 3, 1) := dk_29 (dk_at dksX13_sheet_3 9 rfl rfl)
theorem dX13_sheet_82 : decode cX13_sheet 82 = .ok (.iastore, 1) := dk_79 (dk_at dksX13_sheet_3 10 rfl rfl)
theorem dX13_sheet_83 : decode cX13_sheet 83 = .ok (.iconst 0, 1) := dk_3 (dk_at dksX13_sheet_3 11 rfl rfl)
theorem dX13_sheet_84 : decode cX13_sheet 84 = .ok (.istore 4, 2) := dk_54 4 (dk_at dksX13_sheet_3 12 rfl rfl)
theorem dX13_sheet_86 : decode cX13_sheet 86 = .ok (.iload 4, 2) := dk_21 4 (dk_at dksX13_sheet_3 14 rfl rfl)
theorem dX13_sheet_88 : decode cX13_sheet 88 = .ok (.bipush 40, 2) := dk_16 40 (dk_at dksX13_sheet_3 16 rfl rfl)
theorem dX13_sheet_90 : decode cX13_sheet 90 = .ok (.if_icmp .ge 22, 3) := dk_162 0 22 (dk_at dksX13_sheet_3 18 rfl rfl)
theorem dX13_sheet_93 : decode cX13_sheet 93 = .ok (.aload_n 0, 1) := dk_42 (dk_at dksX13_sheet_3 21 rfl rfl)
theorem dX13_sheet_94 : decode cX13_sheet 94 = .ok (.getfield 68, 3) := dk_180 0 68 (dk_at dksX13_sheet_4 0 rfl rfl)
theorem dX13_sheet_97 : decode cX13_sheet 97 = .ok (.bipush 40, 2) := dk_16 40 (dk_at dksX13_sheet_4 3 rfl rfl)
theorem dX13_sheet_99 : decode cX13_sheet 99 = .ok (.iload_n 1, 1) := dk_27 (dk_at dksX13_sheet_4 5 rfl rfl)
theorem dX13_sheet_100 : decode cX13_sheet 100 = .ok (.imul, 1) := dk_104 (dk_at dksX13_sheet_4 6 rfl rfl)
theorem dX13_sheet_101 : decode cX13_sheet 101 = .ok (.iload 4, 2) := dk_21 4 (dk_at dksX13_sheet_4 7 rfl rfl)
theorem dX13_sheet_103 : decode cX13_sheet 103 = .ok (.iadd, 1) := dk_96 (dk_at dksX13_sheet_4 9 rfl rfl)
theorem dX13_sheet_104 : decode cX13_sheet 104 = .ok (.iconst 0, 1) := dk_3 (dk_at dksX13_sheet_4 10 rfl rfl)
theorem dX13_sheet_105 : decode cX13_sheet 105 = .ok (.iastore, 1) := dk_79 (dk_at dksX13_sheet_4 11 rfl rfl)
theorem dX13_sheet_106 : decode cX13_sheet 106 = .ok (.iinc 4 1, 3) := dk_132 4 1 (dk_at dksX13_sheet_4 12 rfl rfl)
theorem dX13_sheet_109 : decode cX13_sheet 109 = .ok (.goto (-23), 3) := dk_167 255 233 (dk_at dksX13_sheet_4 15 rfl rfl)
theorem dX13_sheet_112 : decode cX13_sheet 112 = .ok (.aload_n 0, 1) := dk_42 (dk_at dksX13_sheet_4 18 rfl rfl)
theorem dX13_sheet_113 : decode cX13_sheet 113 = .ok (.getfield 65, 3) := dk_180 0 65 (dk_at dksX13_sheet_4 19 rfl rfl)
theorem dX13_sheet_116 : decode cX13_sheet 116 = .ok (.iload_n 1, 1) := dk_27 (dk_at dksX13_sheet_4 22 rfl rfl)
theorem dX13_sheet_117 : decode cX13_sheet 117 = .ok (.iaload, 1) := dk_46 (dk_at dksX13_sheet_4 23 rfl rfl)
theorem dX13_sheet_118 : decode cX13_sheet 118 = .ok (.ireturn, 1) := dk_172 (dk_at dksX13_sheet_5 0 rfl rfl)
abbrev cX13_write : ByteArray := prog_16_method_112_code
def yX13_write : MethodName := ⟨RX13, "write", "(III)I"⟩
def dkwX13_write_3 : List UInt8 := [184, 1, 122, 79, 4, 172]
abbrev dktX13_write_3 : List UInt8 := dkwX13_write_3 ++ []
def dkwX13_write_2 : List UInt8 := [18, 74, 182, 0, 80, 172, 42, 180, 0, 68, 16, 40, 27, 104, 28, 96, 29, 42, 180, 0, 62, 27, 46]
abbrev dktX13_write_2 : List UInt8 := dkwX13_write_2 ++ dktX13_write_3
def dkwX13_write_1 : List UInt8 := [18, 255, 182, 0, 80, 172, 28, 3, 42, 180, 0, 65, 27, 46, 4, 100, 184, 0, 84, 154, 0, 10, 42]
abbrev dktX13_write_1 : List UInt8 := dkwX13_write_1 ++ dktX13_write_2
def dkwX13_write_0 : List UInt8 := [27, 184, 0, 252, 154, 0, 10, 42, 18, 74, 182, 0, 80, 172, 42, 180, 0, 62, 27, 46, 154, 0, 10, 42]
abbrev dktX13_write_0 : List UInt8 := dkwX13_write_0 ++ dktX13_write_1
theorem dksX13_write_0 : cX13_write.data.toList.drop 0 = dktX13_write_0 := by decide +kernel
theorem dksX13_write_1 : cX13_write.data.toList.drop 24 = dktX13_write_1 := dk_seg dksX13_write_0 24 rfl rfl
theorem dksX13_write_2 : cX13_write.data.toList.drop 47 = dktX13_write_2 := dk_seg dksX13_write_1 23 rfl rfl
theorem dksX13_write_3 : cX13_write.data.toList.drop 70 = dktX13_write_3 := dk_seg dksX13_write_2 23 rfl rfl
theorem dX13_write_0 : decode cX13_write 0 = .ok (.iload_n 1, 1) := dk_27 (dk_at dksX13_write_0 0 rfl rfl)
theorem dX13_write_1 : decode cX13_write 1 = .ok (.invokestatic 252, 3) := dk_184 0 252 (dk_at dksX13_write_0 1 rfl rfl)
theorem dX13_write_4 : decode cX13_write 4 = .ok (.ifCond .ne 10, 3) := dk_154 0 10 (dk_at dksX13_write_0 4 rfl rfl)
theorem dX13_write_7 : decode cX13_write 7 = .ok (.aload_n 0, 1) := dk_42 (dk_at dksX13_write_0 7 rfl rfl)
theorem dX13_write_8 : decode cX13_write 8 = .ok (.ldc 74, 2) := dk_18 74 (dk_at dksX13_write_0 8 rfl rfl)
theorem dX13_write_10 : decode cX13_write 10 = .ok (.invokevirtual 80, 3) := dk_182 0 80 (dk_at dksX13_write_0 10 rfl rfl)
theorem dX13_write_13 : decode cX13_write 13 = .ok (.ireturn, 1) := dk_172 (dk_at dksX13_write_0 13 rfl rfl)
theorem dX13_write_14 : decode cX13_write 14 = .ok (.aload_n 0, 1) := dk_42 (dk_at dksX13_write_0 14 rfl rfl)
theorem dX13_write_15 : decode cX13_write 15 = .ok (.getfield 62, 3) := dk_180 0 62 (dk_at dksX13_write_0 15 rfl rfl)
theorem dX13_write_18 : decode cX13_write 18 = .ok (.iload_n 1, 1) := dk_27 (dk_at dksX13_write_0 18 rfl rfl)
theorem dX13_write_19 : decode cX13_write 19 = .ok (.iaload, 1) := dk_46 (dk_at dksX13_write_0 19 rfl rfl)
theorem dX13_write_20 : decode cX13_write 20 = .ok (.ifCond .ne 10, 3) := dk_154 0 10 (dk_at dksX13_write_0 20 rfl rfl)
theorem dX13_write_23 : decode cX13_write 23 = .ok (.aload_n 0, 1) := dk_42 (dk_at dksX13_write_0 23 rfl rfl)
theorem dX13_write_24 : decode cX13_write 24 = .ok (.ldc 255, 2) := dk_18 255 (dk_at dksX13_write_1 0 rfl rfl)
theorem dX13_write_26 : decode cX13_write 26 = .ok (.invokevirtual 80, 3) := dk_182 0 80 (dk_at dksX13_write_1 2 rfl rfl)
theorem dX13_write_29 : decode cX13_write 29 = .ok (.ireturn, 1) := dk_172 (dk_at dksX13_write_1 5 rfl rfl)
theorem dX13_write_30 : decode cX13_write 30 = .ok (.iload_n 2, 1) := dk_28 (dk_at dksX13_write_1 6 rfl rfl)
theorem dX13_write_31 : decode cX13_write 31 = .ok (.iconst 0, 1) := dk_3 (dk_at dksX13_write_1 7 rfl rfl)
theorem dX13_write_32 : decode cX13_write 32 = .ok (.aload_n 0, 1) := dk_42 (dk_at dksX13_write_1 8 rfl rfl)
theorem dX13_write_33 : decode cX13_write 33 = .ok (.getfield 65, 3) := dk_180 0 65 (dk_at dksX13_write_1 9 rfl rfl)
theorem dX13_write_36 : decode cX13_write 36 = .ok (.iload_n 1, 1) := dk_27 (dk_at dksX13_write_1 12 rfl rfl)
theorem dX13_write_37 : decode cX13_write 37 = .ok (.iaload, 1) := dk_46 (dk_at dksX13_write_1 13 rfl rfl)
theorem dX13_write_38 : decode cX13_write 38 = .ok (.iconst 1, 1) := dk_4 (dk_at dksX13_write_1 14 rfl rfl)
theorem dX13_write_39 : decode cX13_write 39 = .ok (.isub, 1) := dk_100 (dk_at dksX13_write_1 15 rfl rfl)
theorem dX13_write_40 : decode cX13_write 40 = .ok (.invokestatic 84, 3) := dk_184 0 84 (dk_at dksX13_write_1 16 rfl rfl)
theorem dX13_write_43 : decode cX13_write 43 = .ok (.ifCond .ne 10, 3) := dk_154 0 10 (dk_at dksX13_write_1 19 rfl rfl)
theorem dX13_write_46 : decode cX13_write 46 = .ok (.aload_n 0, 1) := dk_42 (dk_at dksX13_write_1 22 rfl rfl)
theorem dX13_write_47 : decode cX13_write 47 = .ok (.ldc 74, 2) := dk_18 74 (dk_at dksX13_write_2 0 rfl rfl)
theorem dX13_write_49 : decode cX13_write 49 = .ok (.invokevirtual 80, 3) := dk_182 0 80 (dk_at dksX13_write_2 2 rfl rfl)
theorem dX13_write_52 : decode cX13_write 52 = .ok (.ireturn, 1) := dk_172 (dk_at dksX13_write_2 5 rfl rfl)
theorem dX13_write_53 : decode cX13_write 53 = .ok (.aload_n 0, 1) := dk_42 (dk_at dksX13_write_2 6 rfl rfl)
theorem dX13_write_54 : decode cX13_write 54 = .ok (.getfield 68, 3) := dk_180 0 68 (dk_at dksX13_write_2 7 rfl rfl)
theorem dX13_write_57 : decode cX13_write 57 = .ok (.bipush 40, 2) := dk_16 40 (dk_at dksX13_write_2 10 rfl rfl)
theorem dX13_write_59 : decode cX13_write 59 = .ok (.iload_n 1, 1) := dk_27 (dk_at dksX13_write_2 12 rfl rfl)
theorem dX13_write_60 : decode cX13_write 60 = .ok (.imul, 1) := dk_104 (dk_at dksX13_write_2 13 rfl rfl)
theorem dX13_write_61 : decode cX13_write 61 = .ok (.iload_n 2, 1) := dk_28 (dk_at dksX13_write_2 14 rfl rfl)
theorem dX13_write_62 : decode cX13_write 62 = .ok (.iadd, 1) := dk_96 (dk_at dksX13_write_2 15 rfl rfl)
theorem dX13_write_63 : decode cX13_write 63 = .ok (.iload_n 3, 1) := dk_29 (dk_at dksX13_write_2 16 rfl rfl)
theorem dX13_write_64 : decode cX13_write 64 = .ok (.aload_n 0, 1) := dk_42 (dk_at dksX13_write_2 17 rfl rfl)
theorem dX13_write_65 : decode cX13_write 65 = .ok (.getfield 62, 3) := dk_180 0 62 (dk_at dksX13_write_2 18 rfl rfl)
theorem dX13_write_68 : decode cX13_write 68 = .ok (.iload_n 1, 1) := dk_27 (dk_at dksX13_write_2 21 rfl rfl)
theorem dX13_write_69 : decode cX13_write 69 = .ok (.iaload, 1) := dk_46 (dk_at dksX13_write_2 22 rfl rfl)
theorem dX13_write_70 : decode cX13_write 70 = .ok (.invokestatic 378, 3) := dk_184 1 122 (dk_at dksX13_write_3 0 rfl rfl)
theorem dX13_write_73 : decode cX13_write 73 = .ok (.iastore, 1) := dk_79 (dk_at dksX13_write_3 3 rfl rfl)
theorem dX13_write_74 : decode cX13_write 74 = .ok (.iconst 1, 1) := dk_4 (dk_at dksX13_write_3 4 rfl rfl)
theorem dX13_write_75 : decode cX13_write 75 = .ok (.ireturn, 1) := dk_172 (dk_at dksX13_write_3 5 rfl rfl)
abbrev cX13_cutTo : ByteArray := prog_16_method_110_code
def yX13_cutTo : MethodName := ⟨RX13, "cutTo", "(II)I"⟩
def dkwX13_cutTo_0 : List UInt8 := [27, 16, 8, 160, 0, 8, 26, 145, 167, 0, 15, 27, 16, 16, 160, 0, 8, 26, 147, 167, 0, 4, 26, 172]
abbrev dktX13_cutTo_0 : List UInt8 := dkwX13_cutTo_0 ++ []
theorem dksX13_cutTo_0 : cX13_cutTo.data.toList.drop 0 = dktX13_cutTo_0 := by decide +kernel
theorem dX13_cutTo_0 : decode cX13_cutTo 0 = .ok (.iload_n 1, 1) := dk_27 (dk_at dksX13_cutTo_0 0 rfl rfl)
theorem dX13_cutTo_1 : decode cX13_cutTo 1 = .ok (.bipush 8, 2) := dk_16 8 (dk_at dksX13_cutTo_0 1 rfl rfl)
theorem dX13_cutTo_3 : decode cX13_cutTo 3 = .ok (.if_icmp .ne 8, 3) := dk_160 0 8 (dk_at dksX13_cutTo_0 3 rfl rfl)
theorem dX13_cutTo_6 : decode cX13_cutTo 6 = .ok (.iload_n 0, 1) := dk_26 (dk_at dksX13_cutTo_0 6 rfl rfl)
theorem dX13_cutTo_7 : decode cX13_cutTo 7 = .ok (.i2b, 1) := dk_145 (dk_at dksX13_cutTo_0 7 rfl rfl)
theorem dX13_cutTo_8 : decode cX13_cutTo 8 = .ok (.goto 15, 3) := dk_167 0 15 (dk_at dksX13_cutTo_0 8 rfl rfl)
theorem dX13_cutTo_11 : decode cX13_cutTo 11 = .ok (.iload_n 1, 1) := dk_27 (dk_at dksX13_cutTo_0 11 rfl rfl)
theorem dX13_cutTo_12 : decode cX13_cutTo 12 = .ok (.bipush 16, 2) := dk_16 16 (dk_at dksX13_cutTo_0 12 rfl rfl)
theorem dX13_cutTo_14 : decode cX13_cutTo 14 = .ok (.if_icmp .ne 8, 3) := dk_160 0 8 (dk_at dksX13_cutTo_0 14 rfl rfl)
theorem dX13_cutTo_17 : decode cX13_cutTo 17 = .ok (.iload_n 0, 1) := dk_26 (dk_at dksX13_cutTo_0 17 rfl rfl)
theorem dX13_cutTo_18 : decode cX13_cutTo 18 = .ok (.i2s, 1) := dk_147 (dk_at dksX13_cutTo_0 18 rfl rfl)
theorem dX13_cutTo_19 : decode cX13_cutTo 19 = .ok (.goto 4, 3) := dk_167 0 4 (dk_at dksX13_cutTo_0 19 rfl rfl)
theorem dX13_cutTo_22 : decode cX13_cutTo 22 = .ok (.iload_n 0, 1) := dk_26 (dk_at dksX13_cutTo_0 22 rfl rfl)
theorem dX13_cutTo_23 : decode cX13_cutTo 23 = .ok (.ireturn, 1) := dk_172 (dk_at dksX13_cutTo_0 23 rfl rfl)
abbrev cX13_copy : ByteArray := prog_16_method_113_code
def yX13_copy : MethodName := ⟨RX13, "copy", "(IIIII)I"⟩
def dkwX13_copy_8 : List UInt8 := [180, 0, 71, 21, 6, 46, 79, 132, 6, 1, 167, 255, 224, 21, 5, 172]
abbrev dktX13_copy_8 : List UInt8 := dkwX13_copy_8 ++ []
def dkwX13_copy_7 : List UInt8 := [21, 6, 21, 5, 162, 0, 31, 42, 180, 0, 68, 16, 40, 29, 104, 21, 4, 96, 21, 6, 96, 42]
abbrev dktX13_copy_7 : List UInt8 := dkwX13_copy_7 ++ dktX13_copy_8
def dkwX13_copy_6 : List UInt8 := [180, 0, 68, 16, 40, 27, 104, 28, 96, 21, 6, 96, 46, 79, 132, 6, 1, 167, 255, 225, 3, 54, 6]
abbrev dktX13_copy_6 : List UInt8 := dkwX13_copy_6 ++ dktX13_copy_7
def dkwX13_copy_5 : List UInt8 := [42, 18, 74, 182, 0, 80, 172, 3, 54, 6, 21, 6, 21, 5, 162, 0, 30, 42, 180, 0, 71, 21, 6, 42]
abbrev dktX13_copy_5 : List UInt8 := dkwX13_copy_5 ++ dktX13_copy_6
def dkwX13_copy_4 : List UInt8 := [46, 133, 148, 157, 0, 21, 21, 4, 133, 21, 5, 133, 97, 42, 180, 0, 65, 29, 46, 133, 148, 158, 0, 10]
abbrev dktX13_copy_4 : List UInt8 := dkwX13_copy_4 ++ dktX13_copy_5
def dkwX13_copy_3 : List UInt8 := [155, 0, 48, 21, 4, 155, 0, 43, 21, 5, 155, 0, 38, 28, 133, 21, 5, 133, 97, 42, 180, 0, 65, 27]
abbrev dktX13_copy_3 : List UInt8 := dkwX13_copy_3 ++ dktX13_copy_4
def dkwX13_copy_2 : List UInt8 := [42, 180, 0, 62, 27, 46, 42, 180, 0, 62, 29, 46, 159, 0, 11, 42, 19, 1, 120, 182, 0, 80, 172, 28]
abbrev dktX13_copy_2 : List UInt8 := dkwX13_copy_2 ++ dktX13_copy_3
def dkwX13_copy_1 : List UInt8 := [180, 0, 62, 27, 46, 153, 0, 12, 42, 180, 0, 62, 29, 46, 154, 0, 10, 42, 18, 255, 182, 0, 80, 172]
abbrev dktX13_copy_1 : List UInt8 := dkwX13_copy_1 ++ dktX13_copy_2
def dkwX13_copy_0 : List UInt8 := [27, 184, 0, 252, 153, 0, 10, 29, 184, 0, 252, 154, 0, 10, 42, 18, 74, 182, 0, 80, 172, 42]
abbrev dktX13_copy_0 : List UInt8 := dkwX13_copy_0 ++ dktX13_copy_1
theorem dksX13_copy_0 : cX13_copy.data.toList.drop 0 = dktX13_copy_0 := by decide +kernel
theorem dksX13_copy_1 : cX13_copy.data.toList.drop 22 = dktX13_copy_1 := dk_seg dksX13_copy_0 22 rfl rfl
theorem dksX13_copy_2 : cX13_copy.data.toList.drop 46 = dktX13_copy_2 := dk_seg dksX13_copy_1 24 rfl rfl
theorem dksX13_copy_3 : cX13_copy.data.toList.drop 70 = dktX13_copy_3 := dk_seg dksX13_copy_2 24 rfl rfl
theorem dksX13_copy_4 : cX13_copy.data.toList.drop 94 = dktX13_copy_4 := dk_seg dksX13_copy_3 24 rfl rfl
theorem dksX13_copy_5 : cX13_copy.data.toList.drop 118 = dktX13_copy_5 := dk_seg dksX13_copy_4 24 rfl rfl
theorem dksX13_copy_6 : cX13_copy.data.toList.drop 142 = dktX13_copy_6 := dk_seg dksX13_copy_5 24 rfl rfl
theorem dksX13_copy_7 : cX13_copy.data.toList.drop 165 = dktX13_copy_7 := dk_seg dksX13_copy_6 23 rfl rfl
theorem dksX13_copy_8 : cX13_copy.data.toList.drop 187 = dktX13_copy_8 := dk_seg dksX13_copy_7 22 rfl rfl
theorem dX13_copy_0 : decode cX13_copy 0 = .ok (.iload_n 1, 1) := dk_27 (dk_at dksX13_copy_0 0 rfl rfl)
theorem dX13_copy_1 : decode cX13_copy 1 = .ok (.invokestatic 252, 3) := dk_184 0 252 (dk_at dksX13_copy_0 1 rfl rfl)
theorem dX13_copy_4 : decode cX13_copy 4 = .ok (.ifCond .eq 10, 3) := dk_153 0 10 (dk_at dksX13_copy_0 4 rfl rfl)
theorem dX13_copy_7 : decode cX13_copy 7 = .ok (.iload_n 3, 1) := dk_29 (dk_at dksX13_copy_0 7 rfl rfl)
theorem dX13_copy_8 : decode cX13_copy 8 = .ok (.invokestatic 252, 3) := dk_184 0 252 (dk_at dksX13_copy_0 8 rfl rfl)
theorem dX13_copy_11 : decode cX13_copy 11 = .ok (.ifCond .ne 10, 3) := dk_154 0 10 (dk_at dksX13_copy_0 11 rfl rfl)
theorem dX13_copy_14 : decode cX13_copy 14 = .ok (.aload_n 0, 1) := dk_42 (dk_at dksX13_copy_0 14 rfl rfl)
theorem dX13_copy_15 : decode cX13_copy 15 = .ok (.ldc 74, 2) := dk_18 74 (dk_at dksX13_copy_0 15 rfl rfl)
theorem dX13_copy_17 : decode cX13_copy 17 = .ok (.invokevirtual 80, 3) := dk_182 0 80 (dk_at dksX13_copy_0 17 rfl rfl)
theorem dX13_copy_20 : decode cX13_copy 20 = .ok (.ireturn, 1) := dk_172 (dk_at dksX13_copy_0 20 rfl rfl)
theorem dX13_copy_21 : decode cX13_copy 21 = .ok (.aload_n 0, 1) := dk_42 (dk_at dksX13_copy_0 21 rfl rfl)
theorem dX13_copy_22 : decode cX13_copy 22 = .ok (.getfield 62, 3) := dk_180 0 62 (dk_at dksX13_copy_1 0 rfl rfl)
theorem dX13_copy_25 : decode cX13_copy 25 = .ok (.iload_n 1, 1) := dk_27 (dk_at dksX13_copy_1 3 rfl rfl)
theorem dX13_copy_26 : decode cX13_copy 26 = .ok (.iaload, 1) := dk_46 (dk_at dksX13_copy_1 4 rfl rfl)
theorem dX13_copy_27 : decode cX13_copy 27 = .ok (.ifCond .eq 12, 3) := dk_153 0 12 (dk_at dksX13_copy_1 5 rfl rfl)
theorem dX13_copy_30 : decode cX13_copy 30 = .ok (.aload_n 0, 1) := dk_42 (dk_at dksX13_copy_1 8 rfl rfl)
theorem dX13_copy_31 : decode cX13_copy 31 = .ok (.getfield 62, 3) := dk_180 0 62 (dk_at dksX13_copy_1 9 rfl rfl)
theorem dX13_copy_34 : decode cX13_copy 34 = .ok (.iload_n 3, 1) := dk_29 (dk_at dksX13_copy_1 12 rfl rfl)
theorem dX13_copy_35 : decode cX13_copy 35 = .ok (.iaload, 1) := dk_46 (dk_at dksX13_copy_1 13 rfl rfl)
theorem dX13_copy_36 : decode cX13_copy 36 = .ok (.ifCond .ne 10, 3) := dk_154 0 10 (dk_at dksX13_copy_1 14 rfl rfl)
theorem dX13_copy_39 : decode cX13_copy 39 = .ok (.aload_n 0, 1) := dk_42 (dk_at dksX13_copy_1 17 rfl rfl)
theorem dX13_copy_40 : decode cX13_copy 40 = .ok (.ldc 255, 2) := dk_18 255 (dk_at dksX13_copy_1 18 rfl rfl)
theorem dX13_copy_42 : decode cX13_copy 42 = .ok (.invokevirtual 80, 3) := dk_182 0 80 (dk_at dksX13_copy_1 20 rfl rfl)
theorem dX13_copy_45 : decode cX13_copy 45 = .ok (.ireturn, 1) := dk_172 (dk_at dksX13_copy_1 23 rfl rfl)
theorem dX13_copy_46 : decode cX13_copy 46 = .ok (.aload_n 0, 1) := dk_42 (dk_at dksX13_copy_2 0 rfl rfl)
theorem dX13_copy_47 : decode cX13_copy 47 = .ok (.getfield 62, 3) := dk_180 0 62 (dk_at dksX13_copy_2 1 rfl rfl)
theorem dX13_copy_50 : decode cX13_copy 50 = .ok (.iload_n 1, 1) := dk_27 (dk_at dksX13_copy_2 4 rfl rfl)
theorem dX13_copy_51 : decode cX13_copy 51 = .ok (.iaload, 1) := dk_46 (dk_at dksX13_copy_2 5 rfl rfl)
theorem dX13_copy_52 : decode cX13_copy 52 = .ok (.aload_n 0, 1) := dk_42 (dk_at dksX13_copy_2 6 rfl rfl)
theorem dX13_copy_53 : decode cX13_copy 53 = .ok (.getfield 62, 3) := dk_180 0 62 (dk_at dksX13_copy_2 7 rfl rfl)
theorem dX13_copy_56 : decode cX13_copy 56 = .ok (.iload_n 3, 1) := dk_29 (dk_at dksX13_copy_2 10 rfl rfl)
theorem dX13_copy_57 : decode cX13_copy 57 = .ok (.iaload, 1) := dk_46 (dk_at dksX13_copy_2 11 rfl rfl)
theorem dX13_copy_58 : decode cX13_copy 58 = .ok (.if_icmp .eq 11, 3) := dk_159 0 11 (dk_at dksX13_copy_2 12 rfl rfl)
theorem dX13_copy_61 : decode cX13_copy 61 = .ok (.aload_n 0, 1) := dk_42 (dk_at dksX13_copy_2 15 rfl rfl)
theorem dX13_copy_62 : decode cX13_copy 62 = .ok (.ldc_w 376, 3) := dk_19 1 120 (dk_at dksX13_copy_2 16 rfl rfl)
theorem dX13_copy_65 : decode cX13_copy 65 = .ok (.invokevirtual 80, 3) := dk_182 0 80 (dk_at dksX13_copy_2 19 rfl rfl)
theorem dX13_copy_68 : decode cX13_copy 68 = .ok (.ireturn, 1) := dk_172 (dk_at dksX13_copy_2 22 rfl rfl)
theorem dX13_copy_69 : decode cX13_copy 69 = .ok (.iload_n 2, 1) := dk_28 (dk_at dksX13_copy_2 23 rfl rfl)
theorem dX13_copy_70 : decode cX13_copy 70 = .ok (.ifCond .lt 48, 3) := dk_155 0 48 (dk_at dksX13_copy_3 0 rfl rfl)
theorem dX13_copy_73 : decode cX13_copy 73 = .ok (.iload 4, 2) := dk_21 4 (dk_at dksX13_copy_3 3 rfl rfl)
theorem dX13_copy_75 : decode cX13_copy 75 = .ok (.ifCond .lt 43, 3) := dk_155 0 43 (dk_at dksX13_copy_3 5 rfl rfl)
theorem dX13_copy_78 : decode cX13_copy 78 = .ok (.iload 5, 2) := dk_21 5 (dk_at dksX13_copy_3 8 rfl rfl)
theorem dX13_copy_80 : decode cX13_copy 80 = .ok (.ifCond .lt 38, 3) := dk_155 0 38 (dk_at dksX13_copy_3 10 rfl rfl)
theorem dX13_copy_83 : decode cX13_copy 83 = .ok (.iload_n 2, 1) := dk_28 (dk_at dksX13_copy_3 13 rfl rfl)
theorem dX13_copy_84 : decode cX13_copy 84 = .ok (.i2l, 1) := dk_133 (dk_at dksX13_copy_3 14 rfl rfl)
theorem dX13_copy_85 : decode cX13_copy 85 = .ok (.iload 5, 2) := dk_21 5 (dk_at dksX13_copy_3 15 rfl rfl)
theorem dX13_copy_87 : decode cX13_copy 87 = .ok (.i2l, 1) := dk_133 (dk_at dksX13_copy_3 17 rfl rfl)
theorem dX13_copy_88 : decode cX13_copy 88 = .ok (.ladd, 1) := dk_97 (dk_at dksX13_copy_3 18 rfl rfl)
theorem dX13_copy_89 : decode cX13_copy 89 = .ok (.aload_n 0, 1) := dk_42 (dk_at dksX13_copy_3 19 rfl rfl)
theorem dX13_copy_90 : decode cX13_copy 90 = .ok (.getfield 65, 3) := dk_180 0 65 (dk_at dksX13_copy_3 20 rfl rfl)
theorem dX13_copy_93 : decode cX13_copy 93 = .ok (.iload_n 1, 1) := dk_27 (dk_at dksX13_copy_3 23 rfl rfl)
theorem dX13_copy_94 : decode cX13_copy 94 = .ok (.iaload, 1) := dk_46 (dk_at dksX13_copy_4 0 rfl rfl)
theorem dX13_copy_95 : decode cX13_copy 95 = .ok (.i2l, 1) := dk_133 (dk_at dksX13_copy_4 1 rfl rfl)
theorem dX13_copy_96 : decode cX13_copy 96 = .ok (.lcmp, 1) := dk_148 (dk_at dksX13_copy_4 2 rfl rfl)
theorem dX13_copy_97 : decode cX13_copy 97 = .ok (.ifCond .gt 21, 3) := dk_157 0 21 (dk_at dksX13_copy_4 3 rfl rfl)
theorem dX13_copy_100 : decode cX13_copy 100 = .ok (.iload 4, 2) := dk_21 4 (dk_at dksX13_copy_4 6 rfl rfl)
theorem dX13_copy_102 : decode cX13_copy 102 = .ok (.i2l, 1) := dk_133 (dk_at dksX13_copy_4 8 rfl rfl)
theorem dX13_copy_103 : decode cX13_copy 103 = .ok (.iload 5, 2) := dk_21 5 (dk_at dksX13_copy_4 9 rfl rfl)
theorem dX13_copy_105 : decode cX13_copy 105 = .ok (.i2l, 1) := dk_133 (dk_at dksX13_copy_4 11 rfl rfl)
theorem dX13_copy_106 : decode cX13_copy 106 = .ok (.ladd, 1) := dk_97 (dk_at dksX13_copy_4 12 rfl rfl)
theorem dX13_copy_107 : decode cX13_copy 107 = .ok (.aload_n 0, 1) := dk_42 (dk_at dksX13_copy_4 13 rfl rfl)
theorem dX13_copy_108 : decode cX13_copy 108 = .ok (.getfield 65, 3) := dk_180 0 65 (dk_at dksX13_copy_4 14 rfl rfl)
theorem dX13_copy_111 : decode cX13_copy 111 = .ok (.iload_n 3, 1) := dk_29 (dk_at dksX13_copy_4 17 rfl rfl)
theorem dX13_copy_112 : decode cX13_copy 112 = .ok (.iaload, 1) := dk_46 (dk_at dksX13_copy_4 18 rfl rfl)
theorem dX13_copy_113 : decode cX13_copy 113 = .ok (.i2l, 1) := dk_133 (dk_at dksX13_copy_4 19 rfl rfl)
theorem dX13_copy_114 : decode cX13_copy 114 = .ok (.lcmp, 1) := dk_148 (dk_at dksX13_copy_4 20 rfl rfl)
theorem dX13_copy_115 : decode cX13_copy 115 = .ok (.ifCond .le 10, 3) := dk_158 0 10 (dk_at dksX13_copy_4 21 rfl rfl)
theorem dX13_copy_118 : decode cX13_copy 118 = .ok (.aload_n 0, 1) := dk_42 (dk_at dksX13_copy_5 0 rfl rfl)
theorem dX13_copy_119 : decode cX13_copy 119 = .ok (.ldc 74, 2) := dk_18 74 (dk_at dksX13_copy_5 1 rfl rfl)
theorem dX13_copy_121 : decode cX13_copy 121 = .ok (.invokevirtual 80, 3) := dk_182 0 80 (dk_at dksX13_copy_5 3 rfl rfl)
theorem dX13_copy_124 : decode cX13_copy 124 = .ok (.ireturn, 1) := dk_172 (dk_at dksX13_copy_5 6 rfl rfl)
theorem dX13_copy_125 : decode cX13_copy 125 = .ok (.iconst 0, 1) := dk_3 (dk_at dksX13_copy_5 7 rfl rfl)
theorem dX13_copy_126 : decode cX13_copy 126 = .ok (.istore 6, 2) := dk_54 6 (dk_at dksX13_copy_5 8 rfl rfl)
theorem dX13_copy_128 : decode cX13_copy 128 = .ok (.iload 6, 2) := dk_21 6 (dk_at dksX13_copy_5 10 rfl rfl)
theorem dX13_copy_130 : decode cX13_copy 130 = .ok (.iload 5, 2) := dk_21 5 (dk_at dksX13_copy_5 12 rfl rfl)
theorem dX13_copy_132 : decode cX13_copy 132 = .ok (.if_icmp .ge 30, 3) := dk_162 0 30 (dk_at dksX13_copy_5 14 rfl rfl)
theorem dX13_copy_135 : decode cX13_copy 135 = .ok (.aload_n 0, 1) := dk_42 (dk_at dksX13_copy_5 17 rfl rfl)
theorem dX13_copy_136 : decode cX13_copy 136 = .ok (.getfield 71, 3) := dk_180 0 71 (dk_at dksX13_copy_5 18 rfl rfl)
theorem dX13_copy_139 : decode cX13_copy 139 = .ok (.iload 6, 2) := dk_21 6 (dk_at dksX13_copy_5 21 rfl rfl)
theorem dX13_copy_141 : decode cX13_copy 141 = .ok (.aload_n 0, 1) := dk_42 (dk_at dksX13_copy_5 23 rfl rfl)
theorem dX13_copy_142 : decode cX13_copy 142 = .ok (.getfield 68, 3) := dk_180 0 68 (dk_at dksX13_copy_6 0 rfl rfl)
theorem dX13_copy_145 : decode cX13_copy 145 = .ok (.bipush 40, 2) := dk_16 40 (dk_at dksX13_copy_6 3 rfl rfl)
theorem dX13_copy_147 : decode cX13_copy 147 = .ok (.iload_n 1, 1) := dk_27 (dk_at dksX13_copy_6 5 rfl rfl)
theorem dX13_copy_148 : decode cX13_copy 148 = .ok (.imul, 1) := dk_104 (dk_at dksX13_copy_6 6 rfl rfl)
theorem dX13_copy_149 : decode cX13_copy 149 = .ok (.iload_n 2, 1) := dk_28 (dk_at dksX13_copy_6 7 rfl rfl)
theorem dX13_copy_150 : decode cX13_copy 150 = .ok (.iadd, 1) := dk_96 (dk_at dksX13_copy_6 8 rfl rfl)
theorem dX13_copy_151 : decode cX13_copy 151 = .ok (.iload 6, 2) := dk_21 6 (dk_at dksX13_copy_6 9 rfl rfl)
theorem dX13_copy_153 : decode cX13_copy 153 = .ok (.iadd, 1) := dk_96 (dk_at dksX13_copy_6 11 rfl rfl)
theorem dX13_copy_154 : decode cX13_copy 154 = .ok (.iaload, 1) := dk_46 (dk_at dksX13_copy_6 12 rfl rfl)
theorem dX13_copy_155 : decode cX13_copy 155 = .ok (.iastore, 1) := dk_79 (dk_at dksX13_copy_6 13 rfl rfl)
theorem dX13_copy_156 : decode cX13_copy 156 = .ok (.iinc 6 1, 3) := dk_132 6 1 (dk_at dksX13_copy_6 14 rfl rfl)
theorem dX13_copy_159 : decode cX13_copy 159 = .ok (.goto (-31), 3) := dk_167 255 225 (dk_at dksX13_copy_6 17 rfl rfl)
theorem dX13_copy_162 : decode cX13_copy 162 = .ok (.iconst 0, 1) := dk_3 (dk_at dksX13_copy_6 20 rfl rfl)
theorem dX13_copy_163 : decode cX13_copy 163 = .ok (.istore 6, 2) := dk_54 6 (dk_at dksX13_copy_6 21 rfl rfl)
theorem dX13_copy_165 : decode cX13_copy 165 = .ok (.iload 6, 2) := dk_21 6 (dk_at dksX13_copy_7 0 rfl rfl)
theorem dX13_copy_167 : decode cX13_copy 167 = .ok (.iload 5, 2) := dk_21 5 (dk_at dksX13_copy_7 2 rfl rfl)
theorem dX13_copy_169 : decode cX13_copy 169 = .ok (.if_icmp .ge 31, 3) := dk_162 0 31 (dk_at dksX13_copy_7 4 rfl rfl)
theorem dX13_copy_172 : decode cX13_copy 172 = .ok (.aload_n 0, 1) := dk_42 (dk_at dksX13_copy_7 7 rfl rfl)
theorem dX13_copy_173 : decode cX13_copy 173 = .ok (.getfield 68, 3) := dk_180 0 68 (dk_at dksX13_copy_7 8 rfl rfl)
theorem dX13_copy_176 : decode cX13_copy 176 = .ok (.bipush 40, 2) := dk_16 40 (dk_at dksX13_copy_7 11 rfl rfl)
theorem dX13_copy_178 : decode cX13_copy 178 = .ok (.iload_n 3, 1) := dk_29 (dk_at dksX13_copy_7 13 rfl rfl)
theorem dX13_copy_179 : decode cX13_copy 179 = .ok (.imul, 1) := dk_104 (dk_at dksX13_copy_7 14 rfl rfl)
theorem dX13_copy_180 : decode cX13_copy 180 = .ok (.iload 4, 2) := dk_21 4 (dk_at dksX13_copy_7 15 rfl rfl)
theorem dX13_copy_182 : decode cX13_copy 182 = .ok (.iadd, 1) := dk_96 (dk_at dksX13_copy_7 17 rfl rfl)
theorem dX13_copy_183 : decode cX13_copy 183 = .ok (.iload 6, 2) := dk_21 6 (dk_at dksX13_copy_7 18 rfl rfl)
theorem dX13_copy_185 : decode cX13_copy 185 = .ok (.iadd, 1) := dk_96 (dk_at dksX13_copy_7 20 rfl rfl)
theorem dX13_copy_186 : decode cX13_copy 186 = .ok (.aload_n 0, 1) := dk_42 (dk_at dksX13_copy_7 21 rfl rfl)
theorem dX13_copy_187 : decode cX13_copy 187 = .ok (.getfield 71, 3) := dk_180 0 71 (dk_at dksX13_copy_8 0 rfl rfl)
theorem dX13_copy_190 : decode cX13_copy 190 = .ok (.iload 6, 2) := dk_21 6 (dk_at dksX13_copy_8 3 rfl rfl)
theorem dX13_copy_192 : decode cX13_copy 192 = .ok (.iaload, 1) := dk_46 (dk_at dksX13_copy_8 5 rfl rfl)
theorem dX13_copy_193 : decode cX13_copy 193 = .ok (.iastore, 1) := dk_79 (dk_at dksX13_copy_8 6 rfl rfl)
theorem dX13_copy_194 : decode cX13_copy 194 = .ok (.iinc 6 1, 3) := dk_132 6 1 (dk_at dksX13_copy_8 7 rfl rfl)
theorem dX13_copy_197 : decode cX13_copy 197 = .ok (.goto (-32), 3) := dk_167 255 224 (dk_at dksX13_copy_8 10 rfl rfl)
theorem dX13_copy_200 : decode cX13_copy 200 = .ok (.iload 5, 2) := dk_21 5 (dk_at dksX13_copy_8 13 rfl rfl)
theorem dX13_copy_202 : decode cX13_copy 202 = .ok (.ireturn, 1) := dk_172 (dk_at dksX13_copy_8 15 rfl rfl)
abbrev cX13_load : ByteArray := prog_16_method_116_code
def yX13_load : MethodName := ⟨RX13, "load", "(I)I"⟩
def dkwX13_load_3 : List UInt8 := [104, 28, 96, 46, 79, 132, 2, 1, 167, 255, 198, 28, 172]
abbrev dktX13_load_3 : List UInt8 := dkwX13_load_3 ++ []
def dkwX13_load_2 : List UInt8 := [28, 96, 46, 184, 0, 97, 153, 0, 29, 42, 180, 0, 9, 16, 20, 28, 96, 42, 180, 0, 68, 16, 40, 27]
abbrev dktX13_load_2 : List UInt8 := dkwX13_load_2 ++ dktX13_load_3
def dkwX13_load_1 : List UInt8 := [180, 0, 65, 27, 46, 162, 0, 54, 28, 184, 0, 93, 153, 0, 47, 3, 42, 180, 0, 68, 16, 40, 27, 104]
abbrev dktX13_load_1 : List UInt8 := dkwX13_load_1 ++ dktX13_load_2
def dkwX13_load_0 : List UInt8 := [42, 27, 182, 1, 0, 153, 0, 13, 42, 42, 27, 182, 1, 0, 182, 0, 80, 172, 3, 61, 28, 42]
abbrev dktX13_load_0 : List UInt8 := dkwX13_load_0 ++ dktX13_load_1
theorem dksX13_load_0 : cX13_load.data.toList.drop 0 = dktX13_load_0 := by decide +kernel
theorem dksX13_load_1 : cX13_load.data.toList.drop 22 = dktX13_load_1 := dk_seg dksX13_load_0 22 rfl rfl
theorem dksX13_load_2 : cX13_load.data.toList.drop 46 = dktX13_load_2 := dk_seg dksX13_load_1 24 rfl rfl
theorem dksX13_load_3 : cX13_load.data.toList.drop 70 = dktX13_load_3 := dk_seg dksX13_load_2 24 rfl rfl
theorem dX13_load_0 : decode cX13_load 0 = .ok (.aload_n 0, 1) := dk_42 (dk_at dksX13_load_0 0 rfl rfl)
theorem dX13_load_1 : decode cX13_load 1 = .ok (.iload_n 1, 1) := dk_27 (dk_at dksX13_load_0 1 rfl rfl)
theorem dX13_load_2 : decode cX13_load 2 = .ok (.invokevirtual 256, 3) := dk_182 1 0 (dk_at dksX13_load_0 2 rfl rfl)
theorem dX13_load_5 : decode cX13_load 5 = .ok (.ifCond .eq 13, 3) := dk_153 0 13 (dk_at dksX13_load_0 5 rfl rfl)
theorem dX13_load_8 : decode cX13_load 8 = .ok (.aload_n 0, 1) := dk_42 (dk_at dksX13_load_0 8 rfl rfl)
theorem dX13_load_9 : decode cX13_load 9 = .ok (.aload_n 0, 1) := dk_42 (dk_at dksX13_load_0 9 rfl rfl)
theorem dX13_load_10 : decode cX13_load 10 = .ok (.iload_n 1, 1) := dk_27 (dk_at dksX13_load_0 10 rfl rfl)
theorem dX13_load_11 : decode cX13_load 11 = .ok (.invokevirtual 256, 3) := dk_182 1 0 (dk_at dksX13_load_0 11 rfl rfl)
theorem dX13_load_14 : decode cX13_load 14 = .ok (.invokevirtual 80, 3) := dk_182 0 80 (dk_at dksX13_load_0 14 rfl rfl)
theorem dX13_load_17 : decode cX13_load 17 = .ok (.ireturn, 1) := dk_172 (dk_at dksX13_load_0 17 rfl rfl)
theorem dX13_load_18 : decode cX13_load 18 = .ok (.iconst 0, 1) := dk_3 (dk_at dksX13_load_0 18 rfl rfl)
theorem dX13_load_19 : decode cX13_load 19 = .ok (.istore_n 2, 1) := dk_61 (dk_at dksX13_load_0 19 rfl rfl)
theorem dX13_load_20 : decode cX13_load 20 = .ok (.iload_n 2, 1) := dk_28 (dk_at dksX13_load_0 20 rfl rfl)
theorem dX13_load_21 : decode cX13_load 21 = .ok (.aload_n 0, 1) := dk_42 (dk_at dksX13_load_0 21 rfl rfl)
theorem dX13_load_22 : decode cX13_load 22 = .ok (.getfield 65, 3) := dk_180 0 65 (dk_at dksX13_load_1 0 rfl rfl)
theorem dX13_load_25 : decode cX13_load 25 = .ok (.iload_n 1, 1) := dk_27 (dk_at dksX13_load_1 3 rfl rfl)
theorem dX13_load_26 : decode cX13_load 26 = .ok (.iaload, 1) := dk_46 (dk_at dksX13_load_1 4 rfl rfl)
theorem dX13_load_27 : decode cX13_load 27 = .ok (.if_icmp .ge 54, 3) := dk_162 0 54 (dk_at dksX13_load_1 5 rfl rfl)
theorem dX13_load_30 : decode cX13_load 30 = .ok (.iload_n 2, 1) := dk_28 (dk_at dksX13_load_1 8 rfl rfl)
theorem dX13_load_31 : decode cX13_load 31 = .ok (.invokestatic 93, 3) := dk_184 0 93 (dk_at dksX13_load_1 9 rfl rfl)
theorem dX13_load_34 : decode cX13_load 34 = .ok (.ifCond .eq 47, 3) := dk_153 0 47 (dk_at dksX13_load_1 12 rfl rfl)
theorem dX13_load_37 : decode cX13_load 37 = .ok (.iconst 0, 1) := dk_3 (dk_at dksX13_load_1 15 rfl rfl)
theorem dX13_load_38 : decode cX13_load 38 = .ok (.aload_n 0, 1) := dk_42 (dk_at dksX13_load_1 16 rfl rfl)
theorem dX13_load_39 : decode cX13_load 39 = .ok (.getfield 68, 3) := dk_180 0 68 (dk_at dksX13_load_1 17 rfl rfl)
theorem dX13_load_42 : decode cX13_load 42 = .ok (.bipush 40, 2) := dk_16 40 (dk_at dksX13_load_1 20 rfl rfl)
theorem dX13_load_44 : decode cX13_load 44 = .ok (.iload_n 1, 1) := dk_27 (dk_at dksX13_load_1 22 rfl rfl)
theorem dX13_load_45 : decode cX13_load 45 = .ok (.imul, 1) := dk_104 (dk_at dksX13_load_1 23 rfl rfl)
theorem dX13_load_46 : decode cX13_load 46 = .ok (.iload_n 2, 1) := dk_28 (dk_at dksX13_load_2 0 rfl rfl)
theorem dX13_load_47 : decode cX13_load 47 = .ok (.iadd, 1) := dk_96 (dk_at dksX13_load_2 1 rfl rfl)
theorem dX13_load_48 : decode cX13_load 48 = .ok (.iaload, 1) := dk_46 (dk_at dksX13_load_2 2 rfl rfl)
theorem dX13_load_49 : decode cX13_load 49 = .ok (.invokestatic 97, 3) := dk_184 0 97 (dk_at dksX13_load_2 3 rfl rfl)
theorem dX13_load_52 : decode cX13_load 52 = .ok (.ifCond .eq 29, 3) := dk_153 0 29 (dk_at dksX13_load_2 6 rfl rfl)
theorem dX13_load_55 : decode cX13_load 55 = .ok (.aload_n 0, 1) := dk_42 (dk_at dksX13_load_2 9 rfl rfl)
theorem dX13_load_56 : decode cX13_load 56 = .ok (.getfield 9, 3) := dk_180 0 9 (dk_at dksX13_load_2 10 rfl rfl)
theorem dX13_load_59 : decode cX13_load 59 = .ok (.bipush 20, 2) := dk_16 20 (dk_at dksX13_load_2 13 rfl rfl)
theorem dX13_load_61 : decode cX13_load 61 = .ok (.iload_n 2, 1) := dk_28 (dk_at dksX13_load_2 15 rfl rfl)
theorem dX13_load_62 : decode cX13_load 62 = .ok (.iadd, 1) := dk_96 (dk_at dksX13_load_2 16 rfl rfl)
theorem dX13_load_63 : decode cX13_load 63 = .ok (.aload_n 0, 1) := dk_42 (dk_at dksX13_load_2 17 rfl rfl)
theorem dX13_load_64 : decode cX13_load 64 = .ok (.getfield 68, 3) := dk_180 0 68 (dk_at dksX13_load_2 18 rfl rfl)
theorem dX13_load_67 : decode cX13_load 67 = .ok (.bipush 40, 2) := dk_16 40 (dk_at dksX13_load_2 21 rfl rfl)
theorem dX13_load_69 : decode cX13_load 69 = .ok (.iload_n 1, 1) := dk_27 (dk_at dksX13_load_2 23 rfl rfl)
theorem dX13_load_70 : decode cX13_load 70 = .ok (.imul, 1) := dk_104 (dk_at dksX13_load_3 0 rfl rfl)
theorem dX13_load_71 : decode cX13_load 71 = .ok (.iload_n 2, 1) := dk_28 (dk_at dksX13_load_3 1 rfl rfl)
theorem dX13_load_72 : decode cX13_load 72 = .ok (.iadd, 1) := dk_96 (dk_at dksX13_load_3 2 rfl rfl)
theorem dX13_load_73 : decode cX13_load 73 = .ok (.iaload, 1) := dk_46 (dk_at dksX13_load_3 3 rfl rfl)
theorem dX13_load_74 : decode cX13_load 74 = .ok (.iastore, 1) := dk_79 (dk_at dksX13_load_3 4 rfl rfl)
theorem dX13_load_75 : decode cX13_load 75 = .ok (.iinc 2 1, 3) := dk_132 2 1 (dk_at dksX13_load_3 5 rfl rfl)
theorem dX13_load_78 : decode cX13_load 78 = .ok (.goto (-58), 3) := dk_167 255 198 (dk_at dksX13_load_3 8 rfl rfl)
theorem dX13_load_81 : decode cX13_load 81 = .ok (.iload_n 2, 1) := dk_28 (dk_at dksX13_load_3 11 rfl rfl)
theorem dX13_load_82 : decode cX13_load 82 = .ok (.ireturn, 1) := dk_172 (dk_at dksX13_load_3 12 rfl rfl)
abbrev cX13_judge : ByteArray := prog_16_method_117_code
def yX13_judge : MethodName := ⟨RX13, "judge", "(I)I"⟩
def dkwX13_judge_3 : List UInt8 := [42, 28, 42, 180, 0, 65, 27, 46, 160, 0, 7, 3, 167, 0, 6, 4, 28, 96, 182, 0, 211, 172]
abbrev dktX13_judge_3 : List UInt8 := dkwX13_judge_3 ++ []
def dkwX13_judge_2 : List UInt8 := [27, 104, 28, 96, 46, 42, 180, 0, 9, 6, 46, 160, 0, 13, 42, 182, 0, 146, 132, 2, 1, 167, 255, 219]
abbrev dktX13_judge_2 : List UInt8 := dkwX13_judge_2 ++ dktX13_judge_3
def dkwX13_judge_1 : List UInt8 := [180, 0, 16, 184, 0, 75, 3, 61, 28, 42, 180, 0, 65, 27, 46, 162, 0, 33, 42, 180, 0, 68, 16, 40]
abbrev dktX13_judge_1 : List UInt8 := dkwX13_judge_1 ++ dktX13_judge_2
def dkwX13_judge_0 : List UInt8 := [42, 27, 182, 1, 0, 153, 0, 13, 42, 42, 27, 182, 1, 0, 182, 0, 80, 172, 42, 180, 0, 9, 42]
abbrev dktX13_judge_0 : List UInt8 := dkwX13_judge_0 ++ dktX13_judge_1
theorem dksX13_judge_0 : cX13_judge.data.toList.drop 0 = dktX13_judge_0 := by decide +kernel
theorem dksX13_judge_1 : cX13_judge.data.toList.drop 23 = dktX13_judge_1 := dk_seg dksX13_judge_0 23 rfl rfl
theorem dksX13_judge_2 : cX13_judge.data.toList.drop 47 = dktX13_judge_2 := dk_seg dksX13_judge_1 24 rfl rfl
theorem dksX13_judge_3 : cX13_judge.data.toList.drop 71 = dktX13_judge_3 := dk_seg dksX13_judge_2 24 rfl rfl
theorem dX13_judge_0 : decode cX13_judge 0 = .ok (.aload_n 0, 1) := dk_42 (dk_at dksX13_judge_0 0 rfl rfl)
theorem dX13_judge_1 : decode cX13_judge 1 = .ok (.iload_n 1, 1) := dk_27 (dk_at dksX13_judge_0 1 rfl rfl)
theorem dX13_judge_2 : decode cX13_judge 2 = .ok (.invokevirtual 256, 3) := dk_182 1 0 (dk_at dksX13_judge_0 2 rfl rfl)
theorem dX13_judge_5 : decode cX13_judge 5 = .ok (.ifCond .eq 13, 3) := dk_153 0 13 (dk_at dksX13_judge_0 5 rfl rfl)
theorem dX13_judge_8 : decode cX13_judge 8 = .ok (.aload_n 0, 1) := dk_42 (dk_at dksX13_judge_0 8 rfl rfl)
theorem dX13_judge_9 : decode cX13_judge 9 = .ok (.aload_n 0, 1) := dk_42 (dk_at dksX13_judge_0 9 rfl rfl)
theorem dX13_judge_10 : decode cX13_judge 10 = .ok (.iload_n 1, 1) := dk_27 (dk_at dksX13_judge_0 10 rfl rfl)
theorem dX13_judge_11 : decode cX13_judge 11 = .ok (.invokevirtual 256, 3) := dk_182 1 0 (dk_at dksX13_judge_0 11 rfl rfl)
theorem dX13_judge_14 : decode cX13_judge 14 = .ok (.invokevirtual 80, 3) := dk_182 0 80 (dk_at dksX13_judge_0 14 rfl rfl)
theorem dX13_judge_17 : decode cX13_judge 17 = .ok (.ireturn, 1) := dk_172 (dk_at dksX13_judge_0 17 rfl rfl)
theorem dX13_judge_18 : decode cX13_judge 18 = .ok (.aload_n 0, 1) := dk_42 (dk_at dksX13_judge_0 18 rfl rfl)
theorem dX13_judge_19 : decode cX13_judge 19 = .ok (.getfield 9, 3) := dk_180 0 9 (dk_at dksX13_judge_0 19 rfl rfl)
theorem dX13_judge_22 : decode cX13_judge 22 = .ok (.aload_n 0, 1) := dk_42 (dk_at dksX13_judge_0 22 rfl rfl)
theorem dX13_judge_23 : decode cX13_judge 23 = .ok (.getfield 16, 3) := dk_180 0 16 (dk_at dksX13_judge_1 0 rfl rfl)
theorem dX13_judge_26 : decode cX13_judge 26 = .ok (.invokestatic 75, 3) := dk_184 0 75 (dk_at dksX13_judge_1 3 rfl rfl)
theorem dX13_judge_29 : decode cX13_judge 29 = .ok (.iconst 0, 1) := dk_3 (dk_at dksX13_judge_1 6 rfl rfl)
theorem dX13_judge_30 : decode cX13_judge 30 = .ok (.istore_n 2, 1) := dk_61 (dk_at dksX13_judge_1 7 rfl rfl)
theorem dX13_judge_31 : decode cX13_judge 31 = .ok (.iload_n 2, 1) := dk_28 (dk_at dksX13_judge_1 8 rfl rfl)
theorem dX13_judge_32 : decode cX13_judge 32 = .ok (.aload_n 0, 1) := dk_42 (dk_at dksX13_judge_1 9 rfl rfl)
theorem dX13_judge_33 : decode cX13_judge 33 = .ok (.getfield 65, 3) := dk_180 0 65 (dk_at dksX13_judge_1 10 rfl rfl)
theorem dX13_judge_36 : decode cX13_judge 36 = .ok (.iload_n 1, 1) := dk_27 (dk_at dksX13_judge_1 13 rfl rfl)
theorem dX13_judge_37 : decode cX13_judge 37 = .ok (.iaload, 1) := dk_46 (dk_at dksX13_judge_1 14 rfl rfl)
theorem dX13_judge_38 : decode cX13_judge 38 = .ok (.if_icmp .ge 33, 3) := dk_162 0 33 (dk_at dksX13_judge_1 15 rfl rfl)
theorem dX13_judge_41 : decode cX13_judge 41 = .ok (.aload_n 0, 1) := dk_42 (dk_at dksX13_judge_1 18 rfl rfl)
theorem dX13_judge_42 : decode cX13_judge 42 = .ok (.getfield 68, 3) := dk_180 0 68 (dk_at dksX13_judge_1 19 rfl rfl)
theorem dX13_judge_45 : decode cX13_judge 45 = .ok (.bipush 40, 2) := dk_16 40 (dk_at dksX13_judge_1 22 rfl rfl)
theorem dX13_judge_47 : decode cX13_judge 47 = .ok (.iload_n 1, 1) := dk_27 (dk_at dksX13_judge_2 0 rfl rfl)
theorem dX13_judge_48 : decode cX13_judge 48 = .ok (.imul, 1) := dk_104 (dk_at dksX13_judge_2 1 rfl rfl)
theorem dX13_judge_49 : decode cX13_judge 49 = .ok (.iload_n 2, 1) := dk_28 (dk_at dksX13_judge_2 2 rfl rfl)
theorem dX13_judge_50 : decode cX13_judge 50 = .ok (.iadd, 1) := dk_96 (dk_at dksX13_judge_2 3 rfl rfl)
theorem dX13_judge_51 : decode cX13_judge 51 = .ok (.iaload, 1) := dk_46 (dk_at dksX13_judge_2 4 rfl rfl)
theorem dX13_judge_52 : decode cX13_judge 52 = .ok (.aload_n 0, 1) := dk_42 (dk_at dksX13_judge_2 5 rfl rfl)
theorem dX13_judge_53 : decode cX13_judge 53 = .ok (.getfield 9, 3) := dk_180 0 9 (dk_at dksX13_judge_2 6 rfl rfl)
theorem dX13_judge_56 : decode cX13_judge 56 = .ok (.iconst 3, 1) := dk_6 (dk_at dksX13_judge_2 9 rfl rfl)
theorem dX13_judge_57 : decode cX13_judge 57 = .ok (.iaload, 1) := dk_46 (dk_at dksX13_judge_2 10 rfl rfl)
theorem dX13_judge_58 : decode cX13_judge 58 = .ok (.if_icmp .ne 13, 3) := dk_160 0 13 (dk_at dksX13_judge_2 11 rfl rfl)
theorem dX13_judge_61 : decode cX13_judge 61 = .ok (.aload_n 0, 1) := dk_42 (dk_at dksX13_judge_2 14 rfl rfl)
theorem dX13_judge_62 : decode cX13_judge 62 = .ok (.invokevirtual 146, 3) := dk_182 0 146 (dk_at dksX13_judge_2 15 rfl rfl)
theorem dX13_judge_65 : decode cX13_judge 65 = .ok (.iinc 2 1, 3) := dk_132 2 1 (dk_at dksX13_judge_2 18 rfl rfl)
theorem dX13_judge_68 : decode cX13_judge 68 = .ok (.goto (-37), 3) := dk_167 255 219 (dk_at dksX13_judge_2 21 rfl rfl)
theorem dX13_judge_71 : decode cX13_judge 71 = .ok (.aload_n 0, 1) := dk_42 (dk_at dksX13_judge_3 0 rfl rfl)
theorem dX13_judge_72 : decode cX13_judge 72 = .ok (.iload_n 2, 1) := dk_28 (dk_at dksX13_judge_3 1 rfl rfl)
theorem dX13_judge_73 : decode cX13_judge 73 = .ok (.aload_n 0, 1) := dk_42 (dk_at dksX13_judge_3 2 rfl rfl)
theorem dX13_judge_74 : decode cX13_judge 74 = .ok (.getfield 65, 3) := dk_180 0 65 (dk_at dksX13_judge_3 3 rfl rfl)
theorem dX13_judge_77 : decode cX13_judge 77 = .ok (.iload_n 1, 1) := dk_27 (dk_at dksX13_judge_3 6 rfl rfl)
theorem dX13_judge_78 : decode cX13_judge 78 = .ok (.iaload, 1) := dk_46 (dk_at dksX13_judge_3 7 rfl rfl)
theorem dX13_judge_79 : decode cX13_judge 79 = .ok (.if_icmp .ne 7, 3) := dk_160 0 7 (dk_at dksX13_judge_3 8 rfl rfl)
theorem dX13_judge_82 : decode cX13_judge 82 = .ok (.iconst 0, 1) := dk_3 (dk_at dksX13_judge_3 11 rfl rfl)
theorem dX13_judge_83 : decode cX13_judge 83 = .ok (.goto 6, 3) := dk_167 0 6 (dk_at dksX13_judge_3 12 rfl rfl)
theorem dX13_judge_86 : decode cX13_judge 86 = .ok (.iconst 1, 1) := dk_4 (dk_at dksX13_judge_3 15 rfl rfl)
theorem dX13_judge_87 : decode cX13_judge 87 = .ok (.iload_n 2, 1) := dk_28 (dk_at dksX13_judge_3 16 rfl rfl)
theorem dX13_judge_88 : decode cX13_judge 88 = .ok (.iadd, 1) := dk_96 (dk_at dksX13_judge_3 17 rfl rfl)
theorem dX13_judge_89 : decode cX13_judge 89 = .ok (.invokevirtual 211, 3) := dk_182 0 211 (dk_at dksX13_judge_3 18 rfl rfl)
theorem dX13_judge_92 : decode cX13_judge 92 = .ok (.ireturn, 1) := dk_172 (dk_at dksX13_judge_3 21 rfl rfl)
abbrev cX13_image : ByteArray := prog_16_method_118_code
def yX13_image : MethodName := ⟨RX13, "image", "()I"⟩
def dkwX13_image_0 : List UInt8 := [42, 180, 0, 9, 42, 180, 0, 13, 184, 0, 75, 42, 4, 181, 1, 128, 4, 172]
abbrev dktX13_image_0 : List UInt8 := dkwX13_image_0 ++ []
theorem dksX13_image_0 : cX13_image.data.toList.drop 0 = dktX13_image_0 := by decide +kernel
theorem dX13_image_0 : decode cX13_image 0 = .ok (.aload_n 0, 1) := dk_42 (dk_at dksX13_image_0 0 rfl rfl)
theorem dX13_image_1 : decode cX13_image 1 = .ok (.getfield 9, 3) := dk_180 0 9 (dk_at dksX13_image_0 1 rfl rfl)
theorem dX13_image_4 : decode cX13_image 4 = .ok (.aload_n 0, 1) := dk_42 (dk_at dksX13_image_0 4 rfl rfl)
theorem dX13_image_5 : decode cX13_image 5 = .ok (.getfield 13, 3) := dk_180 0 13 (dk_at dksX13_image_0 5 rfl rfl)
theorem dX13_image_8 : decode cX13_image 8 = .ok (.invokestatic 75, 3) := dk_184 0 75 (dk_at dksX13_image_0 8 rfl rfl)
theorem dX13_image_11 : decode cX13_image 11 = .ok (.aload_n 0, 1) := dk_42 (dk_at dksX13_image_0 11 rfl rfl)
theorem dX13_image_12 : decode cX13_image 12 = .ok (.iconst 1, 1) := dk_4 (dk_at dksX13_image_0 12 rfl rfl)
theorem dX13_image_13 : decode cX13_image 13 = .ok (.putfield 384, 3) := dk_181 1 128 (dk_at dksX13_image_0 13 rfl rfl)
theorem dX13_image_16 : decode cX13_image 16 = .ok (.iconst 1, 1) := dk_4 (dk_at dksX13_image_0 16 rfl rfl)
theorem dX13_image_17 : decode cX13_image 17 = .ok (.ireturn, 1) := dk_172 (dk_at dksX13_image_0 17 rfl rfl)
abbrev cX13_undo : ByteArray := prog_16_method_119_code
def yX13_undo : MethodName := ⟨RX13, "undo", "()I"⟩
def dkwX13_undo_1 : List UInt8 := [184, 0, 75, 42, 180, 0, 9, 3, 46, 172]
abbrev dktX13_undo_1 : List UInt8 := dkwX13_undo_1 ++ []
def dkwX13_undo_0 : List UInt8 := [42, 180, 1, 128, 154, 0, 10, 42, 18, 79, 182, 0, 80, 172, 42, 180, 0, 13, 42, 180, 0, 9]
abbrev dktX13_undo_0 : List UInt8 := dkwX13_undo_0 ++ dktX13_undo_1
theorem dksX13_undo_0 : cX13_undo.data.toList.drop 0 = dktX13_undo_0 := by decide +kernel
theorem dksX13_undo_1 : cX13_undo.data.toList.drop 22 = dktX13_undo_1 := dk_seg dksX13_undo_0 22 rfl rfl
theorem dX13_undo_0 : decode cX13_undo 0 = .ok (.aload_n 0, 1) := dk_42 (dk_at dksX13_undo_0 0 rfl rfl)
theorem dX13_undo_1 : decode cX13_undo 1 = .ok (.getfield 384, 3) := dk_180 1 128 (dk_at dksX13_undo_0 1 rfl rfl)
theorem dX13_undo_4 : decode cX13_undo 4 = .ok (.ifCond .ne 10, 3) := dk_154 0 10 (dk_at dksX13_undo_0 4 rfl rfl)
theorem dX13_undo_7 : decode cX13_undo 7 = .ok (.aload_n 0, 1) := dk_42 (dk_at dksX13_undo_0 7 rfl rfl)
theorem dX13_undo_8 : decode cX13_undo 8 = .ok (.ldc 79, 2) := dk_18 79 (dk_at dksX13_undo_0 8 rfl rfl)
theorem dX13_undo_10 : decode cX13_undo 10 = .ok (.invokevirtual 80, 3) := dk_182 0 80 (dk_at dksX13_undo_0 10 rfl rfl)
theorem dX13_undo_13 : decode cX13_undo 13 = .ok (.ireturn, 1) := dk_172 (dk_at dksX13_undo_0 13 rfl rfl)
theorem dX13_undo_14 : decode cX13_undo 14 = .ok (.aload_n 0, 1) := dk_42 (dk_at dksX13_undo_0 14 rfl rfl)
theorem dX13_undo_15 : decode cX13_undo 15 = .ok (.getfield 13, 3) := dk_180 0 13 (dk_at dksX13_undo_0 15 rfl rfl)
theorem dX13_undo_18 : decode cX13_undo 18 = .ok (.aload_n 0, 1) := dk_42 (dk_at dksX13_undo_0 18 rfl rfl)
theorem dX13_undo_19 : decode cX13_undo 19 = .ok (.getfield 9, 3) := dk_180 0 9 (dk_at dksX13_undo_0 19 rfl rfl)
theorem dX13_undo_22 : decode cX13_undo 22 = .ok (.invokestatic 75, 3) := dk_184 0 75 (dk_at dksX13_undo_1 0 rfl rfl)
theorem dX13_undo_25 : decode cX13_undo 25 = .ok (.aload_n 0, 1) := dk_42 (dk_at dksX13_undo_1 3 rfl rfl)
theorem dX13_undo_26 : decode cX13_undo 26 = .ok (.getfield 9, 3) := dk_180 0 9 (dk_at dksX13_undo_1 4 rfl rfl)
theorem dX13_undo_29 : decode cX13_undo 29 = .ok (.iconst 0, 1) := dk_3 (dk_at dksX13_undo_1 7 rfl rfl)
theorem dX13_undo_30 : decode cX13_undo 30 = .ok (.iaload, 1) := dk_46 (dk_at dksX13_undo_1 8 rfl rfl)
theorem dX13_undo_31 : decode cX13_undo 31 = .ok (.ireturn, 1) := dk_172 (dk_at dksX13_undo_1 9 rfl rfl)
abbrev cX13_tear : ByteArray := prog_16_method_120_code
def yX13_tear : MethodName := ⟨RX13, "tear", "()I"⟩
def dkwX13_tear_0 : List UInt8 := [42, 180, 1, 128, 153, 0, 7, 4, 167, 0, 4, 3, 60, 42, 3, 181, 1, 128, 27, 172]
abbrev dktX13_tear_0 : List UInt8 := dkwX13_tear_0 ++ []
theorem dksX13_tear_0 : cX13_tear.data.toList.drop 0 = dktX13_tear_0 := by decide +kernel
theorem dX13_tear_0 : decode cX13_tear 0 = .ok (.aload_n 0, 1) := dk_42 (dk_at dksX13_tear_0 0 rfl rfl)
theorem dX13_tear_1 : decode cX13_tear 1 = .ok (.getfield 384, 3) := dk_180 1 128 (dk_at dksX13_tear_0 1 rfl rfl)
theorem dX13_tear_4 : decode cX13_tear 4 = .ok (.ifCond .eq 7, 3) := dk_153 0 7 (dk_at dksX13_tear_0 4 rfl rfl)
theorem dX13_tear_7 : decode cX13_tear 7 = .ok (.iconst 1, 1) := dk_4 (dk_at dksX13_tear_0 7 rfl rfl)
theorem dX13_tear_8 : decode cX13_tear 8 = .ok (.goto 4, 3) := dk_167 0 4 (dk_at dksX13_tear_0 8 rfl rfl)
theorem dX13_tear_11 : decode cX13_tear 11 = .ok (.iconst 0, 1) := dk_3 (dk_at dksX13_tear_0 11 rfl rfl)
theorem dX13_tear_12 : decode cX13_tear 12 = .ok (.istore_n 1, 1) := dk_60 (dk_at dksX13_tear_0 12 rfl rfl)
theorem dX13_tear_13 : decode cX13_tear 13 = .ok (.aload_n 0, 1) := dk_42 (dk_at dksX13_tear_0 13 rfl rfl)
theorem dX13_tear_14 : decode cX13_tear 14 = .ok (.iconst 0, 1) := dk_3 (dk_at dksX13_tear_0 14 rfl rfl)
theorem dX13_tear_15 : decode cX13_tear 15 = .ok (.putfield 384, 3) := dk_181 1 128 (dk_at dksX13_tear_0 15 rfl rfl)
theorem dX13_tear_18 : decode cX13_tear 18 = .ok (.iload_n 1, 1) := dk_27 (dk_at dksX13_tear_0 18 rfl rfl)
theorem dX13_tear_19 : decode cX13_tear 19 = .ok (.ireturn, 1) := dk_172 (dk_at dksX13_tear_0 19 rfl rfl)
abbrev cX13_count : ByteArray := prog_16_method_121_code
def yX13_count : MethodName := ⟨RX13, "count", "(I)I"⟩
def dkwX13_count_5 : List UInt8 := [61, 132, 3, 1, 167, 255, 227, 28, 172, 42, 18, 74, 182, 0, 80, 172]
abbrev dktX13_count_5 : List UInt8 := dkwX13_count_5 ++ []
def dkwX13_count_4 : List UInt8 := [16, 10, 162, 0, 29, 28, 42, 180, 0, 9, 16, 10, 29, 96, 46, 156, 0, 7, 3, 167, 0, 4, 4, 96]
abbrev dktX13_count_4 : List UInt8 := dkwX13_count_4 ++ dktX13_count_5
def dkwX13_count_3 : List UInt8 := [182, 0, 202, 172, 42, 182, 0, 205, 172, 42, 180, 1, 20, 172, 42, 180, 0, 9, 5, 46, 172, 3, 62, 29]
abbrev dktX13_count_3 : List UInt8 := dkwX13_count_3 ++ dktX13_count_4
def dkwX13_count_2 : List UInt8 := [42, 180, 0, 9, 3, 46, 172, 42, 180, 0, 9, 4, 46, 172, 42, 182, 0, 199, 184, 0, 234, 172, 42]
abbrev dktX13_count_2 : List UInt8 := dkwX13_count_2 ++ dktX13_count_3
def dkwX13_count_1 : List UInt8 := [170, 0, 0, 0, 125, 0, 0, 0, 0, 0, 0, 0, 7, 0, 0, 0, 45, 0, 0, 0, 52, 0, 0, 0, 59, 0, 0, 0, 67, 0, 0, 0, 72, 0, 0, 0, 77, 0, 0, 0, 82, 0, 0, 0, 89]
abbrev dktX13_count_1 : List UInt8 := dkwX13_count_1 ++ dktX13_count_2
def dkwX13_count_0 : List UInt8 := [3, 61, 27]
abbrev dktX13_count_0 : List UInt8 := dkwX13_count_0 ++ dktX13_count_1
theorem dksX13_count_0 : cX13_count.data.toList.drop 0 = dktX13_count_0 := by decide +kernel
theorem dksX13_count_1 : cX13_count.data.toList.drop 3 = dktX13_count_1 := dk_seg dksX13_count_0 3 rfl rfl
theorem dksX13_count_2 : cX13_count.data.toList.drop 48 = dktX13_count_2 := dk_seg dksX13_count_1 45 rfl rfl
theorem dksX13_count_3 : cX13_count.data.toList.drop 71 = dktX13_count_3 := dk_seg dksX13_count_2 23 rfl rfl
theorem dksX13_count_4 : cX13_count.data.toList.drop 95 = dktX13_count_4 := dk_seg dksX13_count_3 24 rfl rfl
theorem dksX13_count_5 : cX13_count.data.toList.drop 119 = dktX13_count_5 := dk_seg dksX13_count_4 24 rfl rfl
theorem dX13_count_0 : decode cX13_count 0 = .ok (.iconst 0, 1) := dk_3 (dk_at dksX13_count_0 0 rfl rfl)
theorem dX13_count_1 : decode cX13_count 1 = .ok (.istore_n 2, 1) := dk_61 (dk_at dksX13_count_0 1 rfl rfl)
theorem dX13_count_2 : decode cX13_count 2 = .ok (.iload_n 1, 1) := dk_27 (dk_at dksX13_count_0 2 rfl rfl)
theorem dX13_count_3 : decode cX13_count 3 = .ok (.tableswitch 125 0 7 #[45, 52, 59, 67, 72, 77, 82, 89], 45) := by decide +kernel
theorem dX13_count_48 : decode cX13_count 48 = .ok (.aload_n 0, 1) := dk_42 (dk_at dksX13_count_2 0 rfl rfl)
theorem dX13_count_49 : decode cX13_count 49 = .ok (.getfield 9, 3) := dk_180 0 9 (dk_at dksX13_count_2 1 rfl rfl)
theorem dX13_count_52 : decode cX13_count 52 = .ok (.iconst 0, 1) := dk_3 (dk_at dksX13_count_2 4 rfl rfl)
theorem dX13_count_53 : decode cX13_count 53 = .ok (.iaload, 1) := dk_46 (dk_at dksX13_count_2 5 rfl rfl)
theorem dX13_count_54 : decode cX13_count 54 = .ok (.ireturn, 1) := dk_172 (dk_at dksX13_count_2 6 rfl rfl)
theorem dX13_count_55 : decode cX13_count 55 = .ok (.aload_n 0, 1) := dk_42 (dk_at dksX13_count_2 7 rfl rfl)
theorem dX13_count_56 : decode cX13_count 56 = .ok (.getfield 9, 3) := dk_180 0 9 (dk_at dksX13_count_2 8 rfl rfl)
theorem dX13_count_59 : decode cX13_count 59 = .ok (.iconst 1, 1) := dk_4 (dk_at dksX13_count_2 11 rfl rfl)
theorem dX13_count_60 : decode cX13_count 60 = .ok (.iaload, 1) := dk_46 (dk_at dksX13_count_2 12 rfl rfl)
theorem dX13_count_61 : decode cX13_count 61 = .ok (.ireturn, 1) := dk_172 (dk_at dksX13_count_2 13 rfl rfl)
theorem dX13_count_62 : decode cX13_count 62 = .ok (.aload_n 0, 1) := dk_42 (dk_at dksX13_count_2 14 rfl rfl)
theorem dX13_count_63 : decode cX13_count 63 = .ok (.invokevirtual 199, 3) := dk_182 0 199 (dk_at dksX13_count_2 15 rfl rfl)
theorem dX13_count_66 : decode cX13_count 66 = .ok (.invokestatic 234, 3) := dk_184 0 234 (dk_at dksX13_count_2 18 rfl rfl)
theorem dX13_count_69 : decode cX13_count 69 = .ok (.ireturn, 1) := dk_172 (dk_at dksX13_count_2 21 rfl rfl)
theorem dX13_count_70 : decode cX13_count 70 = .ok (.aload_n 0, 1) := dk_42 (dk_at dksX13_count_2 22 rfl rfl)
theorem dX13_count_71 : decode cX13_count 71 = .ok (.invokevirtual 202, 3) := dk_182 0 202 (dk_at dksX13_count_3 0 rfl rfl)
theorem dX13_count_74 : decode cX13_count 74 = .ok (.ireturn, 1) := dk_172 (dk_at dksX13_count_3 3 rfl rfl)
theorem dX13_count_75 : decode cX13_count 75 = .ok (.aload_n 0, 1) := dk_42 (dk_at dksX13_count_3 4 rfl rfl)
theorem dX13_count_76 : decode cX13_count 76 = .ok (.invokevirtual 205, 3) := dk_182 0 205 (dk_at dksX13_count_3 5 rfl rfl)
theorem dX13_count_79 : decode cX13_count 79 = .ok (.ireturn, 1) := dk_172 (dk_at dksX13_count_3 8 rfl rfl)
theorem dX13_count_80 : decode cX13_count 80 = .ok (.aload_n 0, 1) := dk_42 (dk_at dksX13_count_3 9 rfl rfl)
theorem dX13_count_81 : decode cX13_count 81 = .ok (.getfield 276, 3) := dk_180 1 20 (dk_at dksX13_count_3 10 rfl rfl)
theorem dX13_count_84 : decode cX13_count 84 = .ok (.ireturn, 1) := dk_172 (dk_at dksX13_count_3 13 rfl rfl)
theorem dX13_count_85 : decode cX13_count 85 = .ok (.aload_n 0, 1) := dk_42 (dk_at dksX13_count_3 14 rfl rfl)
theorem dX13_count_86 : decode cX13_count 86 = .ok (.getfield 9, 3) := dk_180 0 9 (dk_at dksX13_count_3 15 rfl rfl)
theorem dX13_count_89 : decode cX13_count 89 = .ok (.iconst 2, 1) := dk_5 (dk_at dksX13_count_3 18 rfl rfl)
theorem dX13_count_90 : decode cX13_count 90 = .ok (.iaload, 1) := dk_46 (dk_at dksX13_count_3 19 rfl rfl)
theorem dX13_count_91 : decode cX13_count 91 = .ok (.ireturn, 1) := dk_172 (dk_at dksX13_count_3 20 rfl rfl)
theorem dX13_count_92 : decode cX13_count 92 = .ok (.iconst 0, 1) := dk_3 (dk_at dksX13_count_3 21 rfl rfl)
theorem dX13_count_93 : decode cX13_count 93 = .ok (.istore_n 3, 1) := dk_62 (dk_at dksX13_count_3 22 rfl rfl)
theorem dX13_count_94 : decode cX13_count 94 = .ok (.iload_n 3, 1) := dk_29 (dk_at dksX13_count_3 23 rfl rfl)
theorem dX13_count_95 : decode cX13_count 95 = .ok (.bipush 10, 2) := dk_16 10 (dk_at dksX13_count_4 0 rfl rfl)
theorem dX13_count_97 : decode cX13_count 97 = .ok (.if_icmp .ge 29, 3) := dk_162 0 29 (dk_at dksX13_count_4 2 rfl rfl)
theorem dX13_count_100 : decode cX13_count 100 = .ok (.iload_n 2, 1) := dk_28 (dk_at dksX13_count_4 5 rfl rfl)
theorem dX13_count_101 : decode cX13_count 101 = .ok (.aload_n 0, 1) := dk_42 (dk_at dksX13_count_4 6 rfl rfl)
theorem dX13_count_102 : decode cX13_count 102 = .ok (.getfield 9, 3) := dk_180 0 9 (dk_at dksX13_count_4 7 rfl rfl)
theorem dX13_count_105 : decode cX13_count 105 = .ok (.bipush 10, 2) := dk_16 10 (dk_at dksX13_count_4 10 rfl rfl)
theorem dX13_count_107 : decode cX13_count 107 = .ok (.iload_n 3, 1) := dk_29 (dk_at dksX13_count_4 12 rfl rfl)
theorem dX13_count_108 : decode cX13_count 108 = .ok (.iadd, 1) := dk_96 (dk_at dksX13_count_4 13 rfl rfl)
theorem dX13_count_109 : decode cX13_count 109 = .ok (.iaload, 1) := dk_46 (dk_at dksX13_count_4 14 rfl rfl)
theorem dX13_count_110 : decode cX13_count 110 = .ok (.ifCond .ge 7, 3) := dk_156 0 7 (dk_at dksX13_count_4 15 rfl rfl)
theorem dX13_count_113 : decode cX13_count 113 = .ok (.iconst 0, 1) := dk_3 (dk_at dksX13_count_4 18 rfl rfl)
theorem dX13_count_114 : decode cX13_count 114 = .ok (.goto 4, 3) := dk_167 0 4 (dk_at dksX13_count_4 19 rfl rfl)
theorem dX13_count_117 : decode cX13_count 117 = .ok (.iconst 1, 1) := dk_4 (dk_at dksX13_count_4 22 rfl rfl)
theorem dX13_count_118 : decode cX13_count 118 = .ok (.iadd, 1) := dk_96 (dk_at dksX13_count_4 23 rfl rfl)
theorem dX13_count_119 : decode cX13_count 119 = .ok (.istore_n 2, 1) := dk_61 (dk_at dksX13_count_5 0 rfl rfl)
theorem dX13_count_120 : decode cX13_count 120 = .ok (.iinc 3 1, 3) := dk_132 3 1 (dk_at dksX13_count_5 1 rfl rfl)
theorem dX13_count_123 : decode cX13_count 123 = .ok (.goto (-29), 3) := dk_167 255 227 (dk_at dksX13_count_5 4 rfl rfl)
theorem dX13_count_126 : decode cX13_count 126 = .ok (.iload_n 2, 1) := dk_28 (dk_at dksX13_count_5 7 rfl rfl)
theorem dX13_count_127 : decode cX13_count 127 = .ok (.ireturn, 1) := dk_172 (dk_at dksX13_count_5 8 rfl rfl)
theorem dX13_count_128 : decode cX13_count 128 = .ok (.aload_n 0, 1) := dk_42 (dk_at dksX13_count_5 9 rfl rfl)
theorem dX13_count_129 : decode cX13_count 129 = .ok (.ldc 74, 2) := dk_18 74 (dk_at dksX13_count_5 10 rfl rfl)
theorem dX13_count_131 : decode cX13_count 131 = .ok (.invokevirtual 80, 3) := dk_182 0 80 (dk_at dksX13_count_5 12 rfl rfl)
theorem dX13_count_134 : decode cX13_count 134 = .ok (.ireturn, 1) := dk_172 (dk_at dksX13_count_5 15 rfl rfl)
abbrev cX13_status : ByteArray := prog_16_method_122_code
def yX13_status : MethodName := ⟨RX13, "status", "(I)I"⟩
def dkwX13_status_1 : List UInt8 := [182, 0, 80, 172]
abbrev dktX13_status_1 : List UInt8 := dkwX13_status_1 ++ []
def dkwX13_status_0 : List UInt8 := [27, 2, 16, 6, 184, 0, 84, 153, 0, 14, 42, 180, 0, 22, 27, 4, 96, 46, 167, 0, 9, 42, 18, 74]
abbrev dktX13_status_0 : List UInt8 := dkwX13_status_0 ++ dktX13_status_1
theorem dksX13_status_0 : cX13_status.data.toList.drop 0 = dktX13_status_0 := by decide +kernel
theorem dksX13_status_1 : cX13_status.data.toList.drop 24 = dktX13_status_1 := dk_seg dksX13_status_0 24 rfl rfl
theorem dX13_status_0 : decode cX13_status 0 = .ok (.iload_n 1, 1) := dk_27 (dk_at dksX13_status_0 0 rfl rfl)
theorem dX13_status_1 : decode cX13_status 1 = .ok (.iconst (-1), 1) := dk_2 (dk_at dksX13_status_0 1 rfl rfl)
theorem dX13_status_2 : decode cX13_status 2 = .ok (.bipush 6, 2) := dk_16 6 (dk_at dksX13_status_0 2 rfl rfl)
theorem dX13_status_4 : decode cX13_status 4 = .ok (.invokestatic 84, 3) := dk_184 0 84 (dk_at dksX13_status_0 4 rfl rfl)
theorem dX13_status_7 : decode cX13_status 7 = .ok (.ifCond .eq 14, 3) := dk_153 0 14 (dk_at dksX13_status_0 7 rfl rfl)
theorem dX13_status_10 : decode cX13_status 10 = .ok (.aload_n 0, 1) := dk_42 (dk_at dksX13_status_0 10 rfl rfl)
theorem dX13_status_11 : decode cX13_status 11 = .ok (.getfield 22, 3) := dk_180 0 22 (dk_at dksX13_status_0 11 rfl rfl)
theorem dX13_status_14 : decode cX13_status 14 = .ok (.iload_n 1, 1) := dk_27 (dk_at dksX13_status_0 14 rfl rfl)
theorem dX13_status_15 : decode cX13_status 15 = .ok (.iconst 1, 1) := dk_4 (dk_at dksX13_status_0 15 rfl rfl)
theorem dX13_status_16 : decode cX13_status 16 = .ok (.iadd, 1) := dk_96 (dk_at dksX13_status_0 16 rfl rfl)
theorem dX13_status_17 : decode cX13_status 17 = .ok (.iaload, 1) := dk_46 (dk_at dksX13_status_0 17 rfl rfl)
theorem dX13_status_18 : decode cX13_status 18 = .ok (.goto 9, 3) := dk_167 0 9 (dk_at dksX13_status_0 18 rfl rfl)
theorem dX13_status_21 : decode cX13_status 21 = .ok (.aload_n 0, 1) := dk_42 (dk_at dksX13_status_0 21 rfl rfl)
theorem dX13_status_22 : decode cX13_status 22 = .ok (.ldc 74, 2) := dk_18 74 (dk_at dksX13_status_0 22 rfl rfl)
theorem dX13_status_24 : decode cX13_status 24 = .ok (.invokevirtual 80, 3) := dk_182 0 80 (dk_at dksX13_status_1 0 rfl rfl)
theorem dX13_status_27 : decode cX13_status 27 = .ok (.ireturn, 1) := dk_172 (dk_at dksX13_status_1 3 rfl rfl)
theorem q124 : (Jvm.Cond.initialized "OwlEarsModel") ∈ lw_all := lw_g (lw_at lw_m1 17 rfl) rfl
theorem q1292 : (Jvm.Cond.instantiable "OwlEarsModel" (24 : Nat)) ∈ lw_all := lw_g (lw_at lw_m5 225 rfl) rfl
theorem q1294 : (Jvm.Cond.instanceMethod ({ cls := "OwlEarsModel", name := "<init>", desc := "()V" } : Jvm.MethodName)) ∈ lw_all := lw_g (lw_at lw_m5 227 rfl) rfl
theorem q1295 : (Jvm.Cond.code ({ cls := "OwlEarsModel", name := "<init>", desc := "()V" } : Jvm.MethodName) prog_16_method_1_code (2 : Nat) (Option.none : Option Jvm.ClassFile.FieldType)) ∈ lw_all := lw_g (lw_at lw_m5 228 rfl) rfl
theorem q1296 : (Jvm.Cond.methodLink "OwlEarsModel" (1 : Nat) ({ cls := "java/lang/Object", name := "<init>", desc := "()V" } : Jvm.MethodName)) ∈ lw_all := lw_g (lw_at lw_m5 229 rfl) rfl
theorem q1297 : (Jvm.Cond.classLink "OwlEarsModel" (28 : Nat) "java/lang/String") ∈ lw_all := lw_g (lw_at lw_m5 230 rfl) rfl
theorem q1299 : (Jvm.Cond.stringRef "OwlEarsModel" (30 : Nat) "strike") ∈ lw_tbl := lw_at lw_m5 232 rfl
theorem q1300 : (Jvm.Cond.stringRef "OwlEarsModel" (32 : Nat) "sure") ∈ lw_tbl := lw_at lw_m5 233 rfl
theorem q1301 : (Jvm.Cond.stringRef "OwlEarsModel" (34 : Nat) "aslant") ∈ lw_tbl := lw_at lw_m5 234 rfl
theorem q1302 : (Jvm.Cond.stringRef "OwlEarsModel" (36 : Nat) "late") ∈ lw_tbl := lw_at lw_m5 235 rfl
theorem q1303 : (Jvm.Cond.stringRef "OwlEarsModel" (38 : Nat) "waited") ∈ lw_tbl := lw_at lw_m5 236 rfl
theorem q1304 : (Jvm.Cond.stringRef "OwlEarsModel" (40 : Nat) "leafs") ∈ lw_tbl := lw_at lw_m5 237 rfl
theorem q1305 : (Jvm.Cond.stringRef "OwlEarsModel" (42 : Nat) "crusted") ∈ lw_tbl := lw_at lw_m5 238 rfl
theorem q1306 : (Jvm.Cond.stringRef "OwlEarsModel" (48 : Nat) "up") ∈ lw_tbl := lw_at lw_m5 239 rfl
theorem q1307 : (Jvm.Cond.stringRef "OwlEarsModel" (50 : Nat) "right") ∈ lw_tbl := lw_at lw_m6 0 rfl
theorem q1308 : (Jvm.Cond.stringRef "OwlEarsModel" (52 : Nat) "down") ∈ lw_tbl := lw_at lw_m6 1 rfl
theorem q1309 : (Jvm.Cond.stringRef "OwlEarsModel" (54 : Nat) "left") ∈ lw_tbl := lw_at lw_m6 2 rfl
theorem q1310 : (Jvm.Cond.fieldLink "OwlEarsModel" (9 : Nat) "OwlEarsModel" "now" "[I") ∈ lw_all := lw_g (lw_at lw_m6 3 rfl) rfl
theorem q1311 : (Jvm.Cond.fieldLink "OwlEarsModel" (13 : Nat) "OwlEarsModel" "kept" "[I") ∈ lw_all := lw_g (lw_at lw_m6 4 rfl) rfl
theorem q1312 : (Jvm.Cond.fieldLink "OwlEarsModel" (16 : Nat) "OwlEarsModel" "aside" "[I") ∈ lw_all := lw_g (lw_at lw_m6 5 rfl) rfl
theorem q1313 : (Jvm.Cond.fieldLink "OwlEarsModel" (19 : Nat) "OwlEarsModel" "before" "[I") ∈ lw_all := lw_g (lw_at lw_m6 6 rfl) rfl
theorem q1314 : (Jvm.Cond.fieldLink "OwlEarsModel" (384 : Nat) "OwlEarsModel" "isKept" "Z") ∈ lw_all := lw_g (lw_at lw_m6 7 rfl) rfl
theorem q1315 : (Jvm.Cond.fieldLink "OwlEarsModel" (22 : Nat) "OwlEarsModel" "found" "[I") ∈ lw_all := lw_g (lw_at lw_m6 8 rfl) rfl
theorem q1316 : (Jvm.Cond.fieldLink "OwlEarsModel" (214 : Nat) "OwlEarsModel" "ranMany" "I") ∈ lw_all := lw_g (lw_at lw_m6 9 rfl) rfl
theorem q1317 : (Jvm.Cond.fieldLink "OwlEarsModel" (243 : Nat) "OwlEarsModel" "leastHeard" "I") ∈ lw_all := lw_g (lw_at lw_m6 10 rfl) rfl
theorem q1318 : (Jvm.Cond.fieldLink "OwlEarsModel" (25 : Nat) "OwlEarsModel" "tape" "[I") ∈ lw_all := lw_g (lw_at lw_m6 11 rfl) rfl
theorem q1319 : (Jvm.Cond.fieldLink "OwlEarsModel" (276 : Nat) "OwlEarsModel" "taped" "I") ∈ lw_all := lw_g (lw_at lw_m6 12 rfl) rfl
theorem q1320 : (Jvm.Cond.fieldLink "OwlEarsModel" (282 : Nat) "OwlEarsModel" "begins" "I") ∈ lw_all := lw_g (lw_at lw_m6 13 rfl) rfl
theorem q1321 : (Jvm.Cond.fieldLink "OwlEarsModel" (279 : Nat) "OwlEarsModel" "ends" "I") ∈ lw_all := lw_g (lw_at lw_m6 14 rfl) rfl
theorem q1322 : (Jvm.Cond.fieldLink "OwlEarsModel" (291 : Nat) "OwlEarsModel" "sort" "I") ∈ lw_all := lw_g (lw_at lw_m6 15 rfl) rfl
theorem q1323 : (Jvm.Cond.fieldLink "OwlEarsModel" (288 : Nat) "OwlEarsModel" "value" "I") ∈ lw_all := lw_g (lw_at lw_m6 16 rfl) rfl
theorem q1324 : (Jvm.Cond.fieldLink "OwlEarsModel" (301 : Nat) "OwlEarsModel" "isWrong" "Z") ∈ lw_all := lw_g (lw_at lw_m6 17 rfl) rfl
theorem q1325 : (Jvm.Cond.fieldLink "OwlEarsModel" (44 : Nat) "OwlEarsModel" "kindNames" "[Ljava/lang/String;") ∈ lw_all := lw_g (lw_at lw_m6 18 rfl) rfl
theorem q1326 : (Jvm.Cond.fieldLink "OwlEarsModel" (56 : Nat) "OwlEarsModel" "headingNames" "[Ljava/lang/String;") ∈ lw_all := lw_g (lw_at lw_m6 19 rfl) rfl
theorem q1327 : (Jvm.Cond.fieldLink "OwlEarsModel" (59 : Nat) "OwlEarsModel" "items" "[I") ∈ lw_all := lw_g (lw_at lw_m6 20 rfl) rfl
theorem q1328 : (Jvm.Cond.fieldLink "OwlEarsModel" (312 : Nat) "OwlEarsModel" "itemMany" "I") ∈ lw_all := lw_g (lw_at lw_m6 21 rfl) rfl
theorem q1329 : (Jvm.Cond.fieldLink "OwlEarsModel" (341 : Nat) "OwlEarsModel" "strikeThen" "I") ∈ lw_all := lw_g (lw_at lw_m6 22 rfl) rfl
theorem q1330 : (Jvm.Cond.fieldLink "OwlEarsModel" (62 : Nat) "OwlEarsModel" "widths" "[I") ∈ lw_all := lw_g (lw_at lw_m6 23 rfl) rfl
theorem q1331 : (Jvm.Cond.fieldLink "OwlEarsModel" (65 : Nat) "OwlEarsModel" "sizes" "[I") ∈ lw_all := lw_g (lw_at lw_m6 24 rfl) rfl
theorem q1332 : (Jvm.Cond.fieldLink "OwlEarsModel" (68 : Nat) "OwlEarsModel" "numbers" "[I") ∈ lw_all := lw_g (lw_at lw_m6 25 rfl) rfl
theorem q1333 : (Jvm.Cond.fieldLink "OwlEarsModel" (71 : Nat) "OwlEarsModel" "moved" "[I") ∈ lw_all := lw_g (lw_at lw_m6 26 rfl) rfl
theorem q1334 : (Jvm.Cond.laysFinal "OwlEarsModel" "OwlEarsModel" "now" "[I") ∈ lw_all := lw_g (lw_at lw_m6 27 rfl) rfl
theorem q1335 : (Jvm.Cond.soleField "OwlEarsModel" "now") ∈ lw_all := lw_g (lw_at lw_m6 28 rfl) rfl
theorem q1336 : (Jvm.Cond.laysFinal "OwlEarsModel" "OwlEarsModel" "kept" "[I") ∈ lw_all := lw_g (lw_at lw_m6 29 rfl) rfl
theorem q1337 : (Jvm.Cond.soleField "OwlEarsModel" "kept") ∈ lw_all := lw_g (lw_at lw_m6 30 rfl) rfl
theorem q1338 : (Jvm.Cond.laysFinal "OwlEarsModel" "OwlEarsModel" "aside" "[I") ∈ lw_all := lw_g (lw_at lw_m6 31 rfl) rfl
theorem q1339 : (Jvm.Cond.soleField "OwlEarsModel" "aside") ∈ lw_all := lw_g (lw_at lw_m6 32 rfl) rfl
theorem q1340 : (Jvm.Cond.laysFinal "OwlEarsModel" "OwlEarsModel" "before" "[I") ∈ lw_all := lw_g (lw_at lw_m6 33 rfl) rfl
theorem q1341 : (Jvm.Cond.soleField "OwlEarsModel" "before") ∈ lw_all := lw_g (lw_at lw_m6 34 rfl) rfl
theorem q1342 : (Jvm.Cond.lays "OwlEarsModel" "OwlEarsModel" "isKept" "Z") ∈ lw_all := lw_g (lw_at lw_m6 35 rfl) rfl
theorem q1343 : (Jvm.Cond.soleField "OwlEarsModel" "isKept") ∈ lw_all := lw_g (lw_at lw_m6 36 rfl) rfl
theorem q1344 : (Jvm.Cond.laysFinal "OwlEarsModel" "OwlEarsModel" "found" "[I") ∈ lw_all := lw_g (lw_at lw_m6 37 rfl) rfl
theorem q1345 : (Jvm.Cond.soleField "OwlEarsModel" "found") ∈ lw_all := lw_g (lw_at lw_m6 38 rfl) rfl
theorem q1346 : (Jvm.Cond.lays "OwlEarsModel" "OwlEarsModel" "ranMany" "I") ∈ lw_all := lw_g (lw_at lw_m6 39 rfl) rfl
theorem q1347 : (Jvm.Cond.soleField "OwlEarsModel" "ranMany") ∈ lw_all := lw_g (lw_at lw_m6 40 rfl) rfl
theorem q1348 : (Jvm.Cond.lays "OwlEarsModel" "OwlEarsModel" "leastHeard" "I") ∈ lw_all := lw_g (lw_at lw_m6 41 rfl) rfl
theorem q1349 : (Jvm.Cond.soleField "OwlEarsModel" "leastHeard") ∈ lw_all := lw_g (lw_at lw_m6 42 rfl) rfl
theorem q1350 : (Jvm.Cond.laysFinal "OwlEarsModel" "OwlEarsModel" "tape" "[I") ∈ lw_all := lw_g (lw_at lw_m6 43 rfl) rfl
theorem q1351 : (Jvm.Cond.soleField "OwlEarsModel" "tape") ∈ lw_all := lw_g (lw_at lw_m6 44 rfl) rfl
theorem q1352 : (Jvm.Cond.lays "OwlEarsModel" "OwlEarsModel" "taped" "I") ∈ lw_all := lw_g (lw_at lw_m6 45 rfl) rfl
theorem q1353 : (Jvm.Cond.soleField "OwlEarsModel" "taped") ∈ lw_all := lw_g (lw_at lw_m6 46 rfl) rfl
theorem q1354 : (Jvm.Cond.lays "OwlEarsModel" "OwlEarsModel" "begins" "I") ∈ lw_all := lw_g (lw_at lw_m6 47 rfl) rfl
theorem q1355 : (Jvm.Cond.soleField "OwlEarsModel" "begins") ∈ lw_all := lw_g (lw_at lw_m6 48 rfl) rfl
theorem q1356 : (Jvm.Cond.lays "OwlEarsModel" "OwlEarsModel" "ends" "I") ∈ lw_all := lw_g (lw_at lw_m6 49 rfl) rfl
theorem q1357 : (Jvm.Cond.soleField "OwlEarsModel" "ends") ∈ lw_all := lw_g (lw_at lw_m6 50 rfl) rfl
theorem q1358 : (Jvm.Cond.lays "OwlEarsModel" "OwlEarsModel" "sort" "I") ∈ lw_all := lw_g (lw_at lw_m6 51 rfl) rfl
theorem q1359 : (Jvm.Cond.soleField "OwlEarsModel" "sort") ∈ lw_all := lw_g (lw_at lw_m6 52 rfl) rfl
theorem q1360 : (Jvm.Cond.lays "OwlEarsModel" "OwlEarsModel" "value" "I") ∈ lw_all := lw_g (lw_at lw_m6 53 rfl) rfl
theorem q1361 : (Jvm.Cond.soleField "OwlEarsModel" "value") ∈ lw_all := lw_g (lw_at lw_m6 54 rfl) rfl
theorem q1362 : (Jvm.Cond.lays "OwlEarsModel" "OwlEarsModel" "isWrong" "Z") ∈ lw_all := lw_g (lw_at lw_m6 55 rfl) rfl
theorem q1363 : (Jvm.Cond.soleField "OwlEarsModel" "isWrong") ∈ lw_all := lw_g (lw_at lw_m6 56 rfl) rfl
theorem q1364 : (Jvm.Cond.laysFinal "OwlEarsModel" "OwlEarsModel" "kindNames" "[Ljava/lang/String;") ∈ lw_all := lw_g (lw_at lw_m6 57 rfl) rfl
theorem q1365 : (Jvm.Cond.soleField "OwlEarsModel" "kindNames") ∈ lw_all := lw_g (lw_at lw_m6 58 rfl) rfl
theorem q1366 : (Jvm.Cond.laysFinal "OwlEarsModel" "OwlEarsModel" "headingNames" "[Ljava/lang/String;") ∈ lw_all := lw_g (lw_at lw_m6 59 rfl) rfl
theorem q1367 : (Jvm.Cond.soleField "OwlEarsModel" "headingNames") ∈ lw_all := lw_g (lw_at lw_m6 60 rfl) rfl
theorem q1368 : (Jvm.Cond.laysFinal "OwlEarsModel" "OwlEarsModel" "items" "[I") ∈ lw_all := lw_g (lw_at lw_m6 61 rfl) rfl
theorem q1369 : (Jvm.Cond.soleField "OwlEarsModel" "items") ∈ lw_all := lw_g (lw_at lw_m6 62 rfl) rfl
theorem q1370 : (Jvm.Cond.lays "OwlEarsModel" "OwlEarsModel" "itemMany" "I") ∈ lw_all := lw_g (lw_at lw_m6 63 rfl) rfl
theorem q1371 : (Jvm.Cond.soleField "OwlEarsModel" "itemMany") ∈ lw_all := lw_g (lw_at lw_m6 64 rfl) rfl
theorem q1372 : (Jvm.Cond.lays "OwlEarsModel" "OwlEarsModel" "strikeThen" "I") ∈ lw_all := lw_g (lw_at lw_m6 65 rfl) rfl
theorem q1373 : (Jvm.Cond.soleField "OwlEarsModel" "strikeThen") ∈ lw_all := lw_g (lw_at lw_m6 66 rfl) rfl
theorem q1374 : (Jvm.Cond.laysFinal "OwlEarsModel" "OwlEarsModel" "widths" "[I") ∈ lw_all := lw_g (lw_at lw_m6 67 rfl) rfl
theorem q1375 : (Jvm.Cond.soleField "OwlEarsModel" "widths") ∈ lw_all := lw_g (lw_at lw_m6 68 rfl) rfl
theorem q1376 : (Jvm.Cond.laysFinal "OwlEarsModel" "OwlEarsModel" "sizes" "[I") ∈ lw_all := lw_g (lw_at lw_m6 69 rfl) rfl
theorem q1377 : (Jvm.Cond.soleField "OwlEarsModel" "sizes") ∈ lw_all := lw_g (lw_at lw_m6 70 rfl) rfl
theorem q1378 : (Jvm.Cond.laysFinal "OwlEarsModel" "OwlEarsModel" "numbers" "[I") ∈ lw_all := lw_g (lw_at lw_m6 71 rfl) rfl
theorem q1379 : (Jvm.Cond.soleField "OwlEarsModel" "numbers") ∈ lw_all := lw_g (lw_at lw_m6 72 rfl) rfl
theorem q1380 : (Jvm.Cond.laysFinal "OwlEarsModel" "OwlEarsModel" "moved" "[I") ∈ lw_all := lw_g (lw_at lw_m6 73 rfl) rfl
theorem q1381 : (Jvm.Cond.soleField "OwlEarsModel" "moved") ∈ lw_all := lw_g (lw_at lw_m6 74 rfl) rfl
theorem q1382 : (Jvm.Cond.superclass "OwlEarsModel" "java/lang/Object") ∈ lw_all := lw_g (lw_at lw_m6 75 rfl) rfl
theorem q1384 : (Jvm.Cond.instanceMethod ({ cls := "OwlEarsModel", name := "cell", desc := "(III)I" } : Jvm.MethodName)) ∈ lw_all := lw_g (lw_at lw_m6 77 rfl) rfl
theorem q1385 : (Jvm.Cond.selects "OwlEarsModel" ({ cls := "OwlEarsModel", name := "cell", desc := "(III)I" } : Jvm.MethodName) ({ cls := "OwlEarsModel", name := "cell", desc := "(III)I" } : Jvm.MethodName)) ∈ lw_all := lw_g (lw_at lw_m6 78 rfl) rfl
theorem q1386 : (Jvm.Cond.code ({ cls := "OwlEarsModel", name := "cell", desc := "(III)I" } : Jvm.MethodName) prog_16_method_14_code (4 : Nat) (Option.some Jvm.ClassFile.FieldType.int)) ∈ lw_all := lw_g (lw_at lw_m6 79 rfl) rfl
theorem q1387 : (Jvm.Cond.methodLink "OwlEarsModel" (93 : Nat) ({ cls := "OwlEarsModel", name := "isCell", desc := "(I)Z" } : Jvm.MethodName)) ∈ lw_all := lw_g (lw_at lw_m6 80 rfl) rfl
theorem q1388 : (Jvm.Cond.static ({ cls := "OwlEarsModel", name := "isCell", desc := "(I)Z" } : Jvm.MethodName)) ∈ lw_all := lw_g (lw_at lw_m6 81 rfl) rfl
theorem q1389 : (Jvm.Cond.code ({ cls := "OwlEarsModel", name := "isCell", desc := "(I)Z" } : Jvm.MethodName) prog_16_method_8_code (1 : Nat) (Option.some Jvm.ClassFile.FieldType.boolean)) ∈ lw_all := lw_g (lw_at lw_m6 82 rfl) rfl
theorem q1390 : (Jvm.Cond.methodLink "OwlEarsModel" (84 : Nat) ({ cls := "OwlEarsModel", name := "within", desc := "(III)Z" } : Jvm.MethodName)) ∈ lw_all := lw_g (lw_at lw_m6 83 rfl) rfl
theorem q1391 : (Jvm.Cond.static ({ cls := "OwlEarsModel", name := "within", desc := "(III)Z" } : Jvm.MethodName)) ∈ lw_all := lw_g (lw_at lw_m6 84 rfl) rfl
theorem q1392 : (Jvm.Cond.code ({ cls := "OwlEarsModel", name := "within", desc := "(III)Z" } : Jvm.MethodName) prog_16_method_3_code (3 : Nat) (Option.some Jvm.ClassFile.FieldType.boolean)) ∈ lw_all := lw_g (lw_at lw_m6 85 rfl) rfl
theorem q1393 : (Jvm.Cond.methodLink "OwlEarsModel" (97 : Nat) ({ cls := "OwlEarsModel", name := "mayLie", desc := "(II)Z" } : Jvm.MethodName)) ∈ lw_all := lw_g (lw_at lw_m6 86 rfl) rfl
theorem q1394 : (Jvm.Cond.static ({ cls := "OwlEarsModel", name := "mayLie", desc := "(II)Z" } : Jvm.MethodName)) ∈ lw_all := lw_g (lw_at lw_m6 87 rfl) rfl
theorem q1395 : (Jvm.Cond.code ({ cls := "OwlEarsModel", name := "mayLie", desc := "(II)Z" } : Jvm.MethodName) prog_16_method_12_code (2 : Nat) (Option.some Jvm.ClassFile.FieldType.boolean)) ∈ lw_all := lw_g (lw_at lw_m6 88 rfl) rfl
theorem q1396 : (Jvm.Cond.methodLink "OwlEarsModel" (101 : Nat) ({ cls := "OwlEarsModel", name := "lies", desc := "(II)I" } : Jvm.MethodName)) ∈ lw_all := lw_g (lw_at lw_m6 89 rfl) rfl
theorem q1397 : (Jvm.Cond.static ({ cls := "OwlEarsModel", name := "lies", desc := "(II)I" } : Jvm.MethodName)) ∈ lw_all := lw_g (lw_at lw_m6 90 rfl) rfl
theorem q1398 : (Jvm.Cond.code ({ cls := "OwlEarsModel", name := "lies", desc := "(II)I" } : Jvm.MethodName) prog_16_method_13_code (2 : Nat) (Option.some Jvm.ClassFile.FieldType.int)) ∈ lw_all := lw_g (lw_at lw_m6 91 rfl) rfl
theorem q1399 : (Jvm.Cond.methodLink "OwlEarsModel" (105 : Nat) ({ cls := "OwlEarsModel", name := "become", desc := "(II)I" } : Jvm.MethodName)) ∈ lw_all := lw_g (lw_at lw_m6 92 rfl) rfl
theorem q1400 : (Jvm.Cond.privateMethod ({ cls := "OwlEarsModel", name := "become", desc := "(II)I" } : Jvm.MethodName)) ∈ lw_tbl := lw_at lw_m6 93 rfl
theorem q1401 : (Jvm.Cond.instanceMethod ({ cls := "OwlEarsModel", name := "become", desc := "(II)I" } : Jvm.MethodName)) ∈ lw_all := lw_g (lw_at lw_m6 94 rfl) rfl
theorem q1402 : (Jvm.Cond.code ({ cls := "OwlEarsModel", name := "become", desc := "(II)I" } : Jvm.MethodName) prog_16_method_4_code (4 : Nat) (Option.some Jvm.ClassFile.FieldType.int)) ∈ lw_all := lw_g (lw_at lw_m6 95 rfl) rfl
theorem q1403 : (Jvm.Cond.constant "OwlEarsModel" (74 : Nat) (-1000001 : Int32)) ∈ lw_all := lw_g (lw_at lw_m6 96 rfl) rfl
theorem q1404 : (Jvm.Cond.methodLink "OwlEarsModel" (80 : Nat) ({ cls := "OwlEarsModel", name := "finding", desc := "(I)I" } : Jvm.MethodName)) ∈ lw_all := lw_g (lw_at lw_m6 97 rfl) rfl
theorem q1405 : (Jvm.Cond.privateMethod ({ cls := "OwlEarsModel", name := "finding", desc := "(I)I" } : Jvm.MethodName)) ∈ lw_tbl := lw_at lw_m6 98 rfl
theorem q1406 : (Jvm.Cond.instanceMethod ({ cls := "OwlEarsModel", name := "finding", desc := "(I)I" } : Jvm.MethodName)) ∈ lw_all := lw_g (lw_at lw_m6 99 rfl) rfl
theorem q1407 : (Jvm.Cond.code ({ cls := "OwlEarsModel", name := "finding", desc := "(I)I" } : Jvm.MethodName) prog_16_method_2_code (2 : Nat) (Option.some Jvm.ClassFile.FieldType.int)) ∈ lw_all := lw_g (lw_at lw_m6 100 rfl) rfl
theorem q1409 : (Jvm.Cond.instanceMethod ({ cls := "OwlEarsModel", name := "cellOf", desc := "(II)I" } : Jvm.MethodName)) ∈ lw_all := lw_g (lw_at lw_m6 102 rfl) rfl
theorem q1410 : (Jvm.Cond.selects "OwlEarsModel" ({ cls := "OwlEarsModel", name := "cellOf", desc := "(II)I" } : Jvm.MethodName) ({ cls := "OwlEarsModel", name := "cellOf", desc := "(II)I" } : Jvm.MethodName)) ∈ lw_all := lw_g (lw_at lw_m6 103 rfl) rfl
theorem q1411 : (Jvm.Cond.code ({ cls := "OwlEarsModel", name := "cellOf", desc := "(II)I" } : Jvm.MethodName) prog_16_method_23_code (3 : Nat) (Option.some Jvm.ClassFile.FieldType.int)) ∈ lw_all := lw_g (lw_at lw_m6 104 rfl) rfl
theorem q1412 : (Jvm.Cond.methodLink "OwlEarsModel" (131 : Nat) ({ cls := "OwlEarsModel", name := "loudAt", desc := "(I)I" } : Jvm.MethodName)) ∈ lw_all := lw_g (lw_at lw_m6 105 rfl) rfl
theorem q1413 : (Jvm.Cond.privateMethod ({ cls := "OwlEarsModel", name := "loudAt", desc := "(I)I" } : Jvm.MethodName)) ∈ lw_tbl := lw_at lw_m6 106 rfl
theorem q1414 : (Jvm.Cond.instanceMethod ({ cls := "OwlEarsModel", name := "loudAt", desc := "(I)I" } : Jvm.MethodName)) ∈ lw_all := lw_g (lw_at lw_m6 107 rfl) rfl
theorem q1415 : (Jvm.Cond.code ({ cls := "OwlEarsModel", name := "loudAt", desc := "(I)I" } : Jvm.MethodName) prog_16_method_17_code (2 : Nat) (Option.some Jvm.ClassFile.FieldType.int)) ∈ lw_all := lw_g (lw_at lw_m6 108 rfl) rfl
theorem q1416 : (Jvm.Cond.methodLink "OwlEarsModel" (115 : Nat) ({ cls := "OwlEarsModel", name := "loud", desc := "()I" } : Jvm.MethodName)) ∈ lw_all := lw_g (lw_at lw_m6 109 rfl) rfl
theorem q1417 : (Jvm.Cond.privateMethod ({ cls := "OwlEarsModel", name := "loud", desc := "()I" } : Jvm.MethodName)) ∈ lw_tbl := lw_at lw_m6 110 rfl
theorem q1418 : (Jvm.Cond.instanceMethod ({ cls := "OwlEarsModel", name := "loud", desc := "()I" } : Jvm.MethodName)) ∈ lw_all := lw_g (lw_at lw_m6 111 rfl) rfl
theorem q1419 : (Jvm.Cond.code ({ cls := "OwlEarsModel", name := "loud", desc := "()I" } : Jvm.MethodName) prog_16_method_16_code (1 : Nat) (Option.some Jvm.ClassFile.FieldType.int)) ∈ lw_all := lw_g (lw_at lw_m6 112 rfl) rfl
theorem q1420 : (Jvm.Cond.methodLink "OwlEarsModel" (108 : Nat) ({ cls := "OwlEarsModel", name := "isRunning", desc := "()Z" } : Jvm.MethodName)) ∈ lw_all := lw_g (lw_at lw_m6 113 rfl) rfl
theorem q1421 : (Jvm.Cond.privateMethod ({ cls := "OwlEarsModel", name := "isRunning", desc := "()Z" } : Jvm.MethodName)) ∈ lw_tbl := lw_at lw_m6 114 rfl
theorem q1422 : (Jvm.Cond.instanceMethod ({ cls := "OwlEarsModel", name := "isRunning", desc := "()Z" } : Jvm.MethodName)) ∈ lw_all := lw_g (lw_at lw_m6 115 rfl) rfl
theorem q1423 : (Jvm.Cond.code ({ cls := "OwlEarsModel", name := "isRunning", desc := "()Z" } : Jvm.MethodName) prog_16_method_15_code (1 : Nat) (Option.some Jvm.ClassFile.FieldType.boolean)) ∈ lw_all := lw_g (lw_at lw_m6 116 rfl) rfl
theorem q1424 : (Jvm.Cond.methodLink "OwlEarsModel" (112 : Nat) ({ cls := "java/lang/Math", name := "max", desc := "(II)I" } : Jvm.MethodName)) ∈ lw_all := lw_g (lw_at lw_m6 117 rfl) rfl
theorem q1425 : (Jvm.Cond.methodLink "OwlEarsModel" (119 : Nat) ({ cls := "OwlEarsModel", name := "apart", desc := "(II)I" } : Jvm.MethodName)) ∈ lw_all := lw_g (lw_at lw_m6 118 rfl) rfl
theorem q1426 : (Jvm.Cond.static ({ cls := "OwlEarsModel", name := "apart", desc := "(II)I" } : Jvm.MethodName)) ∈ lw_all := lw_g (lw_at lw_m6 119 rfl) rfl
theorem q1427 : (Jvm.Cond.code ({ cls := "OwlEarsModel", name := "apart", desc := "(II)I" } : Jvm.MethodName) prog_16_method_10_code (2 : Nat) (Option.some Jvm.ClassFile.FieldType.int)) ∈ lw_all := lw_g (lw_at lw_m6 120 rfl) rfl
theorem q1428 : (Jvm.Cond.methodLink "OwlEarsModel" (88 : Nat) ({ cls := "java/lang/Math", name := "abs", desc := "(I)I" } : Jvm.MethodName)) ∈ lw_all := lw_g (lw_at lw_m6 121 rfl) rfl
theorem q1430 : (Jvm.Cond.instanceMethod ({ cls := "OwlEarsModel", name := "mouse", desc := "(II)I" } : Jvm.MethodName)) ∈ lw_all := lw_g (lw_at lw_m6 123 rfl) rfl
theorem q1431 : (Jvm.Cond.selects "OwlEarsModel" ({ cls := "OwlEarsModel", name := "mouse", desc := "(II)I" } : Jvm.MethodName) ({ cls := "OwlEarsModel", name := "mouse", desc := "(II)I" } : Jvm.MethodName)) ∈ lw_all := lw_g (lw_at lw_m6 124 rfl) rfl
theorem q1432 : (Jvm.Cond.code ({ cls := "OwlEarsModel", name := "mouse", desc := "(II)I" } : Jvm.MethodName) prog_16_method_25_code (3 : Nat) (Option.some Jvm.ClassFile.FieldType.int)) ∈ lw_all := lw_g (lw_at lw_m6 125 rfl) rfl
theorem q1433 : (Jvm.Cond.methodLink "OwlEarsModel" (140 : Nat) ({ cls := "OwlEarsModel", name := "mayBeMouse", desc := "(II)Z" } : Jvm.MethodName)) ∈ lw_all := lw_g (lw_at lw_m6 126 rfl) rfl
theorem q1434 : (Jvm.Cond.privateMethod ({ cls := "OwlEarsModel", name := "mayBeMouse", desc := "(II)Z" } : Jvm.MethodName)) ∈ lw_tbl := lw_at lw_m6 127 rfl
theorem q1435 : (Jvm.Cond.instanceMethod ({ cls := "OwlEarsModel", name := "mayBeMouse", desc := "(II)Z" } : Jvm.MethodName)) ∈ lw_all := lw_g (lw_at lw_m6 128 rfl) rfl
theorem q1436 : (Jvm.Cond.code ({ cls := "OwlEarsModel", name := "mayBeMouse", desc := "(II)Z" } : Jvm.MethodName) prog_16_method_24_code (3 : Nat) (Option.some Jvm.ClassFile.FieldType.boolean)) ∈ lw_all := lw_g (lw_at lw_m6 129 rfl) rfl
theorem q1437 : (Jvm.Cond.methodLink "OwlEarsModel" (137 : Nat) ({ cls := "OwlEarsModel", name := "isHeading", desc := "(I)Z" } : Jvm.MethodName)) ∈ lw_all := lw_g (lw_at lw_m6 130 rfl) rfl
theorem q1438 : (Jvm.Cond.static ({ cls := "OwlEarsModel", name := "isHeading", desc := "(I)Z" } : Jvm.MethodName)) ∈ lw_all := lw_g (lw_at lw_m6 131 rfl) rfl
theorem q1439 : (Jvm.Cond.code ({ cls := "OwlEarsModel", name := "isHeading", desc := "(I)Z" } : Jvm.MethodName) prog_16_method_9_code (1 : Nat) (Option.some Jvm.ClassFile.FieldType.boolean)) ∈ lw_all := lw_g (lw_at lw_m6 132 rfl) rfl
theorem q1441 : (Jvm.Cond.instanceMethod ({ cls := "OwlEarsModel", name := "owl", desc := "(II)I" } : Jvm.MethodName)) ∈ lw_all := lw_g (lw_at lw_m6 134 rfl) rfl
theorem q1442 : (Jvm.Cond.selects "OwlEarsModel" ({ cls := "OwlEarsModel", name := "owl", desc := "(II)I" } : Jvm.MethodName) ({ cls := "OwlEarsModel", name := "owl", desc := "(II)I" } : Jvm.MethodName)) ∈ lw_all := lw_g (lw_at lw_m6 135 rfl) rfl
theorem q1443 : (Jvm.Cond.code ({ cls := "OwlEarsModel", name := "owl", desc := "(II)I" } : Jvm.MethodName) prog_16_method_26_code (4 : Nat) (Option.some Jvm.ClassFile.FieldType.int)) ∈ lw_all := lw_g (lw_at lw_m6 136 rfl) rfl
theorem q1445 : (Jvm.Cond.instanceMethod ({ cls := "OwlEarsModel", name := "told", desc := "(I)I" } : Jvm.MethodName)) ∈ lw_all := lw_g (lw_at lw_m6 138 rfl) rfl
theorem q1446 : (Jvm.Cond.selects "OwlEarsModel" ({ cls := "OwlEarsModel", name := "told", desc := "(I)I" } : Jvm.MethodName) ({ cls := "OwlEarsModel", name := "told", desc := "(I)I" } : Jvm.MethodName)) ∈ lw_all := lw_g (lw_at lw_m6 139 rfl) rfl
theorem q1447 : (Jvm.Cond.code ({ cls := "OwlEarsModel", name := "told", desc := "(I)I" } : Jvm.MethodName) prog_16_method_27_code (2 : Nat) (Option.some Jvm.ClassFile.FieldType.int)) ∈ lw_all := lw_g (lw_at lw_m6 140 rfl) rfl
theorem q1449 : (Jvm.Cond.instanceMethod ({ cls := "OwlEarsModel", name := "strike", desc := "(II)I" } : Jvm.MethodName)) ∈ lw_all := lw_g (lw_at lw_m6 142 rfl) rfl
theorem q1450 : (Jvm.Cond.selects "OwlEarsModel" ({ cls := "OwlEarsModel", name := "strike", desc := "(II)I" } : Jvm.MethodName) ({ cls := "OwlEarsModel", name := "strike", desc := "(II)I" } : Jvm.MethodName)) ∈ lw_all := lw_g (lw_at lw_m6 143 rfl) rfl
theorem q1451 : (Jvm.Cond.code ({ cls := "OwlEarsModel", name := "strike", desc := "(II)I" } : Jvm.MethodName) prog_16_method_35_code (3 : Nat) (Option.some Jvm.ClassFile.FieldType.int)) ∈ lw_all := lw_g (lw_at lw_m6 144 rfl) rfl
theorem q1452 : (Jvm.Cond.methodLink "OwlEarsModel" (152 : Nat) ({ cls := "OwlEarsModel", name := "isKind", desc := "(I)Z" } : Jvm.MethodName)) ∈ lw_all := lw_g (lw_at lw_m6 145 rfl) rfl
theorem q1453 : (Jvm.Cond.static ({ cls := "OwlEarsModel", name := "isKind", desc := "(I)Z" } : Jvm.MethodName)) ∈ lw_all := lw_g (lw_at lw_m6 146 rfl) rfl
theorem q1454 : (Jvm.Cond.code ({ cls := "OwlEarsModel", name := "isKind", desc := "(I)Z" } : Jvm.MethodName) prog_16_method_31_code (1 : Nat) (Option.some Jvm.ClassFile.FieldType.boolean)) ∈ lw_all := lw_g (lw_at lw_m6 147 rfl) rfl
theorem q1455 : (Jvm.Cond.constant "OwlEarsModel" (155 : Nat) (-1000002 : Int32)) ∈ lw_all := lw_g (lw_at lw_m6 148 rfl) rfl
theorem q1456 : (Jvm.Cond.methodLink "OwlEarsModel" (156 : Nat) ({ cls := "OwlEarsModel", name := "comes", desc := "(III)I" } : Jvm.MethodName)) ∈ lw_all := lw_g (lw_at lw_m6 149 rfl) rfl
theorem q1457 : (Jvm.Cond.privateMethod ({ cls := "OwlEarsModel", name := "comes", desc := "(III)I" } : Jvm.MethodName)) ∈ lw_tbl := lw_at lw_m6 150 rfl
theorem q1458 : (Jvm.Cond.instanceMethod ({ cls := "OwlEarsModel", name := "comes", desc := "(III)I" } : Jvm.MethodName)) ∈ lw_all := lw_g (lw_at lw_m6 151 rfl) rfl
theorem q1459 : (Jvm.Cond.code ({ cls := "OwlEarsModel", name := "comes", desc := "(III)I" } : Jvm.MethodName) prog_16_method_34_code (5 : Nat) (Option.some Jvm.ClassFile.FieldType.int)) ∈ lw_all := lw_g (lw_at lw_m6 152 rfl) rfl
theorem q1460 : (Jvm.Cond.methodLink "OwlEarsModel" (149 : Nat) ({ cls := "OwlEarsModel", name := "place", desc := "(II)I" } : Jvm.MethodName)) ∈ lw_all := lw_g (lw_at lw_m6 153 rfl) rfl
theorem q1461 : (Jvm.Cond.static ({ cls := "OwlEarsModel", name := "place", desc := "(II)I" } : Jvm.MethodName)) ∈ lw_all := lw_g (lw_at lw_m6 154 rfl) rfl
theorem q1462 : (Jvm.Cond.code ({ cls := "OwlEarsModel", name := "place", desc := "(II)I" } : Jvm.MethodName) prog_16_method_32_code (2 : Nat) (Option.some Jvm.ClassFile.FieldType.int)) ∈ lw_all := lw_g (lw_at lw_m6 155 rfl) rfl
theorem q1464 : (Jvm.Cond.instanceMethod ({ cls := "OwlEarsModel", name := "of", desc := "(II)I" } : Jvm.MethodName)) ∈ lw_all := lw_g (lw_at lw_m6 157 rfl) rfl
theorem q1465 : (Jvm.Cond.selects "OwlEarsModel" ({ cls := "OwlEarsModel", name := "of", desc := "(II)I" } : Jvm.MethodName) ({ cls := "OwlEarsModel", name := "of", desc := "(II)I" } : Jvm.MethodName)) ∈ lw_all := lw_g (lw_at lw_m6 158 rfl) rfl
theorem q1466 : (Jvm.Cond.code ({ cls := "OwlEarsModel", name := "of", desc := "(II)I" } : Jvm.MethodName) prog_16_method_41_code (3 : Nat) (Option.some Jvm.ClassFile.FieldType.int)) ∈ lw_all := lw_g (lw_at lw_m6 159 rfl) rfl
theorem q1467 : (Jvm.Cond.methodLink "OwlEarsModel" (179 : Nat) ({ cls := "OwlEarsModel", name := "isStrike", desc := "(I)Z" } : Jvm.MethodName)) ∈ lw_all := lw_g (lw_at lw_m6 160 rfl) rfl
theorem q1468 : (Jvm.Cond.privateMethod ({ cls := "OwlEarsModel", name := "isStrike", desc := "(I)Z" } : Jvm.MethodName)) ∈ lw_tbl := lw_at lw_m6 161 rfl
theorem q1469 : (Jvm.Cond.instanceMethod ({ cls := "OwlEarsModel", name := "isStrike", desc := "(I)Z" } : Jvm.MethodName)) ∈ lw_all := lw_g (lw_at lw_m6 162 rfl) rfl
theorem q1470 : (Jvm.Cond.code ({ cls := "OwlEarsModel", name := "isStrike", desc := "(I)Z" } : Jvm.MethodName) prog_16_method_30_code (2 : Nat) (Option.some Jvm.ClassFile.FieldType.boolean)) ∈ lw_all := lw_g (lw_at lw_m6 163 rfl) rfl
theorem q1471 : (Jvm.Cond.methodLink "OwlEarsModel" (169 : Nat) ({ cls := "OwlEarsModel", name := "takes", desc := "(I)I" } : Jvm.MethodName)) ∈ lw_all := lw_g (lw_at lw_m6 164 rfl) rfl
theorem q1472 : (Jvm.Cond.privateMethod ({ cls := "OwlEarsModel", name := "takes", desc := "(I)I" } : Jvm.MethodName)) ∈ lw_tbl := lw_at lw_m6 165 rfl
theorem q1473 : (Jvm.Cond.instanceMethod ({ cls := "OwlEarsModel", name := "takes", desc := "(I)I" } : Jvm.MethodName)) ∈ lw_all := lw_g (lw_at lw_m6 166 rfl) rfl
theorem q1474 : (Jvm.Cond.code ({ cls := "OwlEarsModel", name := "takes", desc := "(I)I" } : Jvm.MethodName) prog_16_method_36_code (3 : Nat) (Option.some Jvm.ClassFile.FieldType.int)) ∈ lw_all := lw_g (lw_at lw_m6 167 rfl) rfl
theorem q1475 : (Jvm.Cond.methodLink "OwlEarsModel" (160 : Nat) ({ cls := "OwlEarsModel", name := "strikeIs", desc := "(II)I" } : Jvm.MethodName)) ∈ lw_all := lw_g (lw_at lw_m6 168 rfl) rfl
theorem q1476 : (Jvm.Cond.privateMethod ({ cls := "OwlEarsModel", name := "strikeIs", desc := "(II)I" } : Jvm.MethodName)) ∈ lw_tbl := lw_at lw_m6 169 rfl
theorem q1477 : (Jvm.Cond.instanceMethod ({ cls := "OwlEarsModel", name := "strikeIs", desc := "(II)I" } : Jvm.MethodName)) ∈ lw_all := lw_g (lw_at lw_m6 170 rfl) rfl
theorem q1478 : (Jvm.Cond.code ({ cls := "OwlEarsModel", name := "strikeIs", desc := "(II)I" } : Jvm.MethodName) prog_16_method_33_code (3 : Nat) (Option.some Jvm.ClassFile.FieldType.int)) ∈ lw_all := lw_g (lw_at lw_m6 171 rfl) rfl
theorem q1479 : (Jvm.Cond.methodLink "OwlEarsModel" (166 : Nat) ({ cls := "OwlEarsModel", name := "deep", desc := "(I)I" } : Jvm.MethodName)) ∈ lw_all := lw_g (lw_at lw_m6 172 rfl) rfl
theorem q1480 : (Jvm.Cond.privateMethod ({ cls := "OwlEarsModel", name := "deep", desc := "(I)I" } : Jvm.MethodName)) ∈ lw_tbl := lw_at lw_m6 173 rfl
theorem q1481 : (Jvm.Cond.instanceMethod ({ cls := "OwlEarsModel", name := "deep", desc := "(I)I" } : Jvm.MethodName)) ∈ lw_all := lw_g (lw_at lw_m6 174 rfl) rfl
theorem q1482 : (Jvm.Cond.code ({ cls := "OwlEarsModel", name := "deep", desc := "(I)I" } : Jvm.MethodName) prog_16_method_37_code (2 : Nat) (Option.some Jvm.ClassFile.FieldType.int)) ∈ lw_all := lw_g (lw_at lw_m6 175 rfl) rfl
theorem q1483 : (Jvm.Cond.methodLink "OwlEarsModel" (163 : Nat) ({ cls := "OwlEarsModel", name := "wide", desc := "(I)I" } : Jvm.MethodName)) ∈ lw_all := lw_g (lw_at lw_m6 176 rfl) rfl
theorem q1484 : (Jvm.Cond.privateMethod ({ cls := "OwlEarsModel", name := "wide", desc := "(I)I" } : Jvm.MethodName)) ∈ lw_tbl := lw_at lw_m6 177 rfl
theorem q1485 : (Jvm.Cond.instanceMethod ({ cls := "OwlEarsModel", name := "wide", desc := "(I)I" } : Jvm.MethodName)) ∈ lw_all := lw_g (lw_at lw_m6 178 rfl) rfl
theorem q1486 : (Jvm.Cond.code ({ cls := "OwlEarsModel", name := "wide", desc := "(I)I" } : Jvm.MethodName) prog_16_method_38_code (3 : Nat) (Option.some Jvm.ClassFile.FieldType.int)) ∈ lw_all := lw_g (lw_at lw_m6 179 rfl) rfl
theorem q1487 : (Jvm.Cond.methodLink "OwlEarsModel" (182 : Nat) ({ cls := "OwlEarsModel", name := "has", desc := "(I)Z" } : Jvm.MethodName)) ∈ lw_all := lw_g (lw_at lw_m6 180 rfl) rfl
theorem q1488 : (Jvm.Cond.privateMethod ({ cls := "OwlEarsModel", name := "has", desc := "(I)Z" } : Jvm.MethodName)) ∈ lw_tbl := lw_at lw_m6 181 rfl
theorem q1489 : (Jvm.Cond.instanceMethod ({ cls := "OwlEarsModel", name := "has", desc := "(I)Z" } : Jvm.MethodName)) ∈ lw_all := lw_g (lw_at lw_m6 182 rfl) rfl
theorem q1490 : (Jvm.Cond.code ({ cls := "OwlEarsModel", name := "has", desc := "(I)Z" } : Jvm.MethodName) prog_16_method_40_code (3 : Nat) (Option.some Jvm.ClassFile.FieldType.boolean)) ∈ lw_all := lw_g (lw_at lw_m6 183 rfl) rfl
theorem q1491 : (Jvm.Cond.methodLink "OwlEarsModel" (75 : Nat) ({ cls := "OwlEarsModel", name := "copyRow", desc := "([I[I)V" } : Jvm.MethodName)) ∈ lw_all := lw_g (lw_at lw_m6 184 rfl) rfl
theorem q1492 : (Jvm.Cond.static ({ cls := "OwlEarsModel", name := "copyRow", desc := "([I[I)V" } : Jvm.MethodName)) ∈ lw_all := lw_g (lw_at lw_m6 185 rfl) rfl
theorem q1493 : (Jvm.Cond.code ({ cls := "OwlEarsModel", name := "copyRow", desc := "([I[I)V" } : Jvm.MethodName) prog_16_method_5_code (3 : Nat) (Option.none : Option Jvm.ClassFile.FieldType)) ∈ lw_all := lw_g (lw_at lw_m6 186 rfl) rfl
theorem q1494 : (Jvm.Cond.methodLink "OwlEarsModel" (172 : Nat) ({ cls := "OwlEarsModel", name := "ticks", desc := "(I)V" } : Jvm.MethodName)) ∈ lw_all := lw_g (lw_at lw_m6 187 rfl) rfl
theorem q1495 : (Jvm.Cond.privateMethod ({ cls := "OwlEarsModel", name := "ticks", desc := "(I)V" } : Jvm.MethodName)) ∈ lw_tbl := lw_at lw_m6 188 rfl
theorem q1496 : (Jvm.Cond.instanceMethod ({ cls := "OwlEarsModel", name := "ticks", desc := "(I)V" } : Jvm.MethodName)) ∈ lw_all := lw_g (lw_at lw_m6 189 rfl) rfl
theorem q1497 : (Jvm.Cond.code ({ cls := "OwlEarsModel", name := "ticks", desc := "(I)V" } : Jvm.MethodName) prog_16_method_29_code (3 : Nat) (Option.none : Option Jvm.ClassFile.FieldType)) ∈ lw_all := lw_g (lw_at lw_m6 190 rfl) rfl
theorem q1498 : (Jvm.Cond.methodLink "OwlEarsModel" (146 : Nat) ({ cls := "OwlEarsModel", name := "tick", desc := "()V" } : Jvm.MethodName)) ∈ lw_all := lw_g (lw_at lw_m6 191 rfl) rfl
theorem q1499 : (Jvm.Cond.privateMethod ({ cls := "OwlEarsModel", name := "tick", desc := "()V" } : Jvm.MethodName)) ∈ lw_tbl := lw_at lw_m6 192 rfl
theorem q1500 : (Jvm.Cond.instanceMethod ({ cls := "OwlEarsModel", name := "tick", desc := "()V" } : Jvm.MethodName)) ∈ lw_all := lw_g (lw_at lw_m6 193 rfl) rfl
theorem q1501 : (Jvm.Cond.code ({ cls := "OwlEarsModel", name := "tick", desc := "()V" } : Jvm.MethodName) prog_16_method_28_code (2 : Nat) (Option.none : Option Jvm.ClassFile.FieldType)) ∈ lw_all := lw_g (lw_at lw_m6 194 rfl) rfl
theorem q1502 : (Jvm.Cond.methodLink "OwlEarsModel" (143 : Nat) ({ cls := "OwlEarsModel", name := "beside", desc := "(II)I" } : Jvm.MethodName)) ∈ lw_all := lw_g (lw_at lw_m6 195 rfl) rfl
theorem q1503 : (Jvm.Cond.static ({ cls := "OwlEarsModel", name := "beside", desc := "(II)I" } : Jvm.MethodName)) ∈ lw_all := lw_g (lw_at lw_m6 196 rfl) rfl
theorem q1504 : (Jvm.Cond.code ({ cls := "OwlEarsModel", name := "beside", desc := "(II)I" } : Jvm.MethodName) prog_16_method_11_code (2 : Nat) (Option.some Jvm.ClassFile.FieldType.int)) ∈ lw_all := lw_g (lw_at lw_m6 197 rfl) rfl
theorem q1505 : (Jvm.Cond.methodLink "OwlEarsModel" (176 : Nat) ({ cls := "OwlEarsModel", name := "reaches", desc := "(I)Z" } : Jvm.MethodName)) ∈ lw_all := lw_g (lw_at lw_m6 198 rfl) rfl
theorem q1506 : (Jvm.Cond.privateMethod ({ cls := "OwlEarsModel", name := "reaches", desc := "(I)Z" } : Jvm.MethodName)) ∈ lw_tbl := lw_at lw_m6 199 rfl
theorem q1507 : (Jvm.Cond.instanceMethod ({ cls := "OwlEarsModel", name := "reaches", desc := "(I)Z" } : Jvm.MethodName)) ∈ lw_all := lw_g (lw_at lw_m6 200 rfl) rfl
theorem q1508 : (Jvm.Cond.code ({ cls := "OwlEarsModel", name := "reaches", desc := "(I)Z" } : Jvm.MethodName) prog_16_method_39_code (2 : Nat) (Option.some Jvm.ClassFile.FieldType.boolean)) ∈ lw_all := lw_g (lw_at lw_m6 201 rfl) rfl
theorem q1510 : (Jvm.Cond.instanceMethod ({ cls := "OwlEarsModel", name := "change", desc := "(III)I" } : Jvm.MethodName)) ∈ lw_all := lw_g (lw_at lw_m6 203 rfl) rfl
theorem q1511 : (Jvm.Cond.selects "OwlEarsModel" ({ cls := "OwlEarsModel", name := "change", desc := "(III)I" } : Jvm.MethodName) ({ cls := "OwlEarsModel", name := "change", desc := "(III)I" } : Jvm.MethodName)) ∈ lw_all := lw_g (lw_at lw_m6 204 rfl) rfl
theorem q1512 : (Jvm.Cond.code ({ cls := "OwlEarsModel", name := "change", desc := "(III)I" } : Jvm.MethodName) prog_16_method_43_code (4 : Nat) (Option.some Jvm.ClassFile.FieldType.int)) ∈ lw_all := lw_g (lw_at lw_m6 205 rfl) rfl
theorem q1513 : (Jvm.Cond.methodLink "OwlEarsModel" (185 : Nat) ({ cls := "OwlEarsModel", name := "mayBe", desc := "(II)Z" } : Jvm.MethodName)) ∈ lw_all := lw_g (lw_at lw_m6 206 rfl) rfl
theorem q1514 : (Jvm.Cond.static ({ cls := "OwlEarsModel", name := "mayBe", desc := "(II)Z" } : Jvm.MethodName)) ∈ lw_all := lw_g (lw_at lw_m6 207 rfl) rfl
theorem q1515 : (Jvm.Cond.code ({ cls := "OwlEarsModel", name := "mayBe", desc := "(II)Z" } : Jvm.MethodName) prog_16_method_42_code (2 : Nat) (Option.some Jvm.ClassFile.FieldType.boolean)) ∈ lw_all := lw_g (lw_at lw_m6 208 rfl) rfl
theorem q1517 : (Jvm.Cond.instanceMethod ({ cls := "OwlEarsModel", name := "strikes", desc := "(I)I" } : Jvm.MethodName)) ∈ lw_all := lw_g (lw_at lw_m6 210 rfl) rfl
theorem q1518 : (Jvm.Cond.selects "OwlEarsModel" ({ cls := "OwlEarsModel", name := "strikes", desc := "(I)I" } : Jvm.MethodName) ({ cls := "OwlEarsModel", name := "strikes", desc := "(I)I" } : Jvm.MethodName)) ∈ lw_all := lw_g (lw_at lw_m6 211 rfl) rfl
theorem q1519 : (Jvm.Cond.code ({ cls := "OwlEarsModel", name := "strikes", desc := "(I)I" } : Jvm.MethodName) prog_16_method_45_code (2 : Nat) (Option.some Jvm.ClassFile.FieldType.int)) ∈ lw_all := lw_g (lw_at lw_m6 212 rfl) rfl
theorem q1520 : (Jvm.Cond.constant "OwlEarsModel" (191 : Nat) (99999 : Int32)) ∈ lw_all := lw_g (lw_at lw_m6 213 rfl) rfl
theorem q1521 : (Jvm.Cond.constant "OwlEarsModel" (192 : Nat) (-1000005 : Int32)) ∈ lw_all := lw_g (lw_at lw_m6 214 rfl) rfl
theorem q1522 : (Jvm.Cond.methodLink "OwlEarsModel" (193 : Nat) ({ cls := "OwlEarsModel", name := "strikesNow", desc := "(I)I" } : Jvm.MethodName)) ∈ lw_all := lw_g (lw_at lw_m6 215 rfl) rfl
theorem q1523 : (Jvm.Cond.privateMethod ({ cls := "OwlEarsModel", name := "strikesNow", desc := "(I)I" } : Jvm.MethodName)) ∈ lw_tbl := lw_at lw_m6 216 rfl
theorem q1524 : (Jvm.Cond.instanceMethod ({ cls := "OwlEarsModel", name := "strikesNow", desc := "(I)I" } : Jvm.MethodName)) ∈ lw_all := lw_g (lw_at lw_m6 217 rfl) rfl
theorem q1525 : (Jvm.Cond.code ({ cls := "OwlEarsModel", name := "strikesNow", desc := "(I)I" } : Jvm.MethodName) prog_16_method_44_code (2 : Nat) (Option.some Jvm.ClassFile.FieldType.int)) ∈ lw_all := lw_g (lw_at lw_m6 218 rfl) rfl
theorem q1526 : (Jvm.Cond.methodLink "OwlEarsModel" (188 : Nat) ({ cls := "java/lang/Math", name := "min", desc := "(II)I" } : Jvm.MethodName)) ∈ lw_all := lw_g (lw_at lw_m6 219 rfl) rfl
theorem q1528 : (Jvm.Cond.instanceMethod ({ cls := "OwlEarsModel", name := "go", desc := "(I)I" } : Jvm.MethodName)) ∈ lw_all := lw_g (lw_at lw_m6 221 rfl) rfl
theorem q1529 : (Jvm.Cond.selects "OwlEarsModel" ({ cls := "OwlEarsModel", name := "go", desc := "(I)I" } : Jvm.MethodName) ({ cls := "OwlEarsModel", name := "go", desc := "(I)I" } : Jvm.MethodName)) ∈ lw_all := lw_g (lw_at lw_m6 222 rfl) rfl
theorem q1530 : (Jvm.Cond.code ({ cls := "OwlEarsModel", name := "go", desc := "(I)I" } : Jvm.MethodName) prog_16_method_46_code (2 : Nat) (Option.some Jvm.ClassFile.FieldType.int)) ∈ lw_all := lw_g (lw_at lw_m6 223 rfl) rfl
theorem q1532 : (Jvm.Cond.instanceMethod ({ cls := "OwlEarsModel", name := "now", desc := "(I)I" } : Jvm.MethodName)) ∈ lw_all := lw_g (lw_at lw_m6 225 rfl) rfl
theorem q1533 : (Jvm.Cond.selects "OwlEarsModel" ({ cls := "OwlEarsModel", name := "now", desc := "(I)I" } : Jvm.MethodName) ({ cls := "OwlEarsModel", name := "now", desc := "(I)I" } : Jvm.MethodName)) ∈ lw_all := lw_g (lw_at lw_m6 226 rfl) rfl
theorem q1534 : (Jvm.Cond.code ({ cls := "OwlEarsModel", name := "now", desc := "(I)I" } : Jvm.MethodName) prog_16_method_51_code (2 : Nat) (Option.some Jvm.ClassFile.FieldType.int)) ∈ lw_all := lw_g (lw_at lw_m6 227 rfl) rfl
theorem q1535 : (Jvm.Cond.methodLink "OwlEarsModel" (196 : Nat) ({ cls := "OwlEarsModel", name := "hears", desc := "()Z" } : Jvm.MethodName)) ∈ lw_all := lw_g (lw_at lw_m6 228 rfl) rfl
theorem q1536 : (Jvm.Cond.privateMethod ({ cls := "OwlEarsModel", name := "hears", desc := "()Z" } : Jvm.MethodName)) ∈ lw_tbl := lw_at lw_m6 229 rfl
theorem q1537 : (Jvm.Cond.instanceMethod ({ cls := "OwlEarsModel", name := "hears", desc := "()Z" } : Jvm.MethodName)) ∈ lw_all := lw_g (lw_at lw_m6 230 rfl) rfl
theorem q1538 : (Jvm.Cond.code ({ cls := "OwlEarsModel", name := "hears", desc := "()Z" } : Jvm.MethodName) prog_16_method_22_code (1 : Nat) (Option.some Jvm.ClassFile.FieldType.boolean)) ∈ lw_all := lw_g (lw_at lw_m6 231 rfl) rfl
theorem q1539 : (Jvm.Cond.methodLink "OwlEarsModel" (134 : Nat) ({ cls := "OwlEarsModel", name := "isAhead", desc := "()Z" } : Jvm.MethodName)) ∈ lw_all := lw_g (lw_at lw_m6 232 rfl) rfl
theorem q1540 : (Jvm.Cond.privateMethod ({ cls := "OwlEarsModel", name := "isAhead", desc := "()Z" } : Jvm.MethodName)) ∈ lw_tbl := lw_at lw_m6 233 rfl
theorem q1541 : (Jvm.Cond.instanceMethod ({ cls := "OwlEarsModel", name := "isAhead", desc := "()Z" } : Jvm.MethodName)) ∈ lw_all := lw_g (lw_at lw_m6 234 rfl) rfl
theorem q1542 : (Jvm.Cond.code ({ cls := "OwlEarsModel", name := "isAhead", desc := "()Z" } : Jvm.MethodName) prog_16_method_21_code (2 : Nat) (Option.some Jvm.ClassFile.FieldType.boolean)) ∈ lw_all := lw_g (lw_at lw_m6 235 rfl) rfl
theorem q1543 : (Jvm.Cond.methodLink "OwlEarsModel" (125 : Nat) ({ cls := "OwlEarsModel", name := "high", desc := "()I" } : Jvm.MethodName)) ∈ lw_all := lw_g (lw_at lw_m6 236 rfl) rfl
theorem q1544 : (Jvm.Cond.privateMethod ({ cls := "OwlEarsModel", name := "high", desc := "()I" } : Jvm.MethodName)) ∈ lw_tbl := lw_at lw_m6 237 rfl
theorem q1545 : (Jvm.Cond.instanceMethod ({ cls := "OwlEarsModel", name := "high", desc := "()I" } : Jvm.MethodName)) ∈ lw_all := lw_g (lw_at lw_m6 238 rfl) rfl
theorem q1546 : (Jvm.Cond.code ({ cls := "OwlEarsModel", name := "high", desc := "()I" } : Jvm.MethodName) prog_16_method_20_code (1 : Nat) (Option.some Jvm.ClassFile.FieldType.int)) ∈ lw_all := lw_g (lw_at lw_m6 239 rfl) rfl
theorem q1547 : (Jvm.Cond.methodLink "OwlEarsModel" (122 : Nat) ({ cls := "OwlEarsModel", name := "sign", desc := "(I)I" } : Jvm.MethodName)) ∈ lw_all := lw_g (lw_at lw_m7 0 rfl) rfl
theorem q1548 : (Jvm.Cond.static ({ cls := "OwlEarsModel", name := "sign", desc := "(I)I" } : Jvm.MethodName)) ∈ lw_all := lw_g (lw_at lw_m7 1 rfl) rfl
theorem q1549 : (Jvm.Cond.code ({ cls := "OwlEarsModel", name := "sign", desc := "(I)I" } : Jvm.MethodName) prog_16_method_18_code (1 : Nat) (Option.some Jvm.ClassFile.FieldType.int)) ∈ lw_all := lw_g (lw_at lw_m7 2 rfl) rfl
theorem q1550 : (Jvm.Cond.methodLink "OwlEarsModel" (128 : Nat) ({ cls := "OwlEarsModel", name := "side", desc := "()I" } : Jvm.MethodName)) ∈ lw_all := lw_g (lw_at lw_m7 3 rfl) rfl
theorem q1551 : (Jvm.Cond.privateMethod ({ cls := "OwlEarsModel", name := "side", desc := "()I" } : Jvm.MethodName)) ∈ lw_tbl := lw_at lw_m7 4 rfl
theorem q1552 : (Jvm.Cond.instanceMethod ({ cls := "OwlEarsModel", name := "side", desc := "()I" } : Jvm.MethodName)) ∈ lw_all := lw_g (lw_at lw_m7 5 rfl) rfl
theorem q1553 : (Jvm.Cond.code ({ cls := "OwlEarsModel", name := "side", desc := "()I" } : Jvm.MethodName) prog_16_method_19_code (1 : Nat) (Option.some Jvm.ClassFile.FieldType.int)) ∈ lw_all := lw_g (lw_at lw_m7 6 rfl) rfl
theorem q1554 : (Jvm.Cond.methodLink "OwlEarsModel" (199 : Nat) ({ cls := "OwlEarsModel", name := "having", desc := "()I" } : Jvm.MethodName)) ∈ lw_all := lw_g (lw_at lw_m7 7 rfl) rfl
theorem q1555 : (Jvm.Cond.privateMethod ({ cls := "OwlEarsModel", name := "having", desc := "()I" } : Jvm.MethodName)) ∈ lw_tbl := lw_at lw_m7 8 rfl
theorem q1556 : (Jvm.Cond.instanceMethod ({ cls := "OwlEarsModel", name := "having", desc := "()I" } : Jvm.MethodName)) ∈ lw_all := lw_g (lw_at lw_m7 9 rfl) rfl
theorem q1557 : (Jvm.Cond.code ({ cls := "OwlEarsModel", name := "having", desc := "()I" } : Jvm.MethodName) prog_16_method_47_code (3 : Nat) (Option.some Jvm.ClassFile.FieldType.int)) ∈ lw_all := lw_g (lw_at lw_m7 10 rfl) rfl
theorem q1558 : (Jvm.Cond.methodLink "OwlEarsModel" (202 : Nat) ({ cls := "OwlEarsModel", name := "hadAll", desc := "()I" } : Jvm.MethodName)) ∈ lw_all := lw_g (lw_at lw_m7 11 rfl) rfl
theorem q1559 : (Jvm.Cond.privateMethod ({ cls := "OwlEarsModel", name := "hadAll", desc := "()I" } : Jvm.MethodName)) ∈ lw_tbl := lw_at lw_m7 12 rfl
theorem q1560 : (Jvm.Cond.instanceMethod ({ cls := "OwlEarsModel", name := "hadAll", desc := "()I" } : Jvm.MethodName)) ∈ lw_all := lw_g (lw_at lw_m7 13 rfl) rfl
theorem q1561 : (Jvm.Cond.code ({ cls := "OwlEarsModel", name := "hadAll", desc := "()I" } : Jvm.MethodName) prog_16_method_49_code (3 : Nat) (Option.some Jvm.ClassFile.FieldType.int)) ∈ lw_all := lw_g (lw_at lw_m7 14 rfl) rfl
theorem q1562 : (Jvm.Cond.methodLink "OwlEarsModel" (205 : Nat) ({ cls := "OwlEarsModel", name := "snowAll", desc := "()I" } : Jvm.MethodName)) ∈ lw_all := lw_g (lw_at lw_m7 15 rfl) rfl
theorem q1563 : (Jvm.Cond.privateMethod ({ cls := "OwlEarsModel", name := "snowAll", desc := "()I" } : Jvm.MethodName)) ∈ lw_tbl := lw_at lw_m7 16 rfl
theorem q1564 : (Jvm.Cond.instanceMethod ({ cls := "OwlEarsModel", name := "snowAll", desc := "()I" } : Jvm.MethodName)) ∈ lw_all := lw_g (lw_at lw_m7 17 rfl) rfl
theorem q1565 : (Jvm.Cond.code ({ cls := "OwlEarsModel", name := "snowAll", desc := "()I" } : Jvm.MethodName) prog_16_method_50_code (3 : Nat) (Option.some Jvm.ClassFile.FieldType.int)) ∈ lw_all := lw_g (lw_at lw_m7 18 rfl) rfl
theorem q1567 : (Jvm.Cond.instanceMethod ({ cls := "OwlEarsModel", name := "ear", desc := "(I)I" } : Jvm.MethodName)) ∈ lw_all := lw_g (lw_at lw_m7 20 rfl) rfl
theorem q1568 : (Jvm.Cond.selects "OwlEarsModel" ({ cls := "OwlEarsModel", name := "ear", desc := "(I)I" } : Jvm.MethodName) ({ cls := "OwlEarsModel", name := "ear", desc := "(I)I" } : Jvm.MethodName)) ∈ lw_all := lw_g (lw_at lw_m7 21 rfl) rfl
theorem q1569 : (Jvm.Cond.code ({ cls := "OwlEarsModel", name := "ear", desc := "(I)I" } : Jvm.MethodName) prog_16_method_52_code (2 : Nat) (Option.some Jvm.ClassFile.FieldType.int)) ∈ lw_all := lw_g (lw_at lw_m7 22 rfl) rfl
theorem q1570 : (Jvm.Cond.constant "OwlEarsModel" (79 : Nat) (-1000004 : Int32)) ∈ lw_all := lw_g (lw_at lw_m7 23 rfl) rfl
theorem q1572 : (Jvm.Cond.instanceMethod ({ cls := "OwlEarsModel", name := "where", desc := "(I)I" } : Jvm.MethodName)) ∈ lw_all := lw_g (lw_at lw_m7 25 rfl) rfl
theorem q1573 : (Jvm.Cond.selects "OwlEarsModel" ({ cls := "OwlEarsModel", name := "where", desc := "(I)I" } : Jvm.MethodName) ({ cls := "OwlEarsModel", name := "where", desc := "(I)I" } : Jvm.MethodName)) ∈ lw_all := lw_g (lw_at lw_m7 26 rfl) rfl
theorem q1574 : (Jvm.Cond.code ({ cls := "OwlEarsModel", name := "where", desc := "(I)I" } : Jvm.MethodName) prog_16_method_54_code (2 : Nat) (Option.some Jvm.ClassFile.FieldType.int)) ∈ lw_all := lw_g (lw_at lw_m7 27 rfl) rfl
theorem q1575 : (Jvm.Cond.methodLink "OwlEarsModel" (208 : Nat) ({ cls := "OwlEarsModel", name := "isAheadBy", desc := "(I)Z" } : Jvm.MethodName)) ∈ lw_all := lw_g (lw_at lw_m7 28 rfl) rfl
theorem q1576 : (Jvm.Cond.static ({ cls := "OwlEarsModel", name := "isAheadBy", desc := "(I)Z" } : Jvm.MethodName)) ∈ lw_all := lw_g (lw_at lw_m7 29 rfl) rfl
theorem q1577 : (Jvm.Cond.code ({ cls := "OwlEarsModel", name := "isAheadBy", desc := "(I)Z" } : Jvm.MethodName) prog_16_method_53_code (1 : Nat) (Option.some Jvm.ClassFile.FieldType.boolean)) ∈ lw_all := lw_g (lw_at lw_m7 30 rfl) rfl
theorem q1578 : (Jvm.Cond.methodLink "OwlEarsModel" (211 : Nat) ({ cls := "OwlEarsModel", name := "putBack", desc := "(I)I" } : Jvm.MethodName)) ∈ lw_all := lw_g (lw_at lw_m7 31 rfl) rfl
theorem q1579 : (Jvm.Cond.privateMethod ({ cls := "OwlEarsModel", name := "putBack", desc := "(I)I" } : Jvm.MethodName)) ∈ lw_tbl := lw_at lw_m7 32 rfl
theorem q1580 : (Jvm.Cond.instanceMethod ({ cls := "OwlEarsModel", name := "putBack", desc := "(I)I" } : Jvm.MethodName)) ∈ lw_all := lw_g (lw_at lw_m7 33 rfl) rfl
theorem q1581 : (Jvm.Cond.code ({ cls := "OwlEarsModel", name := "putBack", desc := "(I)I" } : Jvm.MethodName) prog_16_method_6_code (2 : Nat) (Option.some Jvm.ClassFile.FieldType.int)) ∈ lw_all := lw_g (lw_at lw_m7 34 rfl) rfl
theorem q1583 : (Jvm.Cond.instanceMethod ({ cls := "OwlEarsModel", name := "heard", desc := "(I)I" } : Jvm.MethodName)) ∈ lw_all := lw_g (lw_at lw_m7 36 rfl) rfl
theorem q1584 : (Jvm.Cond.selects "OwlEarsModel" ({ cls := "OwlEarsModel", name := "heard", desc := "(I)I" } : Jvm.MethodName) ({ cls := "OwlEarsModel", name := "heard", desc := "(I)I" } : Jvm.MethodName)) ∈ lw_all := lw_g (lw_at lw_m7 37 rfl) rfl
theorem q1585 : (Jvm.Cond.code ({ cls := "OwlEarsModel", name := "heard", desc := "(I)I" } : Jvm.MethodName) prog_16_method_56_code (2 : Nat) (Option.some Jvm.ClassFile.FieldType.int)) ∈ lw_all := lw_g (lw_at lw_m7 38 rfl) rfl
theorem q1586 : (Jvm.Cond.methodLink "OwlEarsModel" (218 : Nat) ({ cls := "OwlEarsModel", name := "heardIn", desc := "(I)I" } : Jvm.MethodName)) ∈ lw_all := lw_g (lw_at lw_m7 39 rfl) rfl
theorem q1587 : (Jvm.Cond.privateMethod ({ cls := "OwlEarsModel", name := "heardIn", desc := "(I)I" } : Jvm.MethodName)) ∈ lw_tbl := lw_at lw_m7 40 rfl
theorem q1588 : (Jvm.Cond.instanceMethod ({ cls := "OwlEarsModel", name := "heardIn", desc := "(I)I" } : Jvm.MethodName)) ∈ lw_all := lw_g (lw_at lw_m7 41 rfl) rfl
theorem q1589 : (Jvm.Cond.code ({ cls := "OwlEarsModel", name := "heardIn", desc := "(I)I" } : Jvm.MethodName) prog_16_method_55_code (4 : Nat) (Option.some Jvm.ClassFile.FieldType.int)) ∈ lw_all := lw_g (lw_at lw_m7 42 rfl) rfl
theorem q1591 : (Jvm.Cond.instanceMethod ({ cls := "OwlEarsModel", name := "when", desc := "(I)I" } : Jvm.MethodName)) ∈ lw_all := lw_g (lw_at lw_m7 44 rfl) rfl
theorem q1592 : (Jvm.Cond.selects "OwlEarsModel" ({ cls := "OwlEarsModel", name := "when", desc := "(I)I" } : Jvm.MethodName) ({ cls := "OwlEarsModel", name := "when", desc := "(I)I" } : Jvm.MethodName)) ∈ lw_all := lw_g (lw_at lw_m7 45 rfl) rfl
theorem q1593 : (Jvm.Cond.code ({ cls := "OwlEarsModel", name := "when", desc := "(I)I" } : Jvm.MethodName) prog_16_method_57_code (3 : Nat) (Option.some Jvm.ClassFile.FieldType.int)) ∈ lw_all := lw_g (lw_at lw_m7 46 rfl) rfl
theorem q1594 : (Jvm.Cond.methodLink "OwlEarsModel" (221 : Nat) ({ cls := "OwlEarsModel", name := "orNone", desc := "(I)I" } : Jvm.MethodName)) ∈ lw_all := lw_g (lw_at lw_m7 47 rfl) rfl
theorem q1595 : (Jvm.Cond.privateMethod ({ cls := "OwlEarsModel", name := "orNone", desc := "(I)I" } : Jvm.MethodName)) ∈ lw_tbl := lw_at lw_m7 48 rfl
theorem q1596 : (Jvm.Cond.instanceMethod ({ cls := "OwlEarsModel", name := "orNone", desc := "(I)I" } : Jvm.MethodName)) ∈ lw_all := lw_g (lw_at lw_m7 49 rfl) rfl
theorem q1597 : (Jvm.Cond.code ({ cls := "OwlEarsModel", name := "orNone", desc := "(I)I" } : Jvm.MethodName) prog_16_method_7_code (2 : Nat) (Option.some Jvm.ClassFile.FieldType.int)) ∈ lw_all := lw_g (lw_at lw_m7 50 rfl) rfl
theorem q1599 : (Jvm.Cond.instanceMethod ({ cls := "OwlEarsModel", name := "rustle", desc := "()I" } : Jvm.MethodName)) ∈ lw_all := lw_g (lw_at lw_m7 52 rfl) rfl
theorem q1600 : (Jvm.Cond.selects "OwlEarsModel" ({ cls := "OwlEarsModel", name := "rustle", desc := "()I" } : Jvm.MethodName) ({ cls := "OwlEarsModel", name := "rustle", desc := "()I" } : Jvm.MethodName)) ∈ lw_all := lw_g (lw_at lw_m7 53 rfl) rfl
theorem q1601 : (Jvm.Cond.code ({ cls := "OwlEarsModel", name := "rustle", desc := "()I" } : Jvm.MethodName) prog_16_method_58_code (2 : Nat) (Option.some Jvm.ClassFile.FieldType.int)) ∈ lw_all := lw_g (lw_at lw_m7 54 rfl) rfl
theorem q1603 : (Jvm.Cond.instanceMethod ({ cls := "OwlEarsModel", name := "run", desc := "(I)J" } : Jvm.MethodName)) ∈ lw_all := lw_g (lw_at lw_m7 56 rfl) rfl
theorem q1604 : (Jvm.Cond.selects "OwlEarsModel" ({ cls := "OwlEarsModel", name := "run", desc := "(I)J" } : Jvm.MethodName) ({ cls := "OwlEarsModel", name := "run", desc := "(I)J" } : Jvm.MethodName)) ∈ lw_all := lw_g (lw_at lw_m7 57 rfl) rfl
theorem q1605 : (Jvm.Cond.code ({ cls := "OwlEarsModel", name := "run", desc := "(I)J" } : Jvm.MethodName) prog_16_method_59_code (5 : Nat) (Option.some Jvm.ClassFile.FieldType.long)) ∈ lw_all := lw_g (lw_at lw_m7 58 rfl) rfl
theorem q1607 : (Jvm.Cond.instanceMethod ({ cls := "OwlEarsModel", name := "soonest", desc := "(I)I" } : Jvm.MethodName)) ∈ lw_all := lw_g (lw_at lw_m7 60 rfl) rfl
theorem q1608 : (Jvm.Cond.selects "OwlEarsModel" ({ cls := "OwlEarsModel", name := "soonest", desc := "(I)I" } : Jvm.MethodName) ({ cls := "OwlEarsModel", name := "soonest", desc := "(I)I" } : Jvm.MethodName)) ∈ lw_all := lw_g (lw_at lw_m7 61 rfl) rfl
theorem q1609 : (Jvm.Cond.code ({ cls := "OwlEarsModel", name := "soonest", desc := "(I)I" } : Jvm.MethodName) prog_16_method_60_code (3 : Nat) (Option.some Jvm.ClassFile.FieldType.int)) ∈ lw_all := lw_g (lw_at lw_m7 62 rfl) rfl
theorem q1611 : (Jvm.Cond.instanceMethod ({ cls := "OwlEarsModel", name := "chances", desc := "(II)I" } : Jvm.MethodName)) ∈ lw_all := lw_g (lw_at lw_m7 64 rfl) rfl
theorem q1612 : (Jvm.Cond.selects "OwlEarsModel" ({ cls := "OwlEarsModel", name := "chances", desc := "(II)I" } : Jvm.MethodName) ({ cls := "OwlEarsModel", name := "chances", desc := "(II)I" } : Jvm.MethodName)) ∈ lw_all := lw_g (lw_at lw_m7 65 rfl) rfl
theorem q1613 : (Jvm.Cond.code ({ cls := "OwlEarsModel", name := "chances", desc := "(II)I" } : Jvm.MethodName) prog_16_method_62_code (3 : Nat) (Option.some Jvm.ClassFile.FieldType.int)) ∈ lw_all := lw_g (lw_at lw_m7 66 rfl) rfl
theorem q1614 : (Jvm.Cond.methodLink "OwlEarsModel" (224 : Nat) ({ cls := "OwlEarsModel", name := "chancesIn", desc := "(II)I" } : Jvm.MethodName)) ∈ lw_all := lw_g (lw_at lw_m7 67 rfl) rfl
theorem q1615 : (Jvm.Cond.privateMethod ({ cls := "OwlEarsModel", name := "chancesIn", desc := "(II)I" } : Jvm.MethodName)) ∈ lw_tbl := lw_at lw_m7 68 rfl
theorem q1616 : (Jvm.Cond.instanceMethod ({ cls := "OwlEarsModel", name := "chancesIn", desc := "(II)I" } : Jvm.MethodName)) ∈ lw_all := lw_g (lw_at lw_m7 69 rfl) rfl
theorem q1617 : (Jvm.Cond.code ({ cls := "OwlEarsModel", name := "chancesIn", desc := "(II)I" } : Jvm.MethodName) prog_16_method_61_code (5 : Nat) (Option.some Jvm.ClassFile.FieldType.int)) ∈ lw_all := lw_g (lw_at lw_m7 70 rfl) rfl
theorem q1619 : (Jvm.Cond.instanceMethod ({ cls := "OwlEarsModel", name := "aim", desc := "(I)I" } : Jvm.MethodName)) ∈ lw_all := lw_g (lw_at lw_m7 72 rfl) rfl
theorem q1620 : (Jvm.Cond.selects "OwlEarsModel" ({ cls := "OwlEarsModel", name := "aim", desc := "(I)I" } : Jvm.MethodName) ({ cls := "OwlEarsModel", name := "aim", desc := "(I)I" } : Jvm.MethodName)) ∈ lw_all := lw_g (lw_at lw_m7 73 rfl) rfl
theorem q1621 : (Jvm.Cond.code ({ cls := "OwlEarsModel", name := "aim", desc := "(I)I" } : Jvm.MethodName) prog_16_method_64_code (5 : Nat) (Option.some Jvm.ClassFile.FieldType.int)) ∈ lw_all := lw_g (lw_at lw_m7 74 rfl) rfl
theorem q1622 : (Jvm.Cond.methodLink "OwlEarsModel" (227 : Nat) ({ cls := "OwlEarsModel", name := "aimsOf", desc := "(I)J" } : Jvm.MethodName)) ∈ lw_all := lw_g (lw_at lw_m7 75 rfl) rfl
theorem q1623 : (Jvm.Cond.privateMethod ({ cls := "OwlEarsModel", name := "aimsOf", desc := "(I)J" } : Jvm.MethodName)) ∈ lw_tbl := lw_at lw_m7 76 rfl
theorem q1624 : (Jvm.Cond.instanceMethod ({ cls := "OwlEarsModel", name := "aimsOf", desc := "(I)J" } : Jvm.MethodName)) ∈ lw_all := lw_g (lw_at lw_m7 77 rfl) rfl
theorem q1625 : (Jvm.Cond.code ({ cls := "OwlEarsModel", name := "aimsOf", desc := "(I)J" } : Jvm.MethodName) prog_16_method_63_code (6 : Nat) (Option.some Jvm.ClassFile.FieldType.long)) ∈ lw_all := lw_g (lw_at lw_m7 78 rfl) rfl
theorem q1627 : (Jvm.Cond.instanceMethod ({ cls := "OwlEarsModel", name := "aims", desc := "(I)J" } : Jvm.MethodName)) ∈ lw_all := lw_g (lw_at lw_m7 80 rfl) rfl
theorem q1628 : (Jvm.Cond.selects "OwlEarsModel" ({ cls := "OwlEarsModel", name := "aims", desc := "(I)J" } : Jvm.MethodName) ({ cls := "OwlEarsModel", name := "aims", desc := "(I)J" } : Jvm.MethodName)) ∈ lw_all := lw_g (lw_at lw_m7 81 rfl) rfl
theorem q1629 : (Jvm.Cond.code ({ cls := "OwlEarsModel", name := "aims", desc := "(I)J" } : Jvm.MethodName) prog_16_method_65_code (2 : Nat) (Option.some Jvm.ClassFile.FieldType.long)) ∈ lw_all := lw_g (lw_at lw_m7 82 rfl) rfl
theorem q1631 : (Jvm.Cond.instanceMethod ({ cls := "OwlEarsModel", name := "kinds", desc := "(I)I" } : Jvm.MethodName)) ∈ lw_all := lw_g (lw_at lw_m7 84 rfl) rfl
theorem q1632 : (Jvm.Cond.selects "OwlEarsModel" ({ cls := "OwlEarsModel", name := "kinds", desc := "(I)I" } : Jvm.MethodName) ({ cls := "OwlEarsModel", name := "kinds", desc := "(I)I" } : Jvm.MethodName)) ∈ lw_all := lw_g (lw_at lw_m7 85 rfl) rfl
theorem q1633 : (Jvm.Cond.code ({ cls := "OwlEarsModel", name := "kinds", desc := "(I)I" } : Jvm.MethodName) prog_16_method_67_code (2 : Nat) (Option.some Jvm.ClassFile.FieldType.int)) ∈ lw_all := lw_g (lw_at lw_m7 86 rfl) rfl
theorem q1634 : (Jvm.Cond.methodLink "OwlEarsModel" (231 : Nat) ({ cls := "OwlEarsModel", name := "good", desc := "(III)I" } : Jvm.MethodName)) ∈ lw_all := lw_g (lw_at lw_m7 87 rfl) rfl
theorem q1635 : (Jvm.Cond.privateMethod ({ cls := "OwlEarsModel", name := "good", desc := "(III)I" } : Jvm.MethodName)) ∈ lw_tbl := lw_at lw_m7 88 rfl
theorem q1636 : (Jvm.Cond.instanceMethod ({ cls := "OwlEarsModel", name := "good", desc := "(III)I" } : Jvm.MethodName)) ∈ lw_all := lw_g (lw_at lw_m7 89 rfl) rfl
theorem q1637 : (Jvm.Cond.code ({ cls := "OwlEarsModel", name := "good", desc := "(III)I" } : Jvm.MethodName) prog_16_method_66_code (7 : Nat) (Option.some Jvm.ClassFile.FieldType.int)) ∈ lw_all := lw_g (lw_at lw_m7 90 rfl) rfl
theorem q1639 : (Jvm.Cond.instanceMethod ({ cls := "OwlEarsModel", name := "waitFor", desc := "(I)I" } : Jvm.MethodName)) ∈ lw_all := lw_g (lw_at lw_m7 92 rfl) rfl
theorem q1640 : (Jvm.Cond.selects "OwlEarsModel" ({ cls := "OwlEarsModel", name := "waitFor", desc := "(I)I" } : Jvm.MethodName) ({ cls := "OwlEarsModel", name := "waitFor", desc := "(I)I" } : Jvm.MethodName)) ∈ lw_all := lw_g (lw_at lw_m7 93 rfl) rfl
theorem q1641 : (Jvm.Cond.code ({ cls := "OwlEarsModel", name := "waitFor", desc := "(I)I" } : Jvm.MethodName) prog_16_method_68_code (3 : Nat) (Option.some Jvm.ClassFile.FieldType.int)) ∈ lw_all := lw_g (lw_at lw_m7 94 rfl) rfl
theorem q1642 : (Jvm.Cond.methodLink "OwlEarsModel" (234 : Nat) ({ cls := "OwlEarsModel", name := "bits", desc := "(I)I" } : Jvm.MethodName)) ∈ lw_all := lw_g (lw_at lw_m7 95 rfl) rfl
theorem q1643 : (Jvm.Cond.static ({ cls := "OwlEarsModel", name := "bits", desc := "(I)I" } : Jvm.MethodName)) ∈ lw_all := lw_g (lw_at lw_m7 96 rfl) rfl
theorem q1644 : (Jvm.Cond.code ({ cls := "OwlEarsModel", name := "bits", desc := "(I)I" } : Jvm.MethodName) prog_16_method_48_code (3 : Nat) (Option.some Jvm.ClassFile.FieldType.int)) ∈ lw_all := lw_g (lw_at lw_m7 97 rfl) rfl
theorem q1646 : (Jvm.Cond.instanceMethod ({ cls := "OwlEarsModel", name := "best", desc := "(I)I" } : Jvm.MethodName)) ∈ lw_all := lw_g (lw_at lw_m7 99 rfl) rfl
theorem q1647 : (Jvm.Cond.selects "OwlEarsModel" ({ cls := "OwlEarsModel", name := "best", desc := "(I)I" } : Jvm.MethodName) ({ cls := "OwlEarsModel", name := "best", desc := "(I)I" } : Jvm.MethodName)) ∈ lw_all := lw_g (lw_at lw_m7 100 rfl) rfl
theorem q1648 : (Jvm.Cond.code ({ cls := "OwlEarsModel", name := "best", desc := "(I)I" } : Jvm.MethodName) prog_16_method_70_code (6 : Nat) (Option.some Jvm.ClassFile.FieldType.int)) ∈ lw_all := lw_g (lw_at lw_m7 101 rfl) rfl
theorem q1649 : (Jvm.Cond.methodLink "OwlEarsModel" (237 : Nat) ({ cls := "OwlEarsModel", name := "isLooked", desc := "(I)Z" } : Jvm.MethodName)) ∈ lw_all := lw_g (lw_at lw_m7 102 rfl) rfl
theorem q1650 : (Jvm.Cond.static ({ cls := "OwlEarsModel", name := "isLooked", desc := "(I)Z" } : Jvm.MethodName)) ∈ lw_all := lw_g (lw_at lw_m7 103 rfl) rfl
theorem q1651 : (Jvm.Cond.code ({ cls := "OwlEarsModel", name := "isLooked", desc := "(I)Z" } : Jvm.MethodName) prog_16_method_69_code (1 : Nat) (Option.some Jvm.ClassFile.FieldType.boolean)) ∈ lw_all := lw_g (lw_at lw_m7 104 rfl) rfl
theorem q1653 : (Jvm.Cond.instanceMethod ({ cls := "OwlEarsModel", name := "post", desc := "(I)I" } : Jvm.MethodName)) ∈ lw_all := lw_g (lw_at lw_m7 106 rfl) rfl
theorem q1654 : (Jvm.Cond.selects "OwlEarsModel" ({ cls := "OwlEarsModel", name := "post", desc := "(I)I" } : Jvm.MethodName) ({ cls := "OwlEarsModel", name := "post", desc := "(I)I" } : Jvm.MethodName)) ∈ lw_all := lw_g (lw_at lw_m7 107 rfl) rfl
theorem q1655 : (Jvm.Cond.code ({ cls := "OwlEarsModel", name := "post", desc := "(I)I" } : Jvm.MethodName) prog_16_method_72_code (2 : Nat) (Option.some Jvm.ClassFile.FieldType.int)) ∈ lw_all := lw_g (lw_at lw_m7 108 rfl) rfl
theorem q1656 : (Jvm.Cond.methodLink "OwlEarsModel" (240 : Nat) ({ cls := "OwlEarsModel", name := "mostHeard", desc := "(III)I" } : Jvm.MethodName)) ∈ lw_all := lw_g (lw_at lw_m7 109 rfl) rfl
theorem q1657 : (Jvm.Cond.privateMethod ({ cls := "OwlEarsModel", name := "mostHeard", desc := "(III)I" } : Jvm.MethodName)) ∈ lw_tbl := lw_at lw_m7 110 rfl
theorem q1658 : (Jvm.Cond.instanceMethod ({ cls := "OwlEarsModel", name := "mostHeard", desc := "(III)I" } : Jvm.MethodName)) ∈ lw_all := lw_g (lw_at lw_m7 111 rfl) rfl
theorem q1659 : (Jvm.Cond.code ({ cls := "OwlEarsModel", name := "mostHeard", desc := "(III)I" } : Jvm.MethodName) prog_16_method_71_code (9 : Nat) (Option.some Jvm.ClassFile.FieldType.int)) ∈ lw_all := lw_g (lw_at lw_m7 112 rfl) rfl
theorem q1661 : (Jvm.Cond.instanceMethod ({ cls := "OwlEarsModel", name := "face", desc := "(I)I" } : Jvm.MethodName)) ∈ lw_all := lw_g (lw_at lw_m7 114 rfl) rfl
theorem q1662 : (Jvm.Cond.selects "OwlEarsModel" ({ cls := "OwlEarsModel", name := "face", desc := "(I)I" } : Jvm.MethodName) ({ cls := "OwlEarsModel", name := "face", desc := "(I)I" } : Jvm.MethodName)) ∈ lw_all := lw_g (lw_at lw_m7 115 rfl) rfl
theorem q1663 : (Jvm.Cond.code ({ cls := "OwlEarsModel", name := "face", desc := "(I)I" } : Jvm.MethodName) prog_16_method_73_code (2 : Nat) (Option.some Jvm.ClassFile.FieldType.int)) ∈ lw_all := lw_g (lw_at lw_m7 116 rfl) rfl
theorem q1665 : (Jvm.Cond.instanceMethod ({ cls := "OwlEarsModel", name := "rhythm", desc := "(II)I" } : Jvm.MethodName)) ∈ lw_all := lw_g (lw_at lw_m7 118 rfl) rfl
theorem q1666 : (Jvm.Cond.selects "OwlEarsModel" ({ cls := "OwlEarsModel", name := "rhythm", desc := "(II)I" } : Jvm.MethodName) ({ cls := "OwlEarsModel", name := "rhythm", desc := "(II)I" } : Jvm.MethodName)) ∈ lw_all := lw_g (lw_at lw_m7 119 rfl) rfl
theorem q1667 : (Jvm.Cond.code ({ cls := "OwlEarsModel", name := "rhythm", desc := "(II)I" } : Jvm.MethodName) prog_16_method_76_code (3 : Nat) (Option.some Jvm.ClassFile.FieldType.int)) ∈ lw_all := lw_g (lw_at lw_m7 120 rfl) rfl
theorem q1668 : (Jvm.Cond.methodLink "OwlEarsModel" (246 : Nat) ({ cls := "OwlEarsModel", name := "isRhythm", desc := "(II)Z" } : Jvm.MethodName)) ∈ lw_all := lw_g (lw_at lw_m7 121 rfl) rfl
theorem q1669 : (Jvm.Cond.static ({ cls := "OwlEarsModel", name := "isRhythm", desc := "(II)Z" } : Jvm.MethodName)) ∈ lw_all := lw_g (lw_at lw_m7 122 rfl) rfl
theorem q1670 : (Jvm.Cond.code ({ cls := "OwlEarsModel", name := "isRhythm", desc := "(II)Z" } : Jvm.MethodName) prog_16_method_75_code (2 : Nat) (Option.some Jvm.ClassFile.FieldType.boolean)) ∈ lw_all := lw_g (lw_at lw_m7 123 rfl) rfl
theorem q1671 : (Jvm.Cond.methodLink "OwlEarsModel" (249 : Nat) ({ cls := "OwlEarsModel", name := "quietest", desc := "(II)I" } : Jvm.MethodName)) ∈ lw_all := lw_g (lw_at lw_m7 124 rfl) rfl
theorem q1672 : (Jvm.Cond.privateMethod ({ cls := "OwlEarsModel", name := "quietest", desc := "(II)I" } : Jvm.MethodName)) ∈ lw_tbl := lw_at lw_m7 125 rfl
theorem q1673 : (Jvm.Cond.instanceMethod ({ cls := "OwlEarsModel", name := "quietest", desc := "(II)I" } : Jvm.MethodName)) ∈ lw_all := lw_g (lw_at lw_m7 126 rfl) rfl
theorem q1674 : (Jvm.Cond.code ({ cls := "OwlEarsModel", name := "quietest", desc := "(II)I" } : Jvm.MethodName) prog_16_method_74_code (10 : Nat) (Option.some Jvm.ClassFile.FieldType.int)) ∈ lw_all := lw_g (lw_at lw_m7 127 rfl) rfl
theorem q1676 : (Jvm.Cond.instanceMethod ({ cls := "OwlEarsModel", name := "least", desc := "(II)I" } : Jvm.MethodName)) ∈ lw_all := lw_g (lw_at lw_m7 129 rfl) rfl
theorem q1677 : (Jvm.Cond.selects "OwlEarsModel" ({ cls := "OwlEarsModel", name := "least", desc := "(II)I" } : Jvm.MethodName) ({ cls := "OwlEarsModel", name := "least", desc := "(II)I" } : Jvm.MethodName)) ∈ lw_all := lw_g (lw_at lw_m7 130 rfl) rfl
theorem q1678 : (Jvm.Cond.code ({ cls := "OwlEarsModel", name := "least", desc := "(II)I" } : Jvm.MethodName) prog_16_method_77_code (4 : Nat) (Option.some Jvm.ClassFile.FieldType.int)) ∈ lw_all := lw_g (lw_at lw_m7 131 rfl) rfl
theorem q1680 : (Jvm.Cond.instanceMethod ({ cls := "OwlEarsModel", name := "fits", desc := "(II)J" } : Jvm.MethodName)) ∈ lw_all := lw_g (lw_at lw_m7 133 rfl) rfl
theorem q1681 : (Jvm.Cond.selects "OwlEarsModel" ({ cls := "OwlEarsModel", name := "fits", desc := "(II)J" } : Jvm.MethodName) ({ cls := "OwlEarsModel", name := "fits", desc := "(II)J" } : Jvm.MethodName)) ∈ lw_all := lw_g (lw_at lw_m7 134 rfl) rfl
theorem q1682 : (Jvm.Cond.code ({ cls := "OwlEarsModel", name := "fits", desc := "(II)J" } : Jvm.MethodName) prog_16_method_83_code (3 : Nat) (Option.some Jvm.ClassFile.FieldType.long)) ∈ lw_all := lw_g (lw_at lw_m7 135 rfl) rfl
theorem q1683 : (Jvm.Cond.methodLink "OwlEarsModel" (265 : Nat) ({ cls := "OwlEarsModel", name := "lacksFor", desc := "(II)I" } : Jvm.MethodName)) ∈ lw_all := lw_g (lw_at lw_m7 136 rfl) rfl
theorem q1684 : (Jvm.Cond.privateMethod ({ cls := "OwlEarsModel", name := "lacksFor", desc := "(II)I" } : Jvm.MethodName)) ∈ lw_tbl := lw_at lw_m7 137 rfl
theorem q1685 : (Jvm.Cond.instanceMethod ({ cls := "OwlEarsModel", name := "lacksFor", desc := "(II)I" } : Jvm.MethodName)) ∈ lw_all := lw_g (lw_at lw_m7 138 rfl) rfl
theorem q1686 : (Jvm.Cond.code ({ cls := "OwlEarsModel", name := "lacksFor", desc := "(II)I" } : Jvm.MethodName) prog_16_method_79_code (3 : Nat) (Option.some Jvm.ClassFile.FieldType.int)) ∈ lw_all := lw_g (lw_at lw_m7 139 rfl) rfl
theorem q1687 : (Jvm.Cond.methodLink "OwlEarsModel" (256 : Nat) ({ cls := "OwlEarsModel", name := "lacks", desc := "(I)I" } : Jvm.MethodName)) ∈ lw_all := lw_g (lw_at lw_m7 140 rfl) rfl
theorem q1688 : (Jvm.Cond.privateMethod ({ cls := "OwlEarsModel", name := "lacks", desc := "(I)I" } : Jvm.MethodName)) ∈ lw_tbl := lw_at lw_m7 141 rfl
theorem q1689 : (Jvm.Cond.instanceMethod ({ cls := "OwlEarsModel", name := "lacks", desc := "(I)I" } : Jvm.MethodName)) ∈ lw_all := lw_g (lw_at lw_m7 142 rfl) rfl
theorem q1690 : (Jvm.Cond.code ({ cls := "OwlEarsModel", name := "lacks", desc := "(I)I" } : Jvm.MethodName) prog_16_method_78_code (2 : Nat) (Option.some Jvm.ClassFile.FieldType.int)) ∈ lw_all := lw_g (lw_at lw_m7 143 rfl) rfl
theorem q1691 : (Jvm.Cond.methodLink "OwlEarsModel" (252 : Nat) ({ cls := "OwlEarsModel", name := "isSheet", desc := "(I)Z" } : Jvm.MethodName)) ∈ lw_all := lw_g (lw_at lw_m7 144 rfl) rfl
theorem q1692 : (Jvm.Cond.static ({ cls := "OwlEarsModel", name := "isSheet", desc := "(I)Z" } : Jvm.MethodName)) ∈ lw_all := lw_g (lw_at lw_m7 145 rfl) rfl
theorem q1693 : (Jvm.Cond.code ({ cls := "OwlEarsModel", name := "isSheet", desc := "(I)Z" } : Jvm.MethodName) prog_16_method_109_code (1 : Nat) (Option.some Jvm.ClassFile.FieldType.boolean)) ∈ lw_all := lw_g (lw_at lw_m7 146 rfl) rfl
theorem q1694 : (Jvm.Cond.constant "OwlEarsModel" (255 : Nat) (-1000006 : Int32)) ∈ lw_all := lw_g (lw_at lw_m7 147 rfl) rfl
theorem q1695 : (Jvm.Cond.methodLink "OwlEarsModel" (268 : Nat) ({ cls := "OwlEarsModel", name := "fitting", desc := "(IIII)J" } : Jvm.MethodName)) ∈ lw_all := lw_g (lw_at lw_m7 148 rfl) rfl
theorem q1696 : (Jvm.Cond.privateMethod ({ cls := "OwlEarsModel", name := "fitting", desc := "(IIII)J" } : Jvm.MethodName)) ∈ lw_tbl := lw_at lw_m7 149 rfl
theorem q1697 : (Jvm.Cond.instanceMethod ({ cls := "OwlEarsModel", name := "fitting", desc := "(IIII)J" } : Jvm.MethodName)) ∈ lw_all := lw_g (lw_at lw_m7 150 rfl) rfl
theorem q1698 : (Jvm.Cond.code ({ cls := "OwlEarsModel", name := "fitting", desc := "(IIII)J" } : Jvm.MethodName) prog_16_method_82_code (9 : Nat) (Option.some Jvm.ClassFile.FieldType.long)) ∈ lw_all := lw_g (lw_at lw_m7 151 rfl) rfl
theorem q1699 : (Jvm.Cond.methodLink "OwlEarsModel" (262 : Nat) ({ cls := "OwlEarsModel", name := "wasHeard", desc := "(II)Z" } : Jvm.MethodName)) ∈ lw_all := lw_g (lw_at lw_m7 152 rfl) rfl
theorem q1700 : (Jvm.Cond.privateMethod ({ cls := "OwlEarsModel", name := "wasHeard", desc := "(II)Z" } : Jvm.MethodName)) ∈ lw_tbl := lw_at lw_m7 153 rfl
theorem q1701 : (Jvm.Cond.instanceMethod ({ cls := "OwlEarsModel", name := "wasHeard", desc := "(II)Z" } : Jvm.MethodName)) ∈ lw_all := lw_g (lw_at lw_m7 154 rfl) rfl
theorem q1702 : (Jvm.Cond.code ({ cls := "OwlEarsModel", name := "wasHeard", desc := "(II)Z" } : Jvm.MethodName) prog_16_method_81_code (5 : Nat) (Option.some Jvm.ClassFile.FieldType.boolean)) ∈ lw_all := lw_g (lw_at lw_m7 155 rfl) rfl
theorem q1703 : (Jvm.Cond.methodLink "OwlEarsModel" (259 : Nat) ({ cls := "OwlEarsModel", name := "isHeardSo", desc := "(II)Z" } : Jvm.MethodName)) ∈ lw_all := lw_g (lw_at lw_m7 156 rfl) rfl
theorem q1704 : (Jvm.Cond.privateMethod ({ cls := "OwlEarsModel", name := "isHeardSo", desc := "(II)Z" } : Jvm.MethodName)) ∈ lw_tbl := lw_at lw_m7 157 rfl
theorem q1705 : (Jvm.Cond.instanceMethod ({ cls := "OwlEarsModel", name := "isHeardSo", desc := "(II)Z" } : Jvm.MethodName)) ∈ lw_all := lw_g (lw_at lw_m7 158 rfl) rfl
theorem q1706 : (Jvm.Cond.code ({ cls := "OwlEarsModel", name := "isHeardSo", desc := "(II)Z" } : Jvm.MethodName) prog_16_method_80_code (5 : Nat) (Option.some Jvm.ClassFile.FieldType.boolean)) ∈ lw_all := lw_g (lw_at lw_m7 159 rfl) rfl
theorem q1708 : (Jvm.Cond.instanceMethod ({ cls := "OwlEarsModel", name := "headings", desc := "(II)I" } : Jvm.MethodName)) ∈ lw_all := lw_g (lw_at lw_m7 161 rfl) rfl
theorem q1709 : (Jvm.Cond.selects "OwlEarsModel" ({ cls := "OwlEarsModel", name := "headings", desc := "(II)I" } : Jvm.MethodName) ({ cls := "OwlEarsModel", name := "headings", desc := "(II)I" } : Jvm.MethodName)) ∈ lw_all := lw_g (lw_at lw_m7 162 rfl) rfl
theorem q1710 : (Jvm.Cond.code ({ cls := "OwlEarsModel", name := "headings", desc := "(II)I" } : Jvm.MethodName) prog_16_method_84_code (3 : Nat) (Option.some Jvm.ClassFile.FieldType.int)) ∈ lw_all := lw_g (lw_at lw_m7 163 rfl) rfl
theorem q1712 : (Jvm.Cond.instanceMethod ({ cls := "OwlEarsModel", name := "leaves", desc := "(I)I" } : Jvm.MethodName)) ∈ lw_all := lw_g (lw_at lw_m7 165 rfl) rfl
theorem q1713 : (Jvm.Cond.selects "OwlEarsModel" ({ cls := "OwlEarsModel", name := "leaves", desc := "(I)I" } : Jvm.MethodName) ({ cls := "OwlEarsModel", name := "leaves", desc := "(I)I" } : Jvm.MethodName)) ∈ lw_all := lw_g (lw_at lw_m7 166 rfl) rfl
theorem q1714 : (Jvm.Cond.code ({ cls := "OwlEarsModel", name := "leaves", desc := "(I)I" } : Jvm.MethodName) prog_16_method_86_code (5 : Nat) (Option.some Jvm.ClassFile.FieldType.int)) ∈ lw_all := lw_g (lw_at lw_m7 167 rfl) rfl
theorem q1715 : (Jvm.Cond.methodLink "OwlEarsModel" (273 : Nat) ({ cls := "OwlEarsModel", name := "drawn", desc := "()I" } : Jvm.MethodName)) ∈ lw_all := lw_g (lw_at lw_m7 168 rfl) rfl
theorem q1716 : (Jvm.Cond.privateMethod ({ cls := "OwlEarsModel", name := "drawn", desc := "()I" } : Jvm.MethodName)) ∈ lw_tbl := lw_at lw_m7 169 rfl
theorem q1717 : (Jvm.Cond.instanceMethod ({ cls := "OwlEarsModel", name := "drawn", desc := "()I" } : Jvm.MethodName)) ∈ lw_all := lw_g (lw_at lw_m7 170 rfl) rfl
theorem q1718 : (Jvm.Cond.code ({ cls := "OwlEarsModel", name := "drawn", desc := "()I" } : Jvm.MethodName) prog_16_method_85_code (1 : Nat) (Option.some Jvm.ClassFile.FieldType.int)) ∈ lw_all := lw_g (lw_at lw_m7 171 rfl) rfl
theorem q1719 : (Jvm.Cond.constant "OwlEarsModel" (272 : Nat) (1103515245 : Int32)) ∈ lw_all := lw_g (lw_at lw_m7 172 rfl) rfl
theorem q1721 : (Jvm.Cond.instanceMethod ({ cls := "OwlEarsModel", name := "odds", desc := "(II)J" } : Jvm.MethodName)) ∈ lw_all := lw_g (lw_at lw_m7 174 rfl) rfl
theorem q1722 : (Jvm.Cond.selects "OwlEarsModel" ({ cls := "OwlEarsModel", name := "odds", desc := "(II)J" } : Jvm.MethodName) ({ cls := "OwlEarsModel", name := "odds", desc := "(II)J" } : Jvm.MethodName)) ∈ lw_all := lw_g (lw_at lw_m7 175 rfl) rfl
theorem q1723 : (Jvm.Cond.code ({ cls := "OwlEarsModel", name := "odds", desc := "(II)J" } : Jvm.MethodName) prog_16_method_87_code (9 : Nat) (Option.some Jvm.ClassFile.FieldType.long)) ∈ lw_all := lw_g (lw_at lw_m7 176 rfl) rfl
theorem q1725 : (Jvm.Cond.instanceMethod ({ cls := "OwlEarsModel", name := "seed", desc := "(I)I" } : Jvm.MethodName)) ∈ lw_all := lw_g (lw_at lw_m7 178 rfl) rfl
theorem q1726 : (Jvm.Cond.selects "OwlEarsModel" ({ cls := "OwlEarsModel", name := "seed", desc := "(I)I" } : Jvm.MethodName) ({ cls := "OwlEarsModel", name := "seed", desc := "(I)I" } : Jvm.MethodName)) ∈ lw_all := lw_g (lw_at lw_m7 179 rfl) rfl
theorem q1727 : (Jvm.Cond.code ({ cls := "OwlEarsModel", name := "seed", desc := "(I)I" } : Jvm.MethodName) prog_16_method_88_code (2 : Nat) (Option.some Jvm.ClassFile.FieldType.int)) ∈ lw_all := lw_g (lw_at lw_m7 180 rfl) rfl
theorem q1729 : (Jvm.Cond.instanceMethod ({ cls := "OwlEarsModel", name := "feed", desc := "(II)I" } : Jvm.MethodName)) ∈ lw_all := lw_g (lw_at lw_m7 182 rfl) rfl
theorem q1730 : (Jvm.Cond.selects "OwlEarsModel" ({ cls := "OwlEarsModel", name := "feed", desc := "(II)I" } : Jvm.MethodName) ({ cls := "OwlEarsModel", name := "feed", desc := "(II)I" } : Jvm.MethodName)) ∈ lw_all := lw_g (lw_at lw_m7 183 rfl) rfl
theorem q1731 : (Jvm.Cond.code ({ cls := "OwlEarsModel", name := "feed", desc := "(II)I" } : Jvm.MethodName) prog_16_method_89_code (4 : Nat) (Option.some Jvm.ClassFile.FieldType.int)) ∈ lw_all := lw_g (lw_at lw_m7 184 rfl) rfl
theorem q1733 : (Jvm.Cond.instanceMethod ({ cls := "OwlEarsModel", name := "wipe", desc := "()I" } : Jvm.MethodName)) ∈ lw_all := lw_g (lw_at lw_m7 186 rfl) rfl
theorem q1734 : (Jvm.Cond.selects "OwlEarsModel" ({ cls := "OwlEarsModel", name := "wipe", desc := "()I" } : Jvm.MethodName) ({ cls := "OwlEarsModel", name := "wipe", desc := "()I" } : Jvm.MethodName)) ∈ lw_all := lw_g (lw_at lw_m7 187 rfl) rfl
theorem q1735 : (Jvm.Cond.code ({ cls := "OwlEarsModel", name := "wipe", desc := "()I" } : Jvm.MethodName) prog_16_method_90_code (2 : Nat) (Option.some Jvm.ClassFile.FieldType.int)) ∈ lw_all := lw_g (lw_at lw_m7 188 rfl) rfl
theorem q1737 : (Jvm.Cond.instanceMethod ({ cls := "OwlEarsModel", name := "text", desc := "()I" } : Jvm.MethodName)) ∈ lw_all := lw_g (lw_at lw_m7 190 rfl) rfl
theorem q1738 : (Jvm.Cond.selects "OwlEarsModel" ({ cls := "OwlEarsModel", name := "text", desc := "()I" } : Jvm.MethodName) ({ cls := "OwlEarsModel", name := "text", desc := "()I" } : Jvm.MethodName)) ∈ lw_all := lw_g (lw_at lw_m7 191 rfl) rfl
theorem q1739 : (Jvm.Cond.code ({ cls := "OwlEarsModel", name := "text", desc := "()I" } : Jvm.MethodName) prog_16_method_105_code (3 : Nat) (Option.some Jvm.ClassFile.FieldType.int)) ∈ lw_all := lw_g (lw_at lw_m7 192 rfl) rfl
theorem q1740 : (Jvm.Cond.methodLink "OwlEarsModel" (305 : Nat) ({ cls := "OwlEarsModel", name := "next", desc := "()V" } : Jvm.MethodName)) ∈ lw_all := lw_g (lw_at lw_m7 193 rfl) rfl
theorem q1741 : (Jvm.Cond.privateMethod ({ cls := "OwlEarsModel", name := "next", desc := "()V" } : Jvm.MethodName)) ∈ lw_tbl := lw_at lw_m7 194 rfl
theorem q1742 : (Jvm.Cond.instanceMethod ({ cls := "OwlEarsModel", name := "next", desc := "()V" } : Jvm.MethodName)) ∈ lw_all := lw_g (lw_at lw_m7 195 rfl) rfl
theorem q1743 : (Jvm.Cond.code ({ cls := "OwlEarsModel", name := "next", desc := "()V" } : Jvm.MethodName) prog_16_method_92_code (2 : Nat) (Option.none : Option Jvm.ClassFile.FieldType)) ∈ lw_all := lw_g (lw_at lw_m7 196 rfl) rfl
theorem q1744 : (Jvm.Cond.methodLink "OwlEarsModel" (285 : Nat) ({ cls := "OwlEarsModel", name := "byteAt", desc := "(I)I" } : Jvm.MethodName)) ∈ lw_all := lw_g (lw_at lw_m7 197 rfl) rfl
theorem q1745 : (Jvm.Cond.privateMethod ({ cls := "OwlEarsModel", name := "byteAt", desc := "(I)I" } : Jvm.MethodName)) ∈ lw_tbl := lw_at lw_m7 198 rfl
theorem q1746 : (Jvm.Cond.instanceMethod ({ cls := "OwlEarsModel", name := "byteAt", desc := "(I)I" } : Jvm.MethodName)) ∈ lw_all := lw_g (lw_at lw_m7 199 rfl) rfl
theorem q1747 : (Jvm.Cond.code ({ cls := "OwlEarsModel", name := "byteAt", desc := "(I)I" } : Jvm.MethodName) prog_16_method_91_code (2 : Nat) (Option.some Jvm.ClassFile.FieldType.int)) ∈ lw_all := lw_g (lw_at lw_m7 200 rfl) rfl
theorem q1748 : (Jvm.Cond.methodLink "OwlEarsModel" (364 : Nat) ({ cls := "OwlEarsModel", name := "readItem", desc := "()V" } : Jvm.MethodName)) ∈ lw_all := lw_g (lw_at lw_m7 201 rfl) rfl
theorem q1749 : (Jvm.Cond.privateMethod ({ cls := "OwlEarsModel", name := "readItem", desc := "()V" } : Jvm.MethodName)) ∈ lw_tbl := lw_at lw_m7 202 rfl
theorem q1750 : (Jvm.Cond.instanceMethod ({ cls := "OwlEarsModel", name := "readItem", desc := "()V" } : Jvm.MethodName)) ∈ lw_all := lw_g (lw_at lw_m7 203 rfl) rfl
theorem q1751 : (Jvm.Cond.code ({ cls := "OwlEarsModel", name := "readItem", desc := "()V" } : Jvm.MethodName) prog_16_method_102_code (3 : Nat) (Option.none : Option Jvm.ClassFile.FieldType)) ∈ lw_all := lw_g (lw_at lw_m7 204 rfl) rfl
theorem q1752 : (Jvm.Cond.methodLink "OwlEarsModel" (319 : Nat) ({ cls := "OwlEarsModel", name := "wordOf", desc := "([Ljava/lang/String;)I" } : Jvm.MethodName)) ∈ lw_all := lw_g (lw_at lw_m7 205 rfl) rfl
theorem q1753 : (Jvm.Cond.privateMethod ({ cls := "OwlEarsModel", name := "wordOf", desc := "([Ljava/lang/String;)I" } : Jvm.MethodName)) ∈ lw_tbl := lw_at lw_m7 206 rfl
theorem q1754 : (Jvm.Cond.instanceMethod ({ cls := "OwlEarsModel", name := "wordOf", desc := "([Ljava/lang/String;)I" } : Jvm.MethodName)) ∈ lw_all := lw_g (lw_at lw_m7 207 rfl) rfl
theorem q1755 : (Jvm.Cond.code ({ cls := "OwlEarsModel", name := "wordOf", desc := "([Ljava/lang/String;)I" } : Jvm.MethodName) prog_16_method_97_code (4 : Nat) (Option.some Jvm.ClassFile.FieldType.int)) ∈ lw_all := lw_g (lw_at lw_m7 208 rfl) rfl
theorem q1756 : (Jvm.Cond.methodLink "OwlEarsModel" (315 : Nat) ({ cls := "OwlEarsModel", name := "isWord", desc := "(Ljava/lang/String;)Z" } : Jvm.MethodName)) ∈ lw_all := lw_g (lw_at lw_m7 209 rfl) rfl
theorem q1757 : (Jvm.Cond.privateMethod ({ cls := "OwlEarsModel", name := "isWord", desc := "(Ljava/lang/String;)Z" } : Jvm.MethodName)) ∈ lw_tbl := lw_at lw_m7 210 rfl
theorem q1758 : (Jvm.Cond.instanceMethod ({ cls := "OwlEarsModel", name := "isWord", desc := "(Ljava/lang/String;)Z" } : Jvm.MethodName)) ∈ lw_all := lw_g (lw_at lw_m7 211 rfl) rfl
theorem q1759 : (Jvm.Cond.code ({ cls := "OwlEarsModel", name := "isWord", desc := "(Ljava/lang/String;)Z" } : Jvm.MethodName) prog_16_method_93_code (4 : Nat) (Option.some Jvm.ClassFile.FieldType.boolean)) ∈ lw_all := lw_g (lw_at lw_m7 212 rfl) rfl
theorem q1760 : (Jvm.Cond.methodLink "OwlEarsModel" (294 : Nat) ({ cls := "java/lang/String", name := "length", desc := "()I" } : Jvm.MethodName)) ∈ lw_all := lw_g (lw_at lw_m7 213 rfl) rfl
theorem q1768 : (Jvm.Cond.methodLink "OwlEarsModel" (297 : Nat) ({ cls := "java/lang/String", name := "charAt", desc := "(I)C" } : Jvm.MethodName)) ∈ lw_all := lw_g (lw_at lw_m7 221 rfl) rfl
theorem q1769 : (Jvm.Cond.methodLink "OwlEarsModel" (308 : Nat) ({ cls := "OwlEarsModel", name := "must", desc := "(Z)V" } : Jvm.MethodName)) ∈ lw_all := lw_g (lw_at lw_m7 222 rfl) rfl
theorem q1770 : (Jvm.Cond.privateMethod ({ cls := "OwlEarsModel", name := "must", desc := "(Z)V" } : Jvm.MethodName)) ∈ lw_tbl := lw_at lw_m7 223 rfl
theorem q1771 : (Jvm.Cond.instanceMethod ({ cls := "OwlEarsModel", name := "must", desc := "(Z)V" } : Jvm.MethodName)) ∈ lw_all := lw_g (lw_at lw_m7 224 rfl) rfl
theorem q1772 : (Jvm.Cond.code ({ cls := "OwlEarsModel", name := "must", desc := "(Z)V" } : Jvm.MethodName) prog_16_method_94_code (2 : Nat) (Option.none : Option Jvm.ClassFile.FieldType)) ∈ lw_all := lw_g (lw_at lw_m7 225 rfl) rfl
theorem q1773 : (Jvm.Cond.methodLink "OwlEarsModel" (323 : Nat) ({ cls := "OwlEarsModel", name := "number", desc := "(II)I" } : Jvm.MethodName)) ∈ lw_all := lw_g (lw_at lw_m7 226 rfl) rfl
theorem q1774 : (Jvm.Cond.privateMethod ({ cls := "OwlEarsModel", name := "number", desc := "(II)I" } : Jvm.MethodName)) ∈ lw_tbl := lw_at lw_m7 227 rfl
theorem q1775 : (Jvm.Cond.instanceMethod ({ cls := "OwlEarsModel", name := "number", desc := "(II)I" } : Jvm.MethodName)) ∈ lw_all := lw_g (lw_at lw_m7 228 rfl) rfl
theorem q1776 : (Jvm.Cond.code ({ cls := "OwlEarsModel", name := "number", desc := "(II)I" } : Jvm.MethodName) prog_16_method_95_code (4 : Nat) (Option.some Jvm.ClassFile.FieldType.int)) ∈ lw_all := lw_g (lw_at lw_m7 229 rfl) rfl
theorem q1777 : (Jvm.Cond.stringRef "OwlEarsModel" (344 : Nat) "waits") ∈ lw_tbl := lw_at lw_m7 230 rfl
theorem q1778 : (Jvm.Cond.methodLink "OwlEarsModel" (331 : Nat) ({ cls := "OwlEarsModel", name := "afterWord", desc := "(Ljava/lang/String;II)I" } : Jvm.MethodName)) ∈ lw_all := lw_g (lw_at lw_m7 231 rfl) rfl
theorem q1779 : (Jvm.Cond.privateMethod ({ cls := "OwlEarsModel", name := "afterWord", desc := "(Ljava/lang/String;II)I" } : Jvm.MethodName)) ∈ lw_tbl := lw_at lw_m7 232 rfl
theorem q1780 : (Jvm.Cond.instanceMethod ({ cls := "OwlEarsModel", name := "afterWord", desc := "(Ljava/lang/String;II)I" } : Jvm.MethodName)) ∈ lw_all := lw_g (lw_at lw_m7 233 rfl) rfl
theorem q1781 : (Jvm.Cond.code ({ cls := "OwlEarsModel", name := "afterWord", desc := "(Ljava/lang/String;II)I" } : Jvm.MethodName) prog_16_method_99_code (4 : Nat) (Option.some Jvm.ClassFile.FieldType.int)) ∈ lw_all := lw_g (lw_at lw_m7 234 rfl) rfl
theorem q1782 : (Jvm.Cond.methodLink "OwlEarsModel" (337 : Nat) ({ cls := "OwlEarsModel", name := "addItem", desc := "(IIIII)V" } : Jvm.MethodName)) ∈ lw_all := lw_g (lw_at lw_m7 235 rfl) rfl
theorem q1783 : (Jvm.Cond.privateMethod ({ cls := "OwlEarsModel", name := "addItem", desc := "(IIIII)V" } : Jvm.MethodName)) ∈ lw_tbl := lw_at lw_m7 236 rfl
theorem q1784 : (Jvm.Cond.instanceMethod ({ cls := "OwlEarsModel", name := "addItem", desc := "(IIIII)V" } : Jvm.MethodName)) ∈ lw_all := lw_g (lw_at lw_m7 237 rfl) rfl
theorem q1785 : (Jvm.Cond.code ({ cls := "OwlEarsModel", name := "addItem", desc := "(IIIII)V" } : Jvm.MethodName) prog_16_method_96_code (7 : Nat) (Option.none : Option Jvm.ClassFile.FieldType)) ∈ lw_all := lw_g (lw_at lw_m7 238 rfl) rfl
theorem q1786 : (Jvm.Cond.stringRef "OwlEarsModel" (346 : Nat) "mouse") ∈ lw_tbl := lw_at lw_m7 239 rfl
theorem q1787 : (Jvm.Cond.methodLink "OwlEarsModel" (348 : Nat) ({ cls := "OwlEarsModel", name := "readMouse", desc := "()V" } : Jvm.MethodName)) ∈ lw_all := lw_g (lw_at lw_m8 0 rfl) rfl
theorem q1788 : (Jvm.Cond.privateMethod ({ cls := "OwlEarsModel", name := "readMouse", desc := "()V" } : Jvm.MethodName)) ∈ lw_tbl := lw_at lw_m8 1 rfl
theorem q1789 : (Jvm.Cond.instanceMethod ({ cls := "OwlEarsModel", name := "readMouse", desc := "()V" } : Jvm.MethodName)) ∈ lw_all := lw_g (lw_at lw_m8 2 rfl) rfl
theorem q1790 : (Jvm.Cond.code ({ cls := "OwlEarsModel", name := "readMouse", desc := "()V" } : Jvm.MethodName) prog_16_method_100_code (4 : Nat) (Option.none : Option Jvm.ClassFile.FieldType)) ∈ lw_all := lw_g (lw_at lw_m8 3 rfl) rfl
theorem q1791 : (Jvm.Cond.methodLink "OwlEarsModel" (326 : Nat) ({ cls := "OwlEarsModel", name := "headingTold", desc := "()I" } : Jvm.MethodName)) ∈ lw_all := lw_g (lw_at lw_m8 4 rfl) rfl
theorem q1792 : (Jvm.Cond.privateMethod ({ cls := "OwlEarsModel", name := "headingTold", desc := "()I" } : Jvm.MethodName)) ∈ lw_tbl := lw_at lw_m8 5 rfl
theorem q1793 : (Jvm.Cond.instanceMethod ({ cls := "OwlEarsModel", name := "headingTold", desc := "()I" } : Jvm.MethodName)) ∈ lw_all := lw_g (lw_at lw_m8 6 rfl) rfl
theorem q1794 : (Jvm.Cond.code ({ cls := "OwlEarsModel", name := "headingTold", desc := "()I" } : Jvm.MethodName) prog_16_method_98_code (2 : Nat) (Option.some Jvm.ClassFile.FieldType.int)) ∈ lw_all := lw_g (lw_at lw_m8 7 rfl) rfl
theorem q1795 : (Jvm.Cond.stringRef "OwlEarsModel" (329 : Nat) "runs") ∈ lw_tbl := lw_at lw_m8 8 rfl
theorem q1796 : (Jvm.Cond.stringRef "OwlEarsModel" (335 : Nat) "pauses") ∈ lw_tbl := lw_at lw_m8 9 rfl
theorem q1797 : (Jvm.Cond.stringRef "OwlEarsModel" (351 : Nat) "snow") ∈ lw_tbl := lw_at lw_m8 10 rfl
theorem q1798 : (Jvm.Cond.methodLink "OwlEarsModel" (353 : Nat) ({ cls := "OwlEarsModel", name := "readLying", desc := "(II)V" } : Jvm.MethodName)) ∈ lw_all := lw_g (lw_at lw_m8 11 rfl) rfl
theorem q1799 : (Jvm.Cond.privateMethod ({ cls := "OwlEarsModel", name := "readLying", desc := "(II)V" } : Jvm.MethodName)) ∈ lw_tbl := lw_at lw_m8 12 rfl
theorem q1800 : (Jvm.Cond.instanceMethod ({ cls := "OwlEarsModel", name := "readLying", desc := "(II)V" } : Jvm.MethodName)) ∈ lw_all := lw_g (lw_at lw_m8 13 rfl) rfl
theorem q1801 : (Jvm.Cond.code ({ cls := "OwlEarsModel", name := "readLying", desc := "(II)V" } : Jvm.MethodName) prog_16_method_101_code (4 : Nat) (Option.none : Option Jvm.ClassFile.FieldType)) ∈ lw_all := lw_g (lw_at lw_m8 14 rfl) rfl
theorem q1802 : (Jvm.Cond.stringRef "OwlEarsModel" (357 : Nat) "noise") ∈ lw_tbl := lw_at lw_m8 15 rfl
theorem q1803 : (Jvm.Cond.stringRef "OwlEarsModel" (359 : Nat) "owl") ∈ lw_tbl := lw_at lw_m8 16 rfl
theorem q1804 : (Jvm.Cond.methodLink "OwlEarsModel" (367 : Nat) ({ cls := "OwlEarsModel", name := "isToldSo", desc := "(I)I" } : Jvm.MethodName)) ∈ lw_all := lw_g (lw_at lw_m8 17 rfl) rfl
theorem q1805 : (Jvm.Cond.privateMethod ({ cls := "OwlEarsModel", name := "isToldSo", desc := "(I)I" } : Jvm.MethodName)) ∈ lw_tbl := lw_at lw_m8 18 rfl
theorem q1806 : (Jvm.Cond.instanceMethod ({ cls := "OwlEarsModel", name := "isToldSo", desc := "(I)I" } : Jvm.MethodName)) ∈ lw_all := lw_g (lw_at lw_m8 19 rfl) rfl
theorem q1807 : (Jvm.Cond.code ({ cls := "OwlEarsModel", name := "isToldSo", desc := "(I)I" } : Jvm.MethodName) prog_16_method_104_code (4 : Nat) (Option.some Jvm.ClassFile.FieldType.int)) ∈ lw_all := lw_g (lw_at lw_m8 20 rfl) rfl
theorem q1808 : (Jvm.Cond.methodLink "OwlEarsModel" (361 : Nat) ({ cls := "OwlEarsModel", name := "tellsTo", desc := "(II)V" } : Jvm.MethodName)) ∈ lw_all := lw_g (lw_at lw_m8 21 rfl) rfl
theorem q1809 : (Jvm.Cond.privateMethod ({ cls := "OwlEarsModel", name := "tellsTo", desc := "(II)V" } : Jvm.MethodName)) ∈ lw_tbl := lw_at lw_m8 22 rfl
theorem q1810 : (Jvm.Cond.instanceMethod ({ cls := "OwlEarsModel", name := "tellsTo", desc := "(II)V" } : Jvm.MethodName)) ∈ lw_all := lw_g (lw_at lw_m8 23 rfl) rfl
theorem q1811 : (Jvm.Cond.code ({ cls := "OwlEarsModel", name := "tellsTo", desc := "(II)V" } : Jvm.MethodName) prog_16_method_103_code (3 : Nat) (Option.none : Option Jvm.ClassFile.FieldType)) ∈ lw_all := lw_g (lw_at lw_m8 24 rfl) rfl
theorem q1813 : (Jvm.Cond.instanceMethod ({ cls := "OwlEarsModel", name := "hold", desc := "(II)I" } : Jvm.MethodName)) ∈ lw_all := lw_g (lw_at lw_m8 26 rfl) rfl
theorem q1814 : (Jvm.Cond.selects "OwlEarsModel" ({ cls := "OwlEarsModel", name := "hold", desc := "(II)I" } : Jvm.MethodName) ({ cls := "OwlEarsModel", name := "hold", desc := "(II)I" } : Jvm.MethodName)) ∈ lw_all := lw_g (lw_at lw_m8 27 rfl) rfl
theorem q1815 : (Jvm.Cond.code ({ cls := "OwlEarsModel", name := "hold", desc := "(II)I" } : Jvm.MethodName) prog_16_method_107_code (3 : Nat) (Option.some Jvm.ClassFile.FieldType.int)) ∈ lw_all := lw_g (lw_at lw_m8 28 rfl) rfl
theorem q1816 : (Jvm.Cond.methodLink "OwlEarsModel" (370 : Nat) ({ cls := "OwlEarsModel", name := "isSpot", desc := "(I)Z" } : Jvm.MethodName)) ∈ lw_all := lw_g (lw_at lw_m8 29 rfl) rfl
theorem q1817 : (Jvm.Cond.static ({ cls := "OwlEarsModel", name := "isSpot", desc := "(I)Z" } : Jvm.MethodName)) ∈ lw_all := lw_g (lw_at lw_m8 30 rfl) rfl
theorem q1818 : (Jvm.Cond.code ({ cls := "OwlEarsModel", name := "isSpot", desc := "(I)Z" } : Jvm.MethodName) prog_16_method_106_code (1 : Nat) (Option.some Jvm.ClassFile.FieldType.boolean)) ∈ lw_all := lw_g (lw_at lw_m8 31 rfl) rfl
theorem q1820 : (Jvm.Cond.instanceMethod ({ cls := "OwlEarsModel", name := "as", desc := "(II)I" } : Jvm.MethodName)) ∈ lw_all := lw_g (lw_at lw_m8 33 rfl) rfl
theorem q1821 : (Jvm.Cond.selects "OwlEarsModel" ({ cls := "OwlEarsModel", name := "as", desc := "(II)I" } : Jvm.MethodName) ({ cls := "OwlEarsModel", name := "as", desc := "(II)I" } : Jvm.MethodName)) ∈ lw_all := lw_g (lw_at lw_m8 34 rfl) rfl
theorem q1822 : (Jvm.Cond.code ({ cls := "OwlEarsModel", name := "as", desc := "(II)I" } : Jvm.MethodName) prog_16_method_108_code (4 : Nat) (Option.some Jvm.ClassFile.FieldType.int)) ∈ lw_all := lw_g (lw_at lw_m8 35 rfl) rfl
theorem q1823 : (Jvm.Cond.methodLink "OwlEarsModel" (373 : Nat) ({ cls := "OwlEarsModel", name := "isUnder", desc := "(II)Z" } : Jvm.MethodName)) ∈ lw_all := lw_g (lw_at lw_m8 36 rfl) rfl
theorem q1824 : (Jvm.Cond.static ({ cls := "OwlEarsModel", name := "isUnder", desc := "(II)Z" } : Jvm.MethodName)) ∈ lw_all := lw_g (lw_at lw_m8 37 rfl) rfl
theorem q1825 : (Jvm.Cond.code ({ cls := "OwlEarsModel", name := "isUnder", desc := "(II)Z" } : Jvm.MethodName) prog_16_method_115_code (3 : Nat) (Option.some Jvm.ClassFile.FieldType.boolean)) ∈ lw_all := lw_g (lw_at lw_m8 38 rfl) rfl
theorem q1826 : (Jvm.Cond.methodLink "OwlEarsModel" (381 : Nat) ({ cls := "OwlEarsModel", name := "above", desc := "(I)I" } : Jvm.MethodName)) ∈ lw_all := lw_g (lw_at lw_m8 39 rfl) rfl
theorem q1827 : (Jvm.Cond.static ({ cls := "OwlEarsModel", name := "above", desc := "(I)I" } : Jvm.MethodName)) ∈ lw_all := lw_g (lw_at lw_m8 40 rfl) rfl
theorem q1828 : (Jvm.Cond.code ({ cls := "OwlEarsModel", name := "above", desc := "(I)I" } : Jvm.MethodName) prog_16_method_114_code (1 : Nat) (Option.some Jvm.ClassFile.FieldType.int)) ∈ lw_all := lw_g (lw_at lw_m8 41 rfl) rfl
theorem q1829 : (Jvm.Cond.constant "OwlEarsModel" (376 : Nat) (-1000003 : Int32)) ∈ lw_all := lw_g (lw_at lw_m8 42 rfl) rfl
theorem q1831 : (Jvm.Cond.instanceMethod ({ cls := "OwlEarsModel", name := "sheet", desc := "(III)I" } : Jvm.MethodName)) ∈ lw_all := lw_g (lw_at lw_m8 44 rfl) rfl
theorem q1832 : (Jvm.Cond.selects "OwlEarsModel" ({ cls := "OwlEarsModel", name := "sheet", desc := "(III)I" } : Jvm.MethodName) ({ cls := "OwlEarsModel", name := "sheet", desc := "(III)I" } : Jvm.MethodName)) ∈ lw_all := lw_g (lw_at lw_m8 45 rfl) rfl
theorem q1833 : (Jvm.Cond.code ({ cls := "OwlEarsModel", name := "sheet", desc := "(III)I" } : Jvm.MethodName) prog_16_method_111_code (5 : Nat) (Option.some Jvm.ClassFile.FieldType.int)) ∈ lw_all := lw_g (lw_at lw_m8 46 rfl) rfl
theorem q1834 : (Jvm.Cond.constant "OwlEarsModel" (377 : Nat) (-1000007 : Int32)) ∈ lw_all := lw_g (lw_at lw_m8 47 rfl) rfl
theorem q1836 : (Jvm.Cond.instanceMethod ({ cls := "OwlEarsModel", name := "write", desc := "(III)I" } : Jvm.MethodName)) ∈ lw_all := lw_g (lw_at lw_m8 49 rfl) rfl
theorem q1837 : (Jvm.Cond.selects "OwlEarsModel" ({ cls := "OwlEarsModel", name := "write", desc := "(III)I" } : Jvm.MethodName) ({ cls := "OwlEarsModel", name := "write", desc := "(III)I" } : Jvm.MethodName)) ∈ lw_all := lw_g (lw_at lw_m8 50 rfl) rfl
theorem q1838 : (Jvm.Cond.code ({ cls := "OwlEarsModel", name := "write", desc := "(III)I" } : Jvm.MethodName) prog_16_method_112_code (4 : Nat) (Option.some Jvm.ClassFile.FieldType.int)) ∈ lw_all := lw_g (lw_at lw_m8 51 rfl) rfl
theorem q1839 : (Jvm.Cond.methodLink "OwlEarsModel" (378 : Nat) ({ cls := "OwlEarsModel", name := "cutTo", desc := "(II)I" } : Jvm.MethodName)) ∈ lw_all := lw_g (lw_at lw_m8 52 rfl) rfl
theorem q1840 : (Jvm.Cond.static ({ cls := "OwlEarsModel", name := "cutTo", desc := "(II)I" } : Jvm.MethodName)) ∈ lw_all := lw_g (lw_at lw_m8 53 rfl) rfl
theorem q1841 : (Jvm.Cond.code ({ cls := "OwlEarsModel", name := "cutTo", desc := "(II)I" } : Jvm.MethodName) prog_16_method_110_code (2 : Nat) (Option.some Jvm.ClassFile.FieldType.int)) ∈ lw_all := lw_g (lw_at lw_m8 54 rfl) rfl
theorem q1843 : (Jvm.Cond.instanceMethod ({ cls := "OwlEarsModel", name := "copy", desc := "(IIIII)I" } : Jvm.MethodName)) ∈ lw_all := lw_g (lw_at lw_m8 56 rfl) rfl
theorem q1844 : (Jvm.Cond.selects "OwlEarsModel" ({ cls := "OwlEarsModel", name := "copy", desc := "(IIIII)I" } : Jvm.MethodName) ({ cls := "OwlEarsModel", name := "copy", desc := "(IIIII)I" } : Jvm.MethodName)) ∈ lw_all := lw_g (lw_at lw_m8 57 rfl) rfl
theorem q1845 : (Jvm.Cond.code ({ cls := "OwlEarsModel", name := "copy", desc := "(IIIII)I" } : Jvm.MethodName) prog_16_method_113_code (7 : Nat) (Option.some Jvm.ClassFile.FieldType.int)) ∈ lw_all := lw_g (lw_at lw_m8 58 rfl) rfl
theorem q1847 : (Jvm.Cond.instanceMethod ({ cls := "OwlEarsModel", name := "load", desc := "(I)I" } : Jvm.MethodName)) ∈ lw_all := lw_g (lw_at lw_m8 60 rfl) rfl
theorem q1848 : (Jvm.Cond.selects "OwlEarsModel" ({ cls := "OwlEarsModel", name := "load", desc := "(I)I" } : Jvm.MethodName) ({ cls := "OwlEarsModel", name := "load", desc := "(I)I" } : Jvm.MethodName)) ∈ lw_all := lw_g (lw_at lw_m8 61 rfl) rfl
theorem q1849 : (Jvm.Cond.code ({ cls := "OwlEarsModel", name := "load", desc := "(I)I" } : Jvm.MethodName) prog_16_method_116_code (3 : Nat) (Option.some Jvm.ClassFile.FieldType.int)) ∈ lw_all := lw_g (lw_at lw_m8 62 rfl) rfl
theorem q1851 : (Jvm.Cond.instanceMethod ({ cls := "OwlEarsModel", name := "judge", desc := "(I)I" } : Jvm.MethodName)) ∈ lw_all := lw_g (lw_at lw_m8 64 rfl) rfl
theorem q1852 : (Jvm.Cond.selects "OwlEarsModel" ({ cls := "OwlEarsModel", name := "judge", desc := "(I)I" } : Jvm.MethodName) ({ cls := "OwlEarsModel", name := "judge", desc := "(I)I" } : Jvm.MethodName)) ∈ lw_all := lw_g (lw_at lw_m8 65 rfl) rfl
theorem q1853 : (Jvm.Cond.code ({ cls := "OwlEarsModel", name := "judge", desc := "(I)I" } : Jvm.MethodName) prog_16_method_117_code (3 : Nat) (Option.some Jvm.ClassFile.FieldType.int)) ∈ lw_all := lw_g (lw_at lw_m8 66 rfl) rfl
theorem q1855 : (Jvm.Cond.instanceMethod ({ cls := "OwlEarsModel", name := "image", desc := "()I" } : Jvm.MethodName)) ∈ lw_all := lw_g (lw_at lw_m8 68 rfl) rfl
theorem q1856 : (Jvm.Cond.selects "OwlEarsModel" ({ cls := "OwlEarsModel", name := "image", desc := "()I" } : Jvm.MethodName) ({ cls := "OwlEarsModel", name := "image", desc := "()I" } : Jvm.MethodName)) ∈ lw_all := lw_g (lw_at lw_m8 69 rfl) rfl
theorem q1857 : (Jvm.Cond.code ({ cls := "OwlEarsModel", name := "image", desc := "()I" } : Jvm.MethodName) prog_16_method_118_code (1 : Nat) (Option.some Jvm.ClassFile.FieldType.int)) ∈ lw_all := lw_g (lw_at lw_m8 70 rfl) rfl
theorem q1859 : (Jvm.Cond.instanceMethod ({ cls := "OwlEarsModel", name := "undo", desc := "()I" } : Jvm.MethodName)) ∈ lw_all := lw_g (lw_at lw_m8 72 rfl) rfl
theorem q1860 : (Jvm.Cond.selects "OwlEarsModel" ({ cls := "OwlEarsModel", name := "undo", desc := "()I" } : Jvm.MethodName) ({ cls := "OwlEarsModel", name := "undo", desc := "()I" } : Jvm.MethodName)) ∈ lw_all := lw_g (lw_at lw_m8 73 rfl) rfl
theorem q1861 : (Jvm.Cond.code ({ cls := "OwlEarsModel", name := "undo", desc := "()I" } : Jvm.MethodName) prog_16_method_119_code (1 : Nat) (Option.some Jvm.ClassFile.FieldType.int)) ∈ lw_all := lw_g (lw_at lw_m8 74 rfl) rfl
theorem q1863 : (Jvm.Cond.instanceMethod ({ cls := "OwlEarsModel", name := "tear", desc := "()I" } : Jvm.MethodName)) ∈ lw_all := lw_g (lw_at lw_m8 76 rfl) rfl
theorem q1864 : (Jvm.Cond.selects "OwlEarsModel" ({ cls := "OwlEarsModel", name := "tear", desc := "()I" } : Jvm.MethodName) ({ cls := "OwlEarsModel", name := "tear", desc := "()I" } : Jvm.MethodName)) ∈ lw_all := lw_g (lw_at lw_m8 77 rfl) rfl
theorem q1865 : (Jvm.Cond.code ({ cls := "OwlEarsModel", name := "tear", desc := "()I" } : Jvm.MethodName) prog_16_method_120_code (2 : Nat) (Option.some Jvm.ClassFile.FieldType.int)) ∈ lw_all := lw_g (lw_at lw_m8 78 rfl) rfl
theorem q1867 : (Jvm.Cond.instanceMethod ({ cls := "OwlEarsModel", name := "count", desc := "(I)I" } : Jvm.MethodName)) ∈ lw_all := lw_g (lw_at lw_m8 80 rfl) rfl
theorem q1868 : (Jvm.Cond.selects "OwlEarsModel" ({ cls := "OwlEarsModel", name := "count", desc := "(I)I" } : Jvm.MethodName) ({ cls := "OwlEarsModel", name := "count", desc := "(I)I" } : Jvm.MethodName)) ∈ lw_all := lw_g (lw_at lw_m8 81 rfl) rfl
theorem q1869 : (Jvm.Cond.code ({ cls := "OwlEarsModel", name := "count", desc := "(I)I" } : Jvm.MethodName) prog_16_method_121_code (4 : Nat) (Option.some Jvm.ClassFile.FieldType.int)) ∈ lw_all := lw_g (lw_at lw_m8 82 rfl) rfl
theorem q1871 : (Jvm.Cond.instanceMethod ({ cls := "OwlEarsModel", name := "status", desc := "(I)I" } : Jvm.MethodName)) ∈ lw_all := lw_g (lw_at lw_m8 84 rfl) rfl
theorem q1872 : (Jvm.Cond.selects "OwlEarsModel" ({ cls := "OwlEarsModel", name := "status", desc := "(I)I" } : Jvm.MethodName) ({ cls := "OwlEarsModel", name := "status", desc := "(I)I" } : Jvm.MethodName)) ∈ lw_all := lw_g (lw_at lw_m8 85 rfl) rfl
theorem q1873 : (Jvm.Cond.code ({ cls := "OwlEarsModel", name := "status", desc := "(I)I" } : Jvm.MethodName) prog_16_method_122_code (2 : Nat) (Option.some Jvm.ClassFile.FieldType.int)) ∈ lw_all := lw_g (lw_at lw_m8 86 rfl) rfl
theorem in_X13 : ∀ w ∈ wsX130, w ∈ lw_all := lw_in wsX130 [1334, 1336, 1338, 1340, 1342, 1344, 1346, 1348, 1350, 1352, 1354, 1356, 1358, 1360, 1362, 1364, 1366, 1368, 1370, 1372, 1374, 1376, 1378, 1380] (by decide +kernel) (by decide +kernel)
