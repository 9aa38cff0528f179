/-! PepperTables -/
set_option maxRecDepth 100000
def RX0 : String := "PepperTables"
def TX0 : u_T := fun k => match k with
  | 0 => ("PepperTables", "tape", "[B", true)
  | 1 => ("PepperTables", "taped", "I", false)
  | 2 => ("PepperTables", "faultKind", "I", false)
  | 3 => ("PepperTables", "faultPlace", "I", false)
  | 4 => ("PepperTables", "book", "LPepperTables$Book;", false)
  | 5 => ("PepperTables", "now", "LPepperTables$Table;", true)
  | 6 => ("PepperTables", "spare", "LPepperTables$Table;", true)
  | 7 => ("PepperTables", "tried", "LPepperTables$Table;", true)
  | 8 => ("PepperTables", "time", "I", false)
  | 9 => ("PepperTables", "were", "[LPepperTables$Table;", true)
  | 10 => ("PepperTables", "acts", "I", false)
  | 11 => ("PepperTables", "undone", "I", false)
  | 12 => ("PepperTables", "lies", "[I", true)
  | 13 => ("PepperTables", "row", "[I", true)
  | 14 => ("PepperTables", "bestRow", "[I", true)
  | 15 => ("PepperTables", "lain", "I", false)
  | 16 => ("PepperTables", "ones", "[[I", true)
  | 17 => ("PepperTables", "others", "[[I", true)
  | 18 => ("PepperTables", "longest", "I", false)
  | 19 => ("PepperTables", "noises", "Ljava/util/ArrayList;", true)
  | 20 => ("PepperTables", "counts", "[[I", true)
  | 21 => ("PepperTables", "isFit", "[Z", true)
  | 22 => ("PepperTables", "boxes", "[LPepperTables$Table;", true)
  | _ => ("PepperTables", "isThere", "[Z", true)
def tyX0 : Nat → FieldType := fun k => match k with
  | 0 => .array .byte
  | 1 => .int
  | 2 => .int
  | 3 => .int
  | 4 => .object "PepperTables$Book"
  | 5 => .object "PepperTables$Table"
  | 6 => .object "PepperTables$Table"
  | 7 => .object "PepperTables$Table"
  | 8 => .int
  | 9 => .array (.object "PepperTables$Table")
  | 10 => .int
  | 11 => .int
  | 12 => .array .int
  | 13 => .array .int
  | 14 => .array .int
  | 15 => .int
  | 16 => .array (.array .int)
  | 17 => .array (.array .int)
  | 18 => .int
  | 19 => .object "java/util/ArrayList"
  | 20 => .array (.array .int)
  | 21 => .array .boolean
  | 22 => .array (.object "PepperTables$Table")
  | _ => .array .boolean
abbrev wsX00 : List Cond := u_ws RX0 TX0 24
set_option maxRecDepth 100000 in
theorem nmX0 : ∀ a, a < 24 → ∀ b, b < 24 → a ≠ b → (TX0 a).2.1 ≠ (TX0 b).2.1 := by decide +kernel
set_option maxRecDepth 100000 in
theorem tyX0_ok : ∀ k, k < 24 → parseFieldDescriptor (TX0 k).2.2.1 = some (tyX0 k) := by decide +kernel
abbrev cX0_init : ByteArray := prog_1_method_3_code
def yX0_init : MethodName := ⟨RX0, "<init>", "()V"⟩
def dkwX0_init_9 : List UInt8 := [187, 0, 46, 89, 183, 0, 48, 83, 132, 1, 1, 167, 255, 235, 177]
abbrev dktX0_init_9 : List UInt8 := dkwX0_init_9 ++ []
def dkwX0_init_8 : List UInt8 := [183, 0, 48, 83, 132, 1, 1, 167, 255, 234, 3, 60, 27, 6, 162, 0, 22, 42, 180, 0, 99, 27]
abbrev dktX0_init_8 : List UInt8 := dkwX0_init_8 ++ dktX0_init_9
def dkwX0_init_7 : List UInt8 := [6, 188, 4, 181, 0, 102, 3, 60, 27, 16, 40, 162, 0, 22, 42, 180, 0, 63, 27, 187, 0, 46, 89]
abbrev dktX0_init_7 : List UInt8 := dkwX0_init_7 ++ dktX0_init_8
def dkwX0_init_6 : List UInt8 := [197, 0, 77, 2, 181, 0, 92, 42, 16, 36, 188, 4, 181, 0, 95, 42, 6, 189, 0, 46, 181, 0, 99, 42]
abbrev dktX0_init_6 : List UInt8 := dkwX0_init_6 ++ dktX0_init_7
def dkwX0_init_5 : List UInt8 := [197, 0, 77, 2, 181, 0, 82, 42, 187, 0, 4, 89, 5, 183, 0, 85, 181, 0, 88, 42, 16, 36, 8]
abbrev dktX0_init_5 : List UInt8 := dkwX0_init_5 ++ dktX0_init_6
def dkwX0_init_4 : List UInt8 := [42, 16, 6, 188, 10, 181, 0, 74, 42, 5, 5, 197, 0, 77, 2, 181, 0, 79, 42, 5, 5]
abbrev dktX0_init_4 : List UInt8 := dkwX0_init_4 ++ dktX0_init_5
def dkwX0_init_3 : List UInt8 := [16, 40, 189, 0, 46, 181, 0, 63, 42, 16, 6, 188, 10, 181, 0, 67, 42, 16, 6, 188, 10, 181, 0, 71]
abbrev dktX0_init_3 : List UInt8 := dkwX0_init_3 ++ dktX0_init_4
def dkwX0_init_2 : List UInt8 := [42, 187, 0, 46, 89, 183, 0, 48, 181, 0, 57, 42, 187, 0, 46, 89, 183, 0, 48, 181, 0, 60, 42]
abbrev dktX0_init_2 : List UInt8 := dkwX0_init_2 ++ dktX0_init_3
def dkwX0_init_1 : List UInt8 := [183, 0, 41, 181, 0, 42, 42, 187, 0, 46, 89, 183, 0, 48, 42, 180, 0, 42, 182, 0, 49, 181, 0, 53]
abbrev dktX0_init_1 : List UInt8 := dkwX0_init_1 ++ dktX0_init_2
def dkwX0_init_0 : List UInt8 := [42, 183, 0, 25, 42, 17, 6, 64, 188, 8, 181, 0, 31, 42, 2, 181, 0, 35, 42, 187, 0, 39, 89]
abbrev dktX0_init_0 : List UInt8 := dkwX0_init_0 ++ dktX0_init_1
theorem dksX0_init_0 : cX0_init.data.toList.drop 0 = dktX0_init_0 := by decide +kernel
theorem dksX0_init_1 : cX0_init.data.toList.drop 23 = dktX0_init_1 := dk_seg dksX0_init_0 23 rfl rfl
theorem dksX0_init_2 : cX0_init.data.toList.drop 47 = dktX0_init_2 := dk_seg dksX0_init_1 24 rfl rfl
theorem dksX0_init_3 : cX0_init.data.toList.drop 70 = dktX0_init_3 := dk_seg dksX0_init_2 23 rfl rfl
theorem dksX0_init_4 : cX0_init.data.toList.drop 94 = dktX0_init_4 := dk_seg dksX0_init_3 24 rfl rfl
theorem dksX0_init_5 : cX0_init.data.toList.drop 115 = dktX0_init_5 := dk_seg dksX0_init_4 21 rfl rfl
theorem dksX0_init_6 : cX0_init.data.toList.drop 138 = dktX0_init_6 := dk_seg dksX0_init_5 23 rfl rfl
theorem dksX0_init_7 : cX0_init.data.toList.drop 162 = dktX0_init_7 := dk_seg dksX0_init_6 24 rfl rfl
theorem dksX0_init_8 : cX0_init.data.toList.drop 185 = dktX0_init_8 := dk_seg dksX0_init_7 23 rfl rfl
theorem dksX0_init_9 : cX0_init.data.toList.drop 207 = dktX0_init_9 := dk_seg dksX0_init_8 22 rfl rfl
theorem dX0_init_0 : decode cX0_init 0 = .ok (.aload_n 0, 1) := dk_42 (dk_at dksX0_init_0 0 rfl rfl)
theorem dX0_init_1 : decode cX0_init 1 = .ok (.invokespecial 25, 3) := dk_183 0 25 (dk_at dksX0_init_0 1 rfl rfl)
theorem dX0_init_4 : decode cX0_init 4 = .ok (.aload_n 0, 1) := dk_42 (dk_at dksX0_init_0 4 rfl rfl)
theorem dX0_init_5 : decode cX0_init 5 = .ok (.sipush 1600, 3) := dk_17 6 64 (dk_at dksX0_init_0 5 rfl rfl)
theorem dX0_init_8 : decode cX0_init 8 = .ok (.newarray .byte, 2) := dk_188_8 (dk_at dksX0_init_0 8 rfl rfl)
theorem dX0_init_10 : decode cX0_init 10 = .ok (.putfield 31, 3) := dk_181 0 31 (dk_at dksX0_init_0 10 rfl rfl)
theorem dX0_init_13 : decode cX0_init 13 = .ok (.aload_n 0, 1) := dk_42 (dk_at dksX0_init_0 13 rfl rfl)
theorem dX0_init_14 : decode cX0_init 14 = .ok (.iconst (-1), 1) := dk_2 (dk_at dksX0_init_0 14 rfl rfl)
theorem dX0_init_15 : decode cX0_init 15 = .ok (.putfield 35, 3) := dk_181 0 35 (dk_at dksX0_init_0 15 rfl rfl)
theorem dX0_init_18 : decode cX0_init 18 = .ok (.aload_n 0, 1) := dk_42 (dk_at dksX0_init_0 18 rfl rfl)
theorem dX0_init_19 : decode cX0_init 19 = .ok (.new 39, 3) := dk_187 0 39 (dk_at dksX0_init_0 19 rfl rfl)
theorem dX0_init_22 : decode cX0_init 22 = .ok (.dup, 1) := dk_89 (dk_at dksX0_init_0 22 rfl rfl)
theorem dX0_init_23 : decode cX0_init 23 = .ok (.invokespecial 41, 3) := dk_183 0 41 (dk_at dksX0_init_1 0 rfl rfl)
theorem dX0_init_26 : decode cX0_init 26 = .ok (.putfield 42, 3) := dk_181 0 42 (dk_at dksX0_init_1 3 rfl rfl)
theorem dX0_init_29 : decode cX0_init 29 = .ok (.aload_n 0, 1) := dk_42 (dk_at dksX0_init_1 6 rfl rfl)
theorem dX0_init_30 : decode cX0_init 30 = .ok (.new 46, 3) := dk_187 0 46 (dk_at dksX0_init_1 7 rfl rfl)
theorem dX0_init_33 : decode cX0_init 33 = .ok (.dup, 1) := dk_89 (dk_at dksX0_init_1 10 rfl rfl)
theorem dX0_init_34 : decode cX0_init 34 = .ok (.invokespecial 48, 3) := dk_183 0 48 (dk_at dksX0_init_1 11 rfl rfl)
theorem dX0_init_37 : decode cX0_init 37 = .ok (.aload_n 0, 1) := dk_42 (dk_at dksX0_init_1 14 rfl rfl)
theorem dX0_init_38 : decode cX0_init 38 = .ok (.getfield 42, 3) := dk_180 0 42 (dk_at dksX0_init_1 15 rfl rfl)
theorem dX0_init_41 : decode cX0_init 41 = .ok (.invokevirtual 49, 3) := dk_182 0 49 (dk_at dksX0_init_1 18 rfl rfl)
theorem dX0_init_44 : decode cX0_init 44 = .ok (.putfield 53, 3) := dk_181 0 53 (dk_at dksX0_init_1 21 rfl rfl)
theorem dX0_init_47 : decode cX0_init 47 = .ok (.aload_n 0, 1) := dk_42 (dk_at dksX0_init_2 0 rfl rfl)
theorem dX0_init_48 : decode cX0_init 48 = .ok (.new 46, 3) := dk_187 0 46 (dk_at dksX0_init_2 1 rfl rfl)
theorem dX0_init_51 : decode cX0_init 51 = .ok (.dup, 1) := dk_89 (dk_at dksX0_init_2 4 rfl rfl)
theorem dX0_init_52 : decode cX0_init 52 = .ok (.invokespecial 48, 3) := dk_183 0 48 (dk_at dksX0_init_2 5 rfl rfl)
theorem dX0_init_55 : decode cX0_init 55 = .ok (.putfield 57, 3) := dk_181 0 57 (dk_at dksX0_init_2 8 rfl rfl)
theorem dX0_init_58 : decode cX0_init 58 = .ok (.aload_n 0, 1) := dk_42 (dk_at dksX0_init_2 11 rfl rfl)
theorem dX0_init_59 : decode cX0_init 59 = .ok (.new 46, 3) := dk_187 0 46 (dk_at dksX0_init_2 12 rfl rfl)
theorem dX0_init_62 : decode cX0_init 62 = .ok (.dup, 1) := dk_89 (dk_at dksX0_init_2 15 rfl rfl)
theorem dX0_init_63 : decode cX0_init 63 = .ok (.invokespecial 48, 3) := dk_183 0 48 (dk_at dksX0_init_2 16 rfl rfl)
theorem dX0_init_66 : decode cX0_init 66 = .ok (.putfield 60, 3) := dk_181 0 60 (dk_at dksX0_init_2 19 rfl rfl)
theorem dX0_init_69 : decode cX0_init 69 = .ok (.aload_n 0, 1) := dk_42 (dk_at dksX0_init_2 22 rfl rfl)
theorem dX0_init_70 : decode cX0_init 70 = .ok (.bipush 40, 2) := dk_16 40 (dk_at dksX0_init_3 0 rfl rfl)
theorem dX0_init_72 : decode cX0_init 72 = .ok (.anewarray 46, 3) := dk_189 0 46 (dk_at dksX0_init_3 2 rfl rfl)
theorem dX0_init_75 : decode cX0_init 75 = .ok (.putfield 63, 3) := dk_181 0 63 (dk_at dksX0_init_3 5 rfl rfl)
theorem dX0_init_78 : decode cX0_init 78 = .ok (.aload_n 0, 1) := dk_42 (dk_at dksX0_init_3 8 rfl rfl)
theorem dX0_init_79 : decode cX0_init 79 = .ok (.bipush 6, 2) := dk_16 6 (dk_at dksX0_init_3 9 rfl rfl)
theorem dX0_init_81 : decode cX0_init 81 = .ok (.newarray .int, 2) := dk_188_10 (dk_at dksX0_init_3 11 rfl rfl)
theorem dX0_init_83 : decode cX0_init 83 = .ok (.putfield 67, 3) := dk_181 0 67 (dk_at dksX0_init_3 13 rfl rfl)
theorem dX0_init_86 : decode cX0_init 86 = .ok (.aload_n 0, 1) := dk_42 (dk_at dksX0_init_3 16 rfl rfl)
theorem dX0_init_87 : decode cX0_init 87 = .ok (.bipush 6, 2) := dk_16 6 (dk_at dksX0_init_3 17 rfl rfl)
theorem dX0_init_89 : decode cX0_init 89 = .ok (.newarray .int, 2) := dk_188_10 (dk_at dksX0_init_3 19 rfl rfl)
theorem dX0_init_91 : decode cX0_init 91 = .ok (.putfield 71, 3) := dk_181 0 71 (dk_at dksX0_init_3 21 rfl rfl)
theorem dX0_init_94 : decode cX0_init 94 = .ok (.aload_n 0, 1) := dk_42 (dk_at dksX0_init_4 0 rfl rfl)
theorem dX0_init_95 : decode cX0_init 95 = .ok (.bipush 6, 2) := dk_16 6 (dk_at dksX0_init_4 1 rfl rfl)
theorem dX0_init_97 : decode cX0_init 97 = .ok (.newarray .int, 2) := dk_188_10 (dk_at dksX0_init_4 3 rfl rfl)
theorem dX0_init_99 : decode cX0_init 99 = .ok (.putfield 74, 3) := dk_181 0 74 (dk_at dksX0_init_4 5 rfl rfl)
theorem dX0_init_102 : decode cX0_init 102 = .ok (.aload_n 0, 1) := dk_42 (dk_at dksX0_init_4 8 rfl rfl)
theorem dX0_init_103 : decode cX0_init 103 = .ok (.iconst 2, 1) := dk_5 (dk_at dksX0_init_4 9 rfl rfl)
theorem dX0_init_104 : decode cX0_init 104 = .ok (.iconst 2, 1) := dk_5 (dk_at dksX0_init_4 10 rfl rfl)
theorem dX0_init_105 : decode cX0_init 105 = .ok (.multianewarray 77 2, 4) := by decide +kernel
theorem dX0_init_109 : decode cX0_init 109 = .ok (.putfield 79, 3) := dk_181 0 79 (dk_at dksX0_init_4 15 rfl rfl)
theorem dX0_init_112 : decode cX0_init 112 = .ok (.aload_n 0, 1) := dk_42 (dk_at dksX0_init_4 18 rfl rfl)
theorem dX0_init_113 : decode cX0_init 113 = .ok (.iconst 2, 1) := dk_5 (dk_at dksX0_init_4 19 rfl rfl)
theorem dX0_init_114 : decode cX0_init 114 = .ok (.iconst 2, 1) := dk_5 (dk_at dksX0_init_4 20 rfl rfl)
theorem dX0_init_115 : decode cX0_init 115 = .ok (.multianewarray 77 2, 4) := by decide +kernel
theorem dX0_init_119 : decode cX0_init 119 = .ok (.putfield 82, 3) := dk_181 0 82 (dk_at dksX0_init_5 4 rfl rfl)
theorem dX0_init_122 : decode cX0_init 122 = .ok (.aload_n 0, 1) := dk_42 (dk_at dksX0_init_5 7 rfl rfl)
theorem dX0_init_123 : decode cX0_init 123 = .ok (.new 4, 3) := dk_187 0 4 (dk_at dksX0_init_5 8 rfl rfl)
theorem dX0_init_126 : decode cX0_init 126 = .ok (.dup, 1) := dk_89 (dk_at dksX0_init_5 11 rfl rfl)
theorem dX0_init_127 : decode cX0_init 127 = .ok (.iconst 2, 1) := dk_5 (dk_at dksX0_init_5 12 rfl rfl)
theorem dX0_init_128 : decode cX0_init 128 = .ok (.invokespecial 85, 3) := dk_183 0 85 (dk_at dksX0_init_5 13 rfl rfl)
theorem dX0_init_131 : decode cX0_init 131 = .ok (.putfield 88, 3) := dk_181 0 88 (dk_at dksX0_init_5 16 rfl rfl)
theorem dX0_init_134 : decode cX0_init 134 = .ok (.aload_n 0, 1) := dk_42 (dk_at dksX0_init_5 19 rfl rfl)
theorem dX0_init_135 : decode cX0_init 135 = .ok (.bipush 36, 2) := dk_16 36 (dk_at dksX0_init_5 20 rfl rfl)
theorem dX0_init_137 : decode cX0_init 137 = .ok (.iconst 5, 1) := dk_8 (dk_at dksX0_init_5 22 rfl rfl)
theorem dX0_init_138 : decode cX0_init 138 = .ok (.multianewarray 77 2, 4) := by decide +kernel
theorem dX0_init_142 : decode cX0_init 142 = .ok (.putfield 92, 3) := dk_181 0 92 (dk_at dksX0_init_6 4 rfl rfl)
theorem dX0_init_145 : decode cX0_init 145 = .ok (.aload_n 0, 1) := dk_42 (dk_at dksX0_init_6 7 rfl rfl)
theorem dX0_init_146 : decode cX0_init 146 = .ok (.bipush 36, 2) := dk_16 36 (dk_at dksX0_init_6 8 rfl rfl)
theorem dX0_init_148 : decode cX0_init 148 = .ok (.newarray .boolean, 2) := dk_188_4 (dk_at dksX0_init_6 10 rfl rfl)
theorem dX0_init_150 : decode cX0_init 150 = .ok (.putfield 95, 3) := dk_181 0 95 (dk_at dksX0_init_6 12 rfl rfl)
theorem dX0_init_153 : decode cX0_init 153 = .ok (.aload_n 0, 1) := dk_42 (dk_at dksX0_init_6 15 rfl rfl)
theorem dX0_init_154 : decode cX0_init 154 = .ok (.iconst 3, 1) := dk_6 (dk_at dksX0_init_6 16 rfl rfl)
theorem dX0_init_155 : decode cX0_init 155 = .ok (.anewarray 46, 3) := dk_189 0 46 (dk_at dksX0_init_6 17 rfl rfl)
theorem dX0_init_158 : decode cX0_init 158 = .ok (.putfield 99, 3) := dk_181 0 99 (dk_at dksX0_init_6 20 rfl rfl)
theorem dX0_init_161 : decode cX0_init 161 = .ok (.aload_n 0, 1) := dk_42 (dk_at dksX0_init_6 23 rfl rfl)
theorem dX0_init_162 : decode cX0_init 162 = .ok (.iconst 3, 1) := dk_6 (dk_at dksX0_init_7 0 rfl rfl)
theorem dX0_init_163 : decode cX0_init 163 = .ok (.newarray .boolean, 2) := dk_188_4 (dk_at dksX0_init_7 1 rfl rfl)
theorem dX0_init_165 : decode cX0_init 165 = .ok (.putfield 102, 3) := dk_181 0 102 (dk_at dksX0_init_7 3 rfl rfl)
theorem dX0_init_168 : decode cX0_init 168 = .ok (.iconst 0, 1) := dk_3 (dk_at dksX0_init_7 6 rfl rfl)
theorem dX0_init_169 : decode cX0_init 169 = .ok (.istore_n 1, 1) := dk_60 (dk_at dksX0_init_7 7 rfl rfl)
theorem dX0_init_170 : decode cX0_init 170 = .ok (.iload_n 1, 1) := dk_27 (dk_at dksX0_init_7 8 rfl rfl)
theorem dX0_init_171 : decode cX0_init 171 = .ok (.bipush 40, 2) := dk_16 40 (dk_at dksX0_init_7 9 rfl rfl)
theorem dX0_init_173 : decode cX0_init 173 = .ok (.if_icmp .ge 22, 3) := dk_162 0 22 (dk_at dksX0_init_7 11 rfl rfl)
theorem dX0_init_176 : decode cX0_init 176 = .ok (.aload_n 0, 1) := dk_42 (dk_at dksX0_init_7 14 rfl rfl)
theorem dX0_init_177 : decode cX0_init 177 = .ok (.getfield 63, 3) := dk_180 0 63 (dk_at dksX0_init_7 15 rfl rfl)
theorem dX0_init_180 : decode cX0_init 180 = .ok (.iload_n 1, 1) := dk_27 (dk_at dksX0_init_7 18 rfl rfl)
theorem dX0_init_181 : decode cX0_init 181 = .ok (.new 46, 3) := dk_187 0 46 (dk_at dksX0_init_7 19 rfl rfl)
theorem dX0_init_184 : decode cX0_init 184 = .ok (.dup, 1) := dk_89 (dk_at dksX0_init_7 22 rfl rfl)
theorem dX0_init_185 : decode cX0_init 185 = .ok (.invokespecial 48, 3) := dk_183 0 48 (dk_at dksX0_init_8 0 rfl rfl)
theorem dX0_init_188 : decode cX0_init 188 = .ok (.aastore, 1) := dk_83 (dk_at dksX0_init_8 3 rfl rfl)
theorem dX0_init_189 : decode cX0_init 189 = .ok (.iinc 1 1, 3) := dk_132 1 1 (dk_at dksX0_init_8 4 rfl rfl)
theorem dX0_init_192 : decode cX0_init 192 = .ok (.goto (-22), 3) := dk_167 255 234 (dk_at dksX0_init_8 7 rfl rfl)
theorem dX0_init_195 : decode cX0_init 195 = .ok (.iconst 0, 1) := dk_3 (dk_at dksX0_init_8 10 rfl rfl)
theorem dX0_init_196 : decode cX0_init 196 = .ok (.istore_n 1, 1) := dk_60 (dk_at dksX0_init_8 11 rfl rfl)
theorem dX0_init_197 : decode cX0_init 197 = .ok (.iload_n 1, 1) := dk_27 (dk_at dksX0_init_8 12 rfl rfl)
theorem dX0_init_198 : decode cX0_init 198 = .ok (.iconst 3, 1) := dk_6 (dk_at dksX0_init_8 13 rfl rfl)
theorem dX0_init_199 : decode cX0_init 199 = .ok (.if_icmp .ge 22, 3) := dk_162 0 22 (dk_at dksX0_init_8 14 rfl rfl)
theorem dX0_init_202 : decode cX0_init 202 = .ok (.aload_n 0, 1) := dk_42 (dk_at dksX0_init_8 17 rfl rfl)
theorem dX0_init_203 : decode cX0_init 203 = .ok (.getfield 99, 3) := dk_180 0 99 (dk_at dksX0_init_8 18 rfl rfl)
theorem dX0_init_206 : decode cX0_init 206 = .ok (.iload_n 1, 1) := dk_27 (dk_at dksX0_init_8 21 rfl rfl)
theorem dX0_init_207 : decode cX0_init 207 = .ok (.new 46, 3) := dk_187 0 46 (dk_at dksX0_init_9 0 rfl rfl)
theorem dX0_init_210 : decode cX0_init 210 = .ok (.dup, 1) := dk_89 (dk_at dksX0_init_9 3 rfl rfl)
theorem dX0_init_211 : decode cX0_init 211 = .ok (.invokespecial 48, 3) := dk_183 0 48 (dk_at dksX0_init_9 4 rfl rfl)
theorem dX0_init_214 : decode cX0_init 214 = .ok (.aastore, 1) := dk_83 (dk_at dksX0_init_9 7 rfl rfl)
theorem dX0_init_215 : decode cX0_init 215 = .ok (.iinc 1 1, 3) := dk_132 1 1 (dk_at dksX0_init_9 8 rfl rfl)
theorem dX0_init_218 : decode cX0_init 218 = .ok (.goto (-21), 3) := dk_167 255 235 (dk_at dksX0_init_9 11 rfl rfl)
theorem dX0_init_221 : decode cX0_init 221 = .ok (.return_, 1) := dk_177 (dk_at dksX0_init_9 14 rfl rfl)
abbrev cX0_feed : ByteArray := prog_1_method_4_code
def yX0_feed : MethodName := ⟨RX0, "feed", "(IIIII)I"⟩
def dkwX0_feed_5 : List UInt8 := [172]
abbrev dktX0_feed_5 : List UInt8 := dkwX0_feed_5 ++ []
def dkwX0_feed_4 : List UInt8 := [180, 0, 105, 4, 96, 181, 0, 105, 132, 11, 248, 167, 255, 223, 132, 9, 1, 167, 255, 199, 42, 180, 0, 105]
abbrev dktX0_feed_4 : List UInt8 := dkwX0_feed_4 ++ dktX0_feed_5
def dkwX0_feed_3 : List UInt8 := [21, 11, 155, 0, 34, 42, 180, 0, 31, 42, 180, 0, 105, 21, 10, 21, 11, 122, 145, 84, 42, 89]
abbrev dktX0_feed_3 : List UInt8 := dkwX0_feed_3 ++ dktX0_feed_4
def dkwX0_feed_2 : List UInt8 := [190, 54, 8, 3, 54, 9, 21, 9, 21, 8, 162, 0, 56, 25, 7, 21, 9, 46, 54, 10, 16, 24, 54, 11]
abbrev dktX0_feed_2 : List UInt8 := dkwX0_feed_2 ++ dktX0_feed_3
def dkwX0_feed_1 : List UInt8 := [28, 79, 89, 5, 29, 79, 89, 6, 21, 4, 79, 89, 7, 21, 5, 79, 58, 6, 25, 6, 58, 7, 25, 7]
abbrev dktX0_feed_1 : List UInt8 := dkwX0_feed_1 ++ dktX0_feed_2
def dkwX0_feed_0 : List UInt8 := [42, 180, 0, 105, 16, 20, 96, 17, 6, 64, 164, 0, 5, 2, 172, 8, 188, 10, 89, 3, 27, 79, 89, 4]
abbrev dktX0_feed_0 : List UInt8 := dkwX0_feed_0 ++ dktX0_feed_1
theorem dksX0_feed_0 : cX0_feed.data.toList.drop 0 = dktX0_feed_0 := by decide +kernel
theorem dksX0_feed_1 : cX0_feed.data.toList.drop 24 = dktX0_feed_1 := dk_seg dksX0_feed_0 24 rfl rfl
theorem dksX0_feed_2 : cX0_feed.data.toList.drop 48 = dktX0_feed_2 := dk_seg dksX0_feed_1 24 rfl rfl
theorem dksX0_feed_3 : cX0_feed.data.toList.drop 72 = dktX0_feed_3 := dk_seg dksX0_feed_2 24 rfl rfl
theorem dksX0_feed_4 : cX0_feed.data.toList.drop 94 = dktX0_feed_4 := dk_seg dksX0_feed_3 22 rfl rfl
theorem dksX0_feed_5 : cX0_feed.data.toList.drop 118 = dktX0_feed_5 := dk_seg dksX0_feed_4 24 rfl rfl
theorem dX0_feed_0 : decode cX0_feed 0 = .ok (.aload_n 0, 1) := dk_42 (dk_at dksX0_feed_0 0 rfl rfl)
theorem dX0_feed_1 : decode cX0_feed 1 = .ok (.getfield 105, 3) := dk_180 0 105 (dk_at dksX0_feed_0 1 rfl rfl)
theorem dX0_feed_4 : decode cX0_feed 4 = .ok (.bipush 20, 2) := dk_16 20 (dk_at dksX0_feed_0 4 rfl rfl)
theorem dX0_feed_6 : decode cX0_feed 6 = .ok (.iadd, 1) := dk_96 (dk_at dksX0_feed_0 6 rfl rfl)
theorem dX0_feed_7 : decode cX0_feed 7 = .ok (.sipush 1600, 3) := dk_17 6 64 (dk_at dksX0_feed_0 7 rfl rfl)
theorem dX0_feed_10 : decode cX0_feed 10 = .ok (.if_icmp .le 5, 3) := dk_164 0 5 (dk_at dksX0_feed_0 10 rfl rfl)
theorem dX0_feed_13 : decode cX0_feed 13 = .ok (.iconst (-1), 1) := dk_2 (dk_at dksX0_feed_0 13 rfl rfl)
theorem dX0_feed_14 : decode cX0_feed 14 = .ok (.ireturn, 1) := dk_172 (dk_at dksX0_feed_0 14 rfl rfl)
theorem dX0_feed_15 : decode cX0_feed 15 = .ok (.iconst 5, 1) := dk_8 (dk_at dksX0_feed_0 15 rfl rfl)
theorem dX0_feed_16 : decode cX0_feed 16 = .ok (.newarray .int, 2) := dk_188_10 (dk_at dksX0_feed_0 16 rfl rfl)
theorem dX0_feed_18 : decode cX0_feed 18 = .ok (.dup, 1) := dk_89 (dk_at dksX0_feed_0 18 rfl rfl)
theorem dX0_feed_19 : decode cX0_feed 19 = .ok (.iconst 0, 1) := dk_3 (dk_at dksX0_feed_0 19 rfl rfl)
theorem dX0_feed_20 : decode cX0_feed 20 = .ok (.iload_n 1, 1) := dk_27 (dk_at dksX0_feed_0 20 rfl rfl)
theorem dX0_feed_21 : decode cX0_feed 21 = .ok (.iastore, 1) := dk_79 (dk_at dksX0_feed_0 21 rfl rfl)
theorem dX0_feed_22 : decode cX0_feed 22 = .ok (.dup, 1) := dk_89 (dk_at dksX0_feed_0 22 rfl rfl)
theorem dX0_feed_23 : decode cX0_feed 23 = .ok (.iconst 1, 1) := dk_4 (dk_at dksX0_feed_0 23 rfl rfl)
theorem dX0_feed_24 : decode cX0_feed 24 = .ok (.iload_n 2, 1) := dk_28 (dk_at dksX0_feed_1 0 rfl rfl)
theorem dX0_feed_25 : decode cX0_feed 25 = .ok (.iastore, 1) := dk_79 (dk_at dksX0_feed_1 1 rfl rfl)
theorem dX0_feed_26 : decode cX0_feed 26 = .ok (.dup, 1) := dk_89 (dk_at dksX0_feed_1 2 rfl rfl)
theorem dX0_feed_27 : decode cX0_feed 27 = .ok (.iconst 2, 1) := dk_5 (dk_at dksX0_feed_1 3 rfl rfl)
theorem dX0_feed_28 : decode cX0_feed 28 = .ok (.iload_n 3, 1) := dk_29 (dk_at dksX0_feed_1 4 rfl rfl)
theorem dX0_feed_29 : decode cX0_feed 29 = .ok (.iastore, 1) := dk_79 (dk_at dksX0_feed_1 5 rfl rfl)
theorem dX0_feed_30 : decode cX0_feed 30 = .ok (.dup, 1) := dk_89 (dk_at dksX0_feed_1 6 rfl rfl)
theorem dX0_feed_31 : decode cX0_feed 31 = .ok (.iconst 3, 1) := dk_6 (dk_at dksX0_feed_1 7 rfl rfl)
theorem dX0_feed_32 : decode cX0_feed 32 = .ok (.iload 4, 2) := dk_21 4 (dk_at dksX0_feed_1 8 rfl rfl)
theorem dX0_feed_34 : decode cX0_feed 34 = .ok (.iastore, 1) := dk_79 (dk_at dksX0_feed_1 10 rfl rfl)
theorem dX0_feed_35 : decode cX0_feed 35 = .ok (.dup, 1) := dk_89 (dk_at dksX0_feed_1 11 rfl rfl)
theorem dX0_feed_36 : decode cX0_feed 36 = .ok (.iconst 4, 1) := dk_7 (dk_at dksX0_feed_1 12 rfl rfl)
theorem dX0_feed_37 : decode cX0_feed 37 = .ok (.iload 5, 2) := dk_21 5 (dk_at dksX0_feed_1 13 rfl rfl)
theorem dX0_feed_39 : decode cX0_feed 39 = .ok (.iastore, 1) := dk_79 (dk_at dksX0_feed_1 15 rfl rfl)
theorem dX0_feed_40 : decode cX0_feed 40 = .ok (.astore 6, 2) := dk_58 6 (dk_at dksX0_feed_1 16 rfl rfl)
theorem dX0_feed_42 : decode cX0_feed 42 = .ok (.aload 6, 2) := dk_25 6 (dk_at dksX0_feed_1 18 rfl rfl)
theorem dX0_feed_44 : decode cX0_feed 44 = .ok (.astore 7, 2) := dk_58 7 (dk_at dksX0_feed_1 20 rfl rfl)
theorem dX0_feed_46 : decode cX0_feed 46 = .ok (.aload 7, 2) := dk_25 7 (dk_at dksX0_feed_1 22 rfl rfl)
theorem dX0_feed_48 : decode cX0_feed 48 = .ok (.arraylength, 1) := dk_190 (dk_at dksX0_feed_2 0 rfl rfl)
theorem dX0_feed_49 : decode cX0_feed 49 = .ok (.istore 8, 2) := dk_54 8 (dk_at dksX0_feed_2 1 rfl rfl)
theorem dX0_feed_51 : decode cX0_feed 51 = .ok (.iconst 0, 1) := dk_3 (dk_at dksX0_feed_2 3 rfl rfl)
theorem dX0_feed_52 : decode cX0_feed 52 = .ok (.istore 9, 2) := dk_54 9 (dk_at dksX0_feed_2 4 rfl rfl)
theorem dX0_feed_54 : decode cX0_feed 54 = .ok (.iload 9, 2) := dk_21 9 (dk_at dksX0_feed_2 6 rfl rfl)
theorem dX0_feed_56 : decode cX0_feed 56 = .ok (.iload 8, 2) := dk_21 8 (dk_at dksX0_feed_2 8 rfl rfl)
theorem dX0_feed_58 : decode cX0_feed 58 = .ok (.if_icmp .ge 56, 3) := dk_162 0 56 (dk_at dksX0_feed_2 10 rfl rfl)
theorem dX0_feed_61 : decode cX0_feed 61 = .ok (.aload 7, 2) := dk_25 7 (dk_at dksX0_feed_2 13 rfl rfl)
theorem dX0_feed_63 : decode cX0_feed 63 = .ok (.iload 9, 2) := dk_21 9 (dk_at dksX0_feed_2 15 rfl rfl)
theorem dX0_feed_65 : decode cX0_feed 65 = .ok (.iaload, 1) := dk_46 (dk_at dksX0_feed_2 17 rfl rfl)
theorem dX0_feed_66 : decode cX0_feed 66 = .ok (.istore 10, 2) := dk_54 10 (dk_at dksX0_feed_2 18 rfl rfl)
theorem dX0_feed_68 : decode cX0_feed 68 = .ok (.bipush 24, 2) := dk_16 24 (dk_at dksX0_feed_2 20 rfl rfl)
theorem dX0_feed_70 : decode cX0_feed 70 = .ok (.istore 11, 2) := dk_54 11 (dk_at dksX0_feed_2 22 rfl rfl)
theorem dX0_feed_72 : decode cX0_feed 72 = .ok (.iload 11, 2) := dk_21 11 (dk_at dksX0_feed_3 0 rfl rfl)
theorem dX0_feed_74 : decode cX0_feed 74 = .ok (.ifCond .lt 34, 3) := dk_155 0 34 (dk_at dksX0_feed_3 2 rfl rfl)
theorem dX0_feed_77 : decode cX0_feed 77 = .ok (.aload_n 0, 1) := dk_42 (dk_at dksX0_feed_3 5 rfl rfl)
theorem dX0_feed_78 : decode cX0_feed 78 = .ok (.getfield 31, 3) := dk_180 0 31 (dk_at dksX0_feed_3 6 rfl rfl)
theorem dX0_feed_81 : decode cX0_feed 81 = .ok (.aload_n 0, 1) := dk_42 (dk_at dksX0_feed_3 9 rfl rfl)
theorem dX0_feed_82 : decode cX0_feed 82 = .ok (.getfield 105, 3) := dk_180 0 105 (dk_at dksX0_feed_3 10 rfl rfl)
theorem dX0_feed_85 : decode cX0_feed 85 = .ok (.iload 10, 2) := dk_21 10 (dk_at dksX0_feed_3 13 rfl rfl)
theorem dX0_feed_87 : decode cX0_feed 87 = .ok (.iload 11, 2) := dk_21 11 (dk_at dksX0_feed_3 15 rfl rfl)
theorem dX0_feed_89 : decode cX0_feed 89 = .ok (.ishr, 1) := dk_122 (dk_at dksX0_feed_3 17 rfl rfl)
theorem dX0_feed_90 : decode cX0_feed 90 = .ok (.i2b, 1) := dk_145 (dk_at dksX0_feed_3 18 rfl rfl)
theorem dX0_feed_91 : decode cX0_feed 91 = .ok (.bastore, 1) := dk_84 (dk_at dksX0_feed_3 19 rfl rfl)
theorem dX0_feed_92 : decode cX0_feed 92 = .ok (.aload_n 0, 1) := dk_42 (dk_at dksX0_feed_3 20 rfl rfl)
theorem dX0_feed_93 : decode cX0_feed 93 = .ok (.dup, 1) := dk_89 (dk_at dksX0_feed_3 21 rfl rfl)
theorem dX0_feed_94 : decode cX0_feed 94 = .ok (.getfield 105, 3) := dk_180 0 105 (dk_at dksX0_feed_4 0 rfl rfl)
theorem dX0_feed_97 : decode cX0_feed 97 = .ok (.iconst 1, 1) := dk_4 (dk_at dksX0_feed_4 3 rfl rfl)
theorem dX0_feed_98 : decode cX0_feed 98 = .ok (.iadd, 1) := dk_96 (dk_at dksX0_feed_4 4 rfl rfl)
theorem dX0_feed_99 : decode cX0_feed 99 = .ok (.putfield 105, 3) := dk_181 0 105 (dk_at dksX0_feed_4 5 rfl rfl)
theorem dX0_feed_102 : decode cX0_feed 102 = .ok (.iinc 11 (-8), 3) := dk_132 11 248 (dk_at dksX0_feed_4 8 rfl rfl)
theorem dX0_feed_105 : decode cX0_feed 105 = .ok (.goto (-33), 3) := dk_167 255 223 (dk_at dksX0_feed_4 11 rfl rfl)
theorem dX0_feed_108 : decode cX0_feed 108 = .ok (.iinc 9 1, 3) := dk_132 9 1 (dk_at dksX0_feed_4 14 rfl rfl)
theorem dX0_feed_111 : decode cX0_feed 111 = .ok (.goto (-57), 3) := dk_167 255 199 (dk_at dksX0_feed_4 17 rfl rfl)
theorem dX0_feed_114 : decode cX0_feed 114 = .ok (.aload_n 0, 1) := dk_42 (dk_at dksX0_feed_4 20 rfl rfl)
theorem dX0_feed_115 : decode cX0_feed 115 = .ok (.getfield 105, 3) := dk_180 0 105 (dk_at dksX0_feed_4 21 rfl rfl)
theorem dX0_feed_118 : decode cX0_feed 118 = .ok (.ireturn, 1) := dk_172 (dk_at dksX0_feed_5 0 rfl rfl)
abbrev cX0_end : ByteArray := prog_1_method_5_code
def yX0_end : MethodName := ⟨RX0, "end", "(I)I"⟩
def dkwX0_end_0 : List UInt8 := [27, 155, 0, 11, 27, 42, 180, 0, 105, 164, 0, 5, 2, 172, 42, 27, 181, 0, 105, 27, 172]
abbrev dktX0_end_0 : List UInt8 := dkwX0_end_0 ++ []
theorem dksX0_end_0 : cX0_end.data.toList.drop 0 = dktX0_end_0 := by decide +kernel
theorem dX0_end_0 : decode cX0_end 0 = .ok (.iload_n 1, 1) := dk_27 (dk_at dksX0_end_0 0 rfl rfl)
theorem dX0_end_1 : decode cX0_end 1 = .ok (.ifCond .lt 11, 3) := dk_155 0 11 (dk_at dksX0_end_0 1 rfl rfl)
theorem dX0_end_4 : decode cX0_end 4 = .ok (.iload_n 1, 1) := dk_27 (dk_at dksX0_end_0 4 rfl rfl)
theorem dX0_end_5 : decode cX0_end 5 = .ok (.aload_n 0, 1) := dk_42 (dk_at dksX0_end_0 5 rfl rfl)
theorem dX0_end_6 : decode cX0_end 6 = .ok (.getfield 105, 3) := dk_180 0 105 (dk_at dksX0_end_0 6 rfl rfl)
theorem dX0_end_9 : decode cX0_end 9 = .ok (.if_icmp .le 5, 3) := dk_164 0 5 (dk_at dksX0_end_0 9 rfl rfl)
theorem dX0_end_12 : decode cX0_end 12 = .ok (.iconst (-1), 1) := dk_2 (dk_at dksX0_end_0 12 rfl rfl)
theorem dX0_end_13 : decode cX0_end 13 = .ok (.ireturn, 1) := dk_172 (dk_at dksX0_end_0 13 rfl rfl)
theorem dX0_end_14 : decode cX0_end 14 = .ok (.aload_n 0, 1) := dk_42 (dk_at dksX0_end_0 14 rfl rfl)
theorem dX0_end_15 : decode cX0_end 15 = .ok (.iload_n 1, 1) := dk_27 (dk_at dksX0_end_0 15 rfl rfl)
theorem dX0_end_16 : decode cX0_end 16 = .ok (.putfield 105, 3) := dk_181 0 105 (dk_at dksX0_end_0 16 rfl rfl)
theorem dX0_end_19 : decode cX0_end 19 = .ok (.iload_n 1, 1) := dk_27 (dk_at dksX0_end_0 19 rfl rfl)
theorem dX0_end_20 : decode cX0_end 20 = .ok (.ireturn, 1) := dk_172 (dk_at dksX0_end_0 20 rfl rfl)
abbrev cX0_store : ByteArray := prog_1_method_6_code
def yX0_store : MethodName := ⟨RX0, "store", "()I"⟩
def dkwX0_store_5 : List UInt8 := [43, 199, 0, 10, 42, 182, 0, 140, 167, 0, 4, 2, 172]
abbrev dktX0_store_5 : List UInt8 := dkwX0_store_5 ++ []
def dkwX0_store_4 : List UInt8 := [181, 0, 134, 42, 43, 199, 0, 7, 2, 167, 0, 7, 43, 180, 0, 137, 181, 0, 35, 42, 3, 181, 0, 105]
abbrev dktX0_store_4 : List UInt8 := dkwX0_store_4 ++ dktX0_store_5
def dkwX0_store_3 : List UInt8 := [167, 255, 241, 167, 0, 6, 77, 44, 76, 42, 43, 199, 0, 7, 3, 167, 0, 7, 43, 180, 0, 131]
abbrev dktX0_store_3 : List UInt8 := dkwX0_store_3 ++ dktX0_store_4
def dkwX0_store_2 : List UInt8 := [180, 0, 88, 182, 0, 126, 3, 61, 28, 6, 162, 0, 16, 42, 180, 0, 102, 28, 3, 84, 132, 2, 1]
abbrev dktX0_store_2 : List UInt8 := dkwX0_store_2 ++ dktX0_store_3
def dkwX0_store_1 : List UInt8 := [180, 0, 42, 182, 0, 49, 87, 42, 3, 181, 0, 117, 42, 3, 181, 0, 120, 42, 3, 181, 0, 123, 42]
abbrev dktX0_store_1 : List UInt8 := dkwX0_store_1 ++ dktX0_store_2
def dkwX0_store_0 : List UInt8 := [1, 76, 42, 187, 0, 108, 89, 42, 183, 0, 110, 182, 0, 113, 181, 0, 42, 42, 180, 0, 53, 42]
abbrev dktX0_store_0 : List UInt8 := dkwX0_store_0 ++ dktX0_store_1
theorem dksX0_store_0 : cX0_store.data.toList.drop 0 = dktX0_store_0 := by decide +kernel
theorem dksX0_store_1 : cX0_store.data.toList.drop 22 = dktX0_store_1 := dk_seg dksX0_store_0 22 rfl rfl
theorem dksX0_store_2 : cX0_store.data.toList.drop 45 = dktX0_store_2 := dk_seg dksX0_store_1 23 rfl rfl
theorem dksX0_store_3 : cX0_store.data.toList.drop 68 = dktX0_store_3 := dk_seg dksX0_store_2 23 rfl rfl
theorem dksX0_store_4 : cX0_store.data.toList.drop 90 = dktX0_store_4 := dk_seg dksX0_store_3 22 rfl rfl
theorem dksX0_store_5 : cX0_store.data.toList.drop 114 = dktX0_store_5 := dk_seg dksX0_store_4 24 rfl rfl
theorem dX0_store_0 : decode cX0_store 0 = .ok (.aconst_null, 1) := dk_1 (dk_at dksX0_store_0 0 rfl rfl)
theorem dX0_store_1 : decode cX0_store 1 = .ok (.astore_n 1, 1) := dk_76 (dk_at dksX0_store_0 1 rfl rfl)
theorem dX0_store_2 : decode cX0_store 2 = .ok (.aload_n 0, 1) := dk_42 (dk_at dksX0_store_0 2 rfl rfl)
theorem dX0_store_3 : decode cX0_store 3 = .ok (.new 108, 3) := dk_187 0 108 (dk_at dksX0_store_0 3 rfl rfl)
theorem dX0_store_6 : decode cX0_store 6 = .ok (.dup, 1) := dk_89 (dk_at dksX0_store_0 6 rfl rfl)
theorem dX0_store_7 : decode cX0_store 7 = .ok (.aload_n 0, 1) := dk_42 (dk_at dksX0_store_0 7 rfl rfl)
theorem dX0_store_8 : decode cX0_store 8 = .ok (.invokespecial 110, 3) := dk_183 0 110 (dk_at dksX0_store_0 8 rfl rfl)
theorem dX0_store_11 : decode cX0_store 11 = .ok (.invokevirtual 113, 3) := dk_182 0 113 (dk_at dksX0_store_0 11 rfl rfl)
theorem dX0_store_14 : decode cX0_store 14 = .ok (.putfield 42, 3) := dk_181 0 42 (dk_at dksX0_store_0 14 rfl rfl)
theorem dX0_store_17 : decode cX0_store 17 = .ok (.aload_n 0, 1) := dk_42 (dk_at dksX0_store_0 17 rfl rfl)
theorem dX0_store_18 : decode cX0_store 18 = .ok (.getfield 53, 3) := dk_180 0 53 (dk_at dksX0_store_0 18 rfl rfl)
theorem dX0_store_21 : decode cX0_store 21 = .ok (.aload_n 0, 1) := dk_42 (dk_at dksX0_store_0 21 rfl rfl)
theorem dX0_store_22 : decode cX0_store 22 = .ok (.getfield 42, 3) := dk_180 0 42 (dk_at dksX0_store_1 0 rfl rfl)
theorem dX0_store_25 : decode cX0_store 25 = .ok (.invokevirtual 49, 3) := dk_182 0 49 (dk_at dksX0_store_1 3 rfl rfl)
theorem dX0_store_28 : decode cX0_store 28 = .ok (.pop, 1) := dk_87 (dk_at dksX0_store_1 6 rfl rfl)
theorem dX0_store_29 : decode cX0_store 29 = .ok (.aload_n 0, 1) := dk_42 (dk_at dksX0_store_1 7 rfl rfl)
theorem dX0_store_30 : decode cX0_store 30 = .ok (.iconst 0, 1) := dk_3 (dk_at dksX0_store_1 8 rfl rfl)
theorem dX0_store_31 : decode cX0_store 31 = .ok (.putfield 117, 3) := dk_181 0 117 (dk_at dksX0_store_1 9 rfl rfl)
theorem dX0_store_34 : decode cX0_store 34 = .ok (.aload_n 0, 1) := dk_42 (dk_at dksX0_store_1 12 rfl rfl)
theorem dX0_store_35 : decode cX0_store 35 = .ok (.iconst 0, 1) := dk_3 (dk_at dksX0_store_1 13 rfl rfl)
theorem dX0_store_36 : decode cX0_store 36 = .ok (.putfield 120, 3) := dk_181 0 120 (dk_at dksX0_store_1 14 rfl rfl)
theorem dX0_store_39 : decode cX0_store 39 = .ok (.aload_n 0, 1) := dk_42 (dk_at dksX0_store_1 17 rfl rfl)
theorem dX0_store_40 : decode cX0_store 40 = .ok (.iconst 0, 1) := dk_3 (dk_at dksX0_store_1 18 rfl rfl)
theorem dX0_store_41 : decode cX0_store 41 = .ok (.putfield 123, 3) := dk_181 0 123 (dk_at dksX0_store_1 19 rfl rfl)
theorem dX0_store_44 : decode cX0_store 44 = .ok (.aload_n 0, 1) := dk_42 (dk_at dksX0_store_1 22 rfl rfl)
theorem dX0_store_45 : decode cX0_store 45 = .ok (.getfield 88, 3) := dk_180 0 88 (dk_at dksX0_store_2 0 rfl rfl)
theorem dX0_store_48 : decode cX0_store 48 = .ok (.invokevirtual 126, 3) := dk_182 0 126 (dk_at dksX0_store_2 3 rfl rfl)
theorem dX0_store_51 : decode cX0_store 51 = .ok (.iconst 0, 1) := dk_3 (dk_at dksX0_store_2 6 rfl rfl)
theorem dX0_store_52 : decode cX0_store 52 = .ok (.istore_n 2, 1) := dk_61 (dk_at dksX0_store_2 7 rfl rfl)
theorem dX0_store_53 : decode cX0_store 53 = .ok (.iload_n 2, 1) := dk_28 (dk_at dksX0_store_2 8 rfl rfl)
theorem dX0_store_54 : decode cX0_store 54 = .ok (.iconst 3, 1) := dk_6 (dk_at dksX0_store_2 9 rfl rfl)
theorem dX0_store_55 : decode cX0_store 55 = .ok (.if_icmp .ge 16, 3) := dk_162 0 16 (dk_at dksX0_store_2 10 rfl rfl)
theorem dX0_store_58 : decode cX0_store 58 = .ok (.aload_n 0, 1) := dk_42 (dk_at dksX0_store_2 13 rfl rfl)
theorem dX0_store_59 : decode cX0_store 59 = .ok (.getfield 102, 3) := dk_180 0 102 (dk_at dksX0_store_2 14 rfl rfl)
theorem dX0_store_62 : decode cX0_store 62 = .ok (.iload_n 2, 1) := dk_28 (dk_at dksX0_store_2 17 rfl rfl)
theorem dX0_store_63 : decode cX0_store 63 = .ok (.iconst 0, 1) := dk_3 (dk_at dksX0_store_2 18 rfl rfl)
theorem dX0_store_64 : decode cX0_store 64 = .ok (.bastore, 1) := dk_84 (dk_at dksX0_store_2 19 rfl rfl)
theorem dX0_store_65 : decode cX0_store 65 = .ok (.iinc 2 1, 3) := dk_132 2 1 (dk_at dksX0_store_2 20 rfl rfl)
theorem dX0_store_68 : decode cX0_store 68 = .ok (.goto (-15), 3) := dk_167 255 241 (dk_at dksX0_store_3 0 rfl rfl)
theorem dX0_store_71 : decode cX0_store 71 = .ok (.goto 6, 3) := dk_167 0 6 (dk_at dksX0_store_3 3 rfl rfl)
theorem dX0_store_74 : decode cX0_store 74 = .ok (.astore_n 2, 1) := dk_77 (dk_at dksX0_store_3 6 rfl rfl)
theorem dX0_store_75 : decode cX0_store 75 = .ok (.aload_n 2, 1) := dk_44 (dk_at dksX0_store_3 7 rfl rfl)
theorem dX0_store_76 : decode cX0_store 76 = .ok (.astore_n 1, 1) := dk_76 (dk_at dksX0_store_3 8 rfl rfl)
theorem dX0_store_77 : decode cX0_store 77 = .ok (.aload_n 0, 1) := dk_42 (dk_at dksX0_store_3 9 rfl rfl)
theorem dX0_store_78 : decode cX0_store 78 = .ok (.aload_n 1, 1) := dk_43 (dk_at dksX0_store_3 10 rfl rfl)
theorem dX0_store_79 : decode cX0_store 79 = .ok (.ifnonnull 7, 3) := dk_199 0 7 (dk_at dksX0_store_3 11 rfl rfl)
theorem dX0_store_82 : decode cX0_store 82 = .ok (.iconst 0, 1) := dk_3 (dk_at dksX0_store_3 14 rfl rfl)
theorem dX0_store_83 : decode cX0_store 83 = .ok (.goto 7, 3) := dk_167 0 7 (dk_at dksX0_store_3 15 rfl rfl)
theorem dX0_store_86 : decode cX0_store 86 = .ok (.aload_n 1, 1) := dk_43 (dk_at dksX0_store_3 18 rfl rfl)
theorem dX0_store_87 : decode cX0_store 87 = .ok (.getfield 131, 3) := dk_180 0 131 (dk_at dksX0_store_3 19 rfl rfl)
theorem dX0_store_90 : decode cX0_store 90 = .ok (.putfield 134, 3) := dk_181 0 134 (dk_at dksX0_store_4 0 rfl rfl)
theorem dX0_store_93 : decode cX0_store 93 = .ok (.aload_n 0, 1) := dk_42 (dk_at dksX0_store_4 3 rfl rfl)
theorem dX0_store_94 : decode cX0_store 94 = .ok (.aload_n 1, 1) := dk_43 (dk_at dksX0_store_4 4 rfl rfl)
theorem dX0_store_95 : decode cX0_store 95 = .ok (.ifnonnull 7, 3) := dk_199 0 7 (dk_at dksX0_store_4 5 rfl rfl)
theorem dX0_store_98 : decode cX0_store 98 = .ok (.iconst (-1), 1) := dk_2 (dk_at dksX0_store_4 8 rfl rfl)
theorem dX0_store_99 : decode cX0_store 99 = .ok (.goto 7, 3) := dk_167 0 7 (dk_at dksX0_store_4 9 rfl rfl)
theorem dX0_store_102 : decode cX0_store 102 = .ok (.aload_n 1, 1) := dk_43 (dk_at dksX0_store_4 12 rfl rfl)
theorem dX0_store_103 : decode cX0_store 103 = .ok (.getfield 137, 3) := dk_180 0 137 (dk_at dksX0_store_4 13 rfl rfl)
theorem dX0_store_106 : decode cX0_store 106 = .ok (.putfield 35, 3) := dk_181 0 35 (dk_at dksX0_store_4 16 rfl rfl)
theorem dX0_store_109 : decode cX0_store 109 = .ok (.aload_n 0, 1) := dk_42 (dk_at dksX0_store_4 19 rfl rfl)
theorem dX0_store_110 : decode cX0_store 110 = .ok (.iconst 0, 1) := dk_3 (dk_at dksX0_store_4 20 rfl rfl)
theorem dX0_store_111 : decode cX0_store 111 = .ok (.putfield 105, 3) := dk_181 0 105 (dk_at dksX0_store_4 21 rfl rfl)
theorem dX0_store_114 : decode cX0_store 114 = .ok (.aload_n 1, 1) := dk_43 (dk_at dksX0_store_5 0 rfl rfl)
theorem dX0_store_115 : decode cX0_store 115 = .ok (.ifnonnull 10, 3) := dk_199 0 10 (dk_at dksX0_store_5 1 rfl rfl)
theorem dX0_store_118 : decode cX0_store 118 = .ok (.aload_n 0, 1) := dk_42 (dk_at dksX0_store_5 4 rfl rfl)
theorem dX0_store_119 : decode cX0_store 119 = .ok (.invokevirtual 140, 3) := dk_182 0 140 (dk_at dksX0_store_5 5 rfl rfl)
theorem dX0_store_122 : decode cX0_store 122 = .ok (.goto 4, 3) := dk_167 0 4 (dk_at dksX0_store_5 8 rfl rfl)
theorem dX0_store_125 : decode cX0_store 125 = .ok (.iconst (-1), 1) := dk_2 (dk_at dksX0_store_5 11 rfl rfl)
theorem dX0_store_126 : decode cX0_store 126 = .ok (.ireturn, 1) := dk_172 (dk_at dksX0_store_5 12 rfl rfl)
abbrev cX0_find : ByteArray := prog_1_method_1_code
def yX0_find : MethodName := ⟨RX0, "find", "(Ljava/util/ArrayList;Ljava/lang/String;)I"⟩
def dkwX0_find_1 : List UInt8 := [182, 0, 19, 153, 0, 7, 29, 167, 0, 4, 28, 61, 132, 3, 1, 167, 255, 221, 28, 172]
abbrev dktX0_find_1 : List UInt8 := dkwX0_find_1 ++ []
def dkwX0_find_0 : List UInt8 := [2, 61, 3, 62, 29, 42, 182, 0, 3, 162, 0, 33, 42, 29, 182, 0, 9, 192, 0, 13, 180, 0, 15, 43]
abbrev dktX0_find_0 : List UInt8 := dkwX0_find_0 ++ dktX0_find_1
theorem dksX0_find_0 : cX0_find.data.toList.drop 0 = dktX0_find_0 := by decide +kernel
theorem dksX0_find_1 : cX0_find.data.toList.drop 24 = dktX0_find_1 := dk_seg dksX0_find_0 24 rfl rfl
theorem dX0_find_0 : decode cX0_find 0 = .ok (.iconst (-1), 1) := dk_2 (dk_at dksX0_find_0 0 rfl rfl)
theorem dX0_find_1 : decode cX0_find 1 = .ok (.istore_n 2, 1) := dk_61 (dk_at dksX0_find_0 1 rfl rfl)
theorem dX0_find_2 : decode cX0_find 2 = .ok (.iconst 0, 1) := dk_3 (dk_at dksX0_find_0 2 rfl rfl)
theorem dX0_find_3 : decode cX0_find 3 = .ok (.istore_n 3, 1) := dk_62 (dk_at dksX0_find_0 3 rfl rfl)
theorem dX0_find_4 : decode cX0_find 4 = .ok (.iload_n 3, 1) := dk_29 (dk_at dksX0_find_0 4 rfl rfl)
theorem dX0_find_5 : decode cX0_find 5 = .ok (.aload_n 0, 1) := dk_42 (dk_at dksX0_find_0 5 rfl rfl)
theorem dX0_find_6 : decode cX0_find 6 = .ok (.invokevirtual 3, 3) := dk_182 0 3 (dk_at dksX0_find_0 6 rfl rfl)
theorem dX0_find_9 : decode cX0_find 9 = .ok (.if_icmp .ge 33, 3) := dk_162 0 33 (dk_at dksX0_find_0 9 rfl rfl)
theorem dX0_find_12 : decode cX0_find 12 = .ok (.aload_n 0, 1) := dk_42 (dk_at dksX0_find_0 12 rfl rfl)
theorem dX0_find_13 : decode cX0_find 13 = .ok (.iload_n 3, 1) := dk_29 (dk_at dksX0_find_0 13 rfl rfl)
theorem dX0_find_14 : decode cX0_find 14 = .ok (.invokevirtual 9, 3) := dk_182 0 9 (dk_at dksX0_find_0 14 rfl rfl)
theorem dX0_find_17 : decode cX0_find 17 = .ok (.checkcast 13, 3) := dk_192 0 13 (dk_at dksX0_find_0 17 rfl rfl)
theorem dX0_find_20 : decode cX0_find 20 = .ok (.getfield 15, 3) := dk_180 0 15 (dk_at dksX0_find_0 20 rfl rfl)
theorem dX0_find_23 : decode cX0_find 23 = .ok (.aload_n 1, 1) := dk_43 (dk_at dksX0_find_0 23 rfl rfl)
theorem dX0_find_24 : decode cX0_find 24 = .ok (.invokevirtual 19, 3) := dk_182 0 19 (dk_at dksX0_find_1 0 rfl rfl)
theorem dX0_find_27 : decode cX0_find 27 = .ok (.ifCond .eq 7, 3) := dk_153 0 7 (dk_at dksX0_find_1 3 rfl rfl)
theorem dX0_find_30 : decode cX0_find 30 = .ok (.iload_n 3, 1) := dk_29 (dk_at dksX0_find_1 6 rfl rfl)
theorem dX0_find_31 : decode cX0_find 31 = .ok (.goto 4, 3) := dk_167 0 4 (dk_at dksX0_find_1 7 rfl rfl)
theorem dX0_find_34 : decode cX0_find 34 = .ok (.iload_n 2, 1) := dk_28 (dk_at dksX0_find_1 10 rfl rfl)
theorem dX0_find_35 : decode cX0_find 35 = .ok (.istore_n 2, 1) := dk_61 (dk_at dksX0_find_1 11 rfl rfl)
theorem dX0_find_36 : decode cX0_find 36 = .ok (.iinc 3 1, 3) := dk_132 3 1 (dk_at dksX0_find_1 12 rfl rfl)
theorem dX0_find_39 : decode cX0_find 39 = .ok (.goto (-35), 3) := dk_167 255 221 (dk_at dksX0_find_1 15 rfl rfl)
theorem dX0_find_42 : decode cX0_find 42 = .ok (.iload_n 2, 1) := dk_28 (dk_at dksX0_find_1 18 rfl rfl)
theorem dX0_find_43 : decode cX0_find 43 = .ok (.ireturn, 1) := dk_172 (dk_at dksX0_find_1 19 rfl rfl)
abbrev cX0_things : ByteArray := prog_1_method_10_code
def yX0_things : MethodName := ⟨RX0, "things", "()I"⟩
def dkwX0_things_0 : List UInt8 := [42, 180, 0, 42, 180, 0, 149, 182, 0, 3, 172]
abbrev dktX0_things_0 : List UInt8 := dkwX0_things_0 ++ []
theorem dksX0_things_0 : cX0_things.data.toList.drop 0 = dktX0_things_0 := by decide +kernel
theorem dX0_things_0 : decode cX0_things 0 = .ok (.aload_n 0, 1) := dk_42 (dk_at dksX0_things_0 0 rfl rfl)
theorem dX0_things_1 : decode cX0_things 1 = .ok (.getfield 42, 3) := dk_180 0 42 (dk_at dksX0_things_0 1 rfl rfl)
theorem dX0_things_4 : decode cX0_things 4 = .ok (.getfield 149, 3) := dk_180 0 149 (dk_at dksX0_things_0 4 rfl rfl)
theorem dX0_things_7 : decode cX0_things 7 = .ok (.invokevirtual 3, 3) := dk_182 0 3 (dk_at dksX0_things_0 7 rfl rfl)
theorem dX0_things_10 : decode cX0_things 10 = .ok (.ireturn, 1) := dk_172 (dk_at dksX0_things_0 10 rfl rfl)
abbrev cX0_fault : ByteArray := prog_1_method_7_code
def yX0_fault : MethodName := ⟨RX0, "fault", "(I)I"⟩
def dkwX0_fault_1 : List UInt8 := [172]
abbrev dktX0_fault_1 : List UInt8 := dkwX0_fault_1 ++ []
def dkwX0_fault_0 : List UInt8 := [27, 154, 0, 10, 42, 180, 0, 134, 167, 0, 16, 27, 4, 160, 0, 10, 42, 180, 0, 35, 167, 0, 4, 2]
abbrev dktX0_fault_0 : List UInt8 := dkwX0_fault_0 ++ dktX0_fault_1
theorem dksX0_fault_0 : cX0_fault.data.toList.drop 0 = dktX0_fault_0 := by decide +kernel
theorem dksX0_fault_1 : cX0_fault.data.toList.drop 24 = dktX0_fault_1 := dk_seg dksX0_fault_0 24 rfl rfl
theorem dX0_fault_0 : decode cX0_fault 0 = .ok (.iload_n 1, 1) := dk_27 (dk_at dksX0_fault_0 0 rfl rfl)
theorem dX0_fault_1 : decode cX0_fault 1 = .ok (.ifCond .ne 10, 3) := dk_154 0 10 (dk_at dksX0_fault_0 1 rfl rfl)
theorem dX0_fault_4 : decode cX0_fault 4 = .ok (.aload_n 0, 1) := dk_42 (dk_at dksX0_fault_0 4 rfl rfl)
theorem dX0_fault_5 : decode cX0_fault 5 = .ok (.getfield 134, 3) := dk_180 0 134 (dk_at dksX0_fault_0 5 rfl rfl)
theorem dX0_fault_8 : decode cX0_fault 8 = .ok (.goto 16, 3) := dk_167 0 16 (dk_at dksX0_fault_0 8 rfl rfl)
theorem dX0_fault_11 : decode cX0_fault 11 = .ok (.iload_n 1, 1) := dk_27 (dk_at dksX0_fault_0 11 rfl rfl)
theorem dX0_fault_12 : decode cX0_fault 12 = .ok (.iconst 1, 1) := dk_4 (dk_at dksX0_fault_0 12 rfl rfl)
theorem dX0_fault_13 : decode cX0_fault 13 = .ok (.if_icmp .ne 10, 3) := dk_160 0 10 (dk_at dksX0_fault_0 13 rfl rfl)
theorem dX0_fault_16 : decode cX0_fault 16 = .ok (.aload_n 0, 1) := dk_42 (dk_at dksX0_fault_0 16 rfl rfl)
theorem dX0_fault_17 : decode cX0_fault 17 = .ok (.getfield 35, 3) := dk_180 0 35 (dk_at dksX0_fault_0 17 rfl rfl)
theorem dX0_fault_20 : decode cX0_fault 20 = .ok (.goto 4, 3) := dk_167 0 4 (dk_at dksX0_fault_0 20 rfl rfl)
theorem dX0_fault_23 : decode cX0_fault 23 = .ok (.iconst (-1), 1) := dk_2 (dk_at dksX0_fault_0 23 rfl rfl)
theorem dX0_fault_24 : decode cX0_fault 24 = .ok (.ireturn, 1) := dk_172 (dk_at dksX0_fault_1 0 rfl rfl)
abbrev cX0_person : ByteArray := prog_1_method_17_code
def yX0_person : MethodName := ⟨RX0, "person", "(II)I"⟩
def dkwX0_person_5 : List UInt8 := [42, 180, 0, 53, 180, 0, 162, 126, 172, 16, 254, 172]
abbrev dktX0_person_5 : List UInt8 := dkwX0_person_5 ++ []
def dkwX0_person_4 : List UInt8 := [126, 172, 42, 180, 0, 42, 27, 182, 0, 184, 42, 182, 0, 181, 126, 172, 42, 180, 0, 42, 27, 182, 0, 184]
abbrev dktX0_person_4 : List UInt8 := dkwX0_person_4 ++ dktX0_person_5
def dkwX0_person_3 : List UInt8 := [182, 0, 174, 153, 0, 7, 4, 167, 0, 4, 3, 172, 42, 180, 0, 42, 27, 182, 0, 177, 42, 182, 0, 181]
abbrev dktX0_person_3 : List UInt8 := dkwX0_person_3 ++ dktX0_person_4
def dkwX0_person_2 : List UInt8 := [42, 180, 0, 42, 180, 0, 143, 27, 182, 0, 9, 192, 0, 169, 180, 0, 171, 172, 42, 180, 0, 53, 27]
abbrev dktX0_person_2 : List UInt8 := dkwX0_person_2 ++ dktX0_person_3
def dkwX0_person_1 : List UInt8 := [170, 0, 0, 0, 0, 0, 0, 116, 0, 0, 0, 0, 0, 0, 0, 4, 0, 0, 0, 36, 0, 0, 0, 54, 0, 0, 0, 71, 0, 0, 0, 85, 0, 0, 0, 99]
abbrev dktX0_person_1 : List UInt8 := dkwX0_person_1 ++ dktX0_person_2
def dkwX0_person_0 : List UInt8 := [42, 27, 182, 0, 165, 154, 0, 6, 16, 254, 172, 28]
abbrev dktX0_person_0 : List UInt8 := dkwX0_person_0 ++ dktX0_person_1
theorem dksX0_person_0 : cX0_person.data.toList.drop 0 = dktX0_person_0 := by decide +kernel
theorem dksX0_person_1 : cX0_person.data.toList.drop 12 = dktX0_person_1 := dk_seg dksX0_person_0 12 rfl rfl
theorem dksX0_person_2 : cX0_person.data.toList.drop 48 = dktX0_person_2 := dk_seg dksX0_person_1 36 rfl rfl
theorem dksX0_person_3 : cX0_person.data.toList.drop 71 = dktX0_person_3 := dk_seg dksX0_person_2 23 rfl rfl
theorem dksX0_person_4 : cX0_person.data.toList.drop 95 = dktX0_person_4 := dk_seg dksX0_person_3 24 rfl rfl
theorem dksX0_person_5 : cX0_person.data.toList.drop 119 = dktX0_person_5 := dk_seg dksX0_person_4 24 rfl rfl
theorem dX0_person_0 : decode cX0_person 0 = .ok (.aload_n 0, 1) := dk_42 (dk_at dksX0_person_0 0 rfl rfl)
theorem dX0_person_1 : decode cX0_person 1 = .ok (.iload_n 1, 1) := dk_27 (dk_at dksX0_person_0 1 rfl rfl)
theorem dX0_person_2 : decode cX0_person 2 = .ok (.invokevirtual 165, 3) := dk_182 0 165 (dk_at dksX0_person_0 2 rfl rfl)
theorem dX0_person_5 : decode cX0_person 5 = .ok (.ifCond .ne 6, 3) := dk_154 0 6 (dk_at dksX0_person_0 5 rfl rfl)
theorem dX0_person_8 : decode cX0_person 8 = .ok (.bipush (-2), 2) := dk_16 254 (dk_at dksX0_person_0 8 rfl rfl)
theorem dX0_person_10 : decode cX0_person 10 = .ok (.ireturn, 1) := dk_172 (dk_at dksX0_person_0 10 rfl rfl)
theorem dX0_person_11 : decode cX0_person 11 = .ok (.iload_n 2, 1) := dk_28 (dk_at dksX0_person_0 11 rfl rfl)
theorem dX0_person_12 : decode cX0_person 12 = .ok (.tableswitch 116 0 4 #[36, 54, 71, 85, 99], 36) := by decide +kernel
theorem dX0_person_48 : decode cX0_person 48 = .ok (.aload_n 0, 1) := dk_42 (dk_at dksX0_person_2 0 rfl rfl)
theorem dX0_person_49 : decode cX0_person 49 = .ok (.getfield 42, 3) := dk_180 0 42 (dk_at dksX0_person_2 1 rfl rfl)
theorem dX0_person_52 : decode cX0_person 52 = .ok (.getfield 143, 3) := dk_180 0 143 (dk_at dksX0_person_2 4 rfl rfl)
theorem dX0_person_55 : decode cX0_person 55 = .ok (.iload_n 1, 1) := dk_27 (dk_at dksX0_person_2 7 rfl rfl)
theorem dX0_person_56 : decode cX0_person 56 = .ok (.invokevirtual 9, 3) := dk_182 0 9 (dk_at dksX0_person_2 8 rfl rfl)
theorem dX0_person_59 : decode cX0_person 59 = .ok (.checkcast 169, 3) := dk_192 0 169 (dk_at dksX0_person_2 11 rfl rfl)
theorem dX0_person_62 : decode cX0_person 62 = .ok (.getfield 171, 3) := dk_180 0 171 (dk_at dksX0_person_2 14 rfl rfl)
theorem dX0_person_65 : decode cX0_person 65 = .ok (.ireturn, 1) := dk_172 (dk_at dksX0_person_2 17 rfl rfl)
theorem dX0_person_66 : decode cX0_person 66 = .ok (.aload_n 0, 1) := dk_42 (dk_at dksX0_person_2 18 rfl rfl)
theorem dX0_person_67 : decode cX0_person 67 = .ok (.getfield 53, 3) := dk_180 0 53 (dk_at dksX0_person_2 19 rfl rfl)
theorem dX0_person_70 : decode cX0_person 70 = .ok (.iload_n 1, 1) := dk_27 (dk_at dksX0_person_2 22 rfl rfl)
theorem dX0_person_71 : decode cX0_person 71 = .ok (.invokevirtual 174, 3) := dk_182 0 174 (dk_at dksX0_person_3 0 rfl rfl)
theorem dX0_person_74 : decode cX0_person 74 = .ok (.ifCond .eq 7, 3) := dk_153 0 7 (dk_at dksX0_person_3 3 rfl rfl)
theorem dX0_person_77 : decode cX0_person 77 = .ok (.iconst 1, 1) := dk_4 (dk_at dksX0_person_3 6 rfl rfl)
theorem dX0_person_78 : decode cX0_person 78 = .ok (.goto 4, 3) := dk_167 0 4 (dk_at dksX0_person_3 7 rfl rfl)
theorem dX0_person_81 : decode cX0_person 81 = .ok (.iconst 0, 1) := dk_3 (dk_at dksX0_person_3 10 rfl rfl)
theorem dX0_person_82 : decode cX0_person 82 = .ok (.ireturn, 1) := dk_172 (dk_at dksX0_person_3 11 rfl rfl)
theorem dX0_person_83 : decode cX0_person 83 = .ok (.aload_n 0, 1) := dk_42 (dk_at dksX0_person_3 12 rfl rfl)
theorem dX0_person_84 : decode cX0_person 84 = .ok (.getfield 42, 3) := dk_180 0 42 (dk_at dksX0_person_3 13 rfl rfl)
theorem dX0_person_87 : decode cX0_person 87 = .ok (.iload_n 1, 1) := dk_27 (dk_at dksX0_person_3 16 rfl rfl)
theorem dX0_person_88 : decode cX0_person 88 = .ok (.invokevirtual 177, 3) := dk_182 0 177 (dk_at dksX0_person_3 17 rfl rfl)
theorem dX0_person_91 : decode cX0_person 91 = .ok (.aload_n 0, 1) := dk_42 (dk_at dksX0_person_3 20 rfl rfl)
theorem dX0_person_92 : decode cX0_person 92 = .ok (.invokevirtual 181, 3) := dk_182 0 181 (dk_at dksX0_person_3 21 rfl rfl)
theorem dX0_person_95 : decode cX0_person 95 = .ok (.iand, 1) := dk_126 (dk_at dksX0_person_4 0 rfl rfl)
theorem dX0_person_96 : decode cX0_person 96 = .ok (.ireturn, 1) := dk_172 (dk_at dksX0_person_4 1 rfl rfl)
theorem dX0_person_97 : decode cX0_person 97 = .ok (.aload_n 0, 1) := dk_42 (dk_at dksX0_person_4 2 rfl rfl)
theorem dX0_person_98 : decode cX0_person 98 = .ok (.getfield 42, 3) := dk_180 0 42 (dk_at dksX0_person_4 3 rfl rfl)
theorem dX0_person_101 : decode cX0_person 101 = .ok (.iload_n 1, 1) := dk_27 (dk_at dksX0_person_4 6 rfl rfl)
theorem dX0_person_102 : decode cX0_person 102 = .ok (.invokevirtual 184, 3) := dk_182 0 184 (dk_at dksX0_person_4 7 rfl rfl)
theorem dX0_person_105 : decode cX0_person 105 = .ok (.aload_n 0, 1) := dk_42 (dk_at dksX0_person_4 10 rfl rfl)
theorem dX0_person_106 : decode cX0_person 106 = .ok (.invokevirtual 181, 3) := dk_182 0 181 (dk_at dksX0_person_4 11 rfl rfl)
theorem dX0_person_109 : decode cX0_person 109 = .ok (.iand, 1) := dk_126 (dk_at dksX0_person_4 14 rfl rfl)
theorem dX0_person_110 : decode cX0_person 110 = .ok (.ireturn, 1) := dk_172 (dk_at dksX0_person_4 15 rfl rfl)
theorem dX0_person_111 : decode cX0_person 111 = .ok (.aload_n 0, 1) := dk_42 (dk_at dksX0_person_4 16 rfl rfl)
theorem dX0_person_112 : decode cX0_person 112 = .ok (.getfield 42, 3) := dk_180 0 42 (dk_at dksX0_person_4 17 rfl rfl)
theorem dX0_person_115 : decode cX0_person 115 = .ok (.iload_n 1, 1) := dk_27 (dk_at dksX0_person_4 20 rfl rfl)
theorem dX0_person_116 : decode cX0_person 116 = .ok (.invokevirtual 184, 3) := dk_182 0 184 (dk_at dksX0_person_4 21 rfl rfl)
theorem dX0_person_119 : decode cX0_person 119 = .ok (.aload_n 0, 1) := dk_42 (dk_at dksX0_person_5 0 rfl rfl)
theorem dX0_person_120 : decode cX0_person 120 = .ok (.getfield 53, 3) := dk_180 0 53 (dk_at dksX0_person_5 1 rfl rfl)
theorem dX0_person_123 : decode cX0_person 123 = .ok (.getfield 162, 3) := dk_180 0 162 (dk_at dksX0_person_5 4 rfl rfl)
theorem dX0_person_126 : decode cX0_person 126 = .ok (.iand, 1) := dk_126 (dk_at dksX0_person_5 7 rfl rfl)
theorem dX0_person_127 : decode cX0_person 127 = .ok (.ireturn, 1) := dk_172 (dk_at dksX0_person_5 8 rfl rfl)
theorem dX0_person_128 : decode cX0_person 128 = .ok (.bipush (-2), 2) := dk_16 254 (dk_at dksX0_person_5 9 rfl rfl)
theorem dX0_person_130 : decode cX0_person 130 = .ok (.ireturn, 1) := dk_172 (dk_at dksX0_person_5 11 rfl rfl)
abbrev cX0_isPerson : ByteArray := prog_1_method_13_code
def yX0_isPerson : MethodName := ⟨RX0, "isPerson", "(I)Z"⟩
def dkwX0_isPerson_0 : List UInt8 := [27, 3, 42, 182, 0, 151, 4, 100, 184, 0, 155, 172]
abbrev dktX0_isPerson_0 : List UInt8 := dkwX0_isPerson_0 ++ []
theorem dksX0_isPerson_0 : cX0_isPerson.data.toList.drop 0 = dktX0_isPerson_0 := by decide +kernel
theorem dX0_isPerson_0 : decode cX0_isPerson 0 = .ok (.iload_n 1, 1) := dk_27 (dk_at dksX0_isPerson_0 0 rfl rfl)
theorem dX0_isPerson_1 : decode cX0_isPerson 1 = .ok (.iconst 0, 1) := dk_3 (dk_at dksX0_isPerson_0 1 rfl rfl)
theorem dX0_isPerson_2 : decode cX0_isPerson 2 = .ok (.aload_n 0, 1) := dk_42 (dk_at dksX0_isPerson_0 2 rfl rfl)
theorem dX0_isPerson_3 : decode cX0_isPerson 3 = .ok (.invokevirtual 151, 3) := dk_182 0 151 (dk_at dksX0_isPerson_0 3 rfl rfl)
theorem dX0_isPerson_6 : decode cX0_isPerson 6 = .ok (.iconst 1, 1) := dk_4 (dk_at dksX0_isPerson_0 6 rfl rfl)
theorem dX0_isPerson_7 : decode cX0_isPerson 7 = .ok (.isub, 1) := dk_100 (dk_at dksX0_isPerson_0 7 rfl rfl)
theorem dX0_isPerson_8 : decode cX0_isPerson 8 = .ok (.invokestatic 155, 3) := dk_184 0 155 (dk_at dksX0_isPerson_0 8 rfl rfl)
theorem dX0_isPerson_11 : decode cX0_isPerson 11 = .ok (.ireturn, 1) := dk_172 (dk_at dksX0_isPerson_0 11 rfl rfl)
abbrev cX0_people : ByteArray := prog_1_method_8_code
def yX0_people : MethodName := ⟨RX0, "people", "()I"⟩
def dkwX0_people_0 : List UInt8 := [42, 180, 0, 42, 180, 0, 143, 182, 0, 3, 172]
abbrev dktX0_people_0 : List UInt8 := dkwX0_people_0 ++ []
theorem dksX0_people_0 : cX0_people.data.toList.drop 0 = dktX0_people_0 := by decide +kernel
theorem dX0_people_0 : decode cX0_people 0 = .ok (.aload_n 0, 1) := dk_42 (dk_at dksX0_people_0 0 rfl rfl)
theorem dX0_people_1 : decode cX0_people 1 = .ok (.getfield 42, 3) := dk_180 0 42 (dk_at dksX0_people_0 1 rfl rfl)
theorem dX0_people_4 : decode cX0_people 4 = .ok (.getfield 143, 3) := dk_180 0 143 (dk_at dksX0_people_0 4 rfl rfl)
theorem dX0_people_7 : decode cX0_people 7 = .ok (.invokevirtual 3, 3) := dk_182 0 3 (dk_at dksX0_people_0 7 rfl rfl)
theorem dX0_people_10 : decode cX0_people 10 = .ok (.ireturn, 1) := dk_172 (dk_at dksX0_people_0 10 rfl rfl)
abbrev cX0_isIn : ByteArray := prog_1_method_2_code
def yX0_isIn : MethodName := ⟨RX0, "isIn", "(III)Z"⟩
def dkwX0_isIn_0 : List UInt8 := [26, 27, 161, 0, 12, 26, 28, 163, 0, 7, 4, 167, 0, 4, 3, 172]
abbrev dktX0_isIn_0 : List UInt8 := dkwX0_isIn_0 ++ []
theorem dksX0_isIn_0 : cX0_isIn.data.toList.drop 0 = dktX0_isIn_0 := by decide +kernel
theorem dX0_isIn_0 : decode cX0_isIn 0 = .ok (.iload_n 0, 1) := dk_26 (dk_at dksX0_isIn_0 0 rfl rfl)
theorem dX0_isIn_1 : decode cX0_isIn 1 = .ok (.iload_n 1, 1) := dk_27 (dk_at dksX0_isIn_0 1 rfl rfl)
theorem dX0_isIn_2 : decode cX0_isIn 2 = .ok (.if_icmp .lt 12, 3) := dk_161 0 12 (dk_at dksX0_isIn_0 2 rfl rfl)
theorem dX0_isIn_5 : decode cX0_isIn 5 = .ok (.iload_n 0, 1) := dk_26 (dk_at dksX0_isIn_0 5 rfl rfl)
theorem dX0_isIn_6 : decode cX0_isIn 6 = .ok (.iload_n 2, 1) := dk_28 (dk_at dksX0_isIn_0 6 rfl rfl)
theorem dX0_isIn_7 : decode cX0_isIn 7 = .ok (.if_icmp .gt 7, 3) := dk_163 0 7 (dk_at dksX0_isIn_0 7 rfl rfl)
theorem dX0_isIn_10 : decode cX0_isIn 10 = .ok (.iconst 1, 1) := dk_4 (dk_at dksX0_isIn_0 10 rfl rfl)
theorem dX0_isIn_11 : decode cX0_isIn 11 = .ok (.goto 4, 3) := dk_167 0 4 (dk_at dksX0_isIn_0 11 rfl rfl)
theorem dX0_isIn_14 : decode cX0_isIn 14 = .ok (.iconst 0, 1) := dk_3 (dk_at dksX0_isIn_0 14 rfl rfl)
theorem dX0_isIn_15 : decode cX0_isIn 15 = .ok (.ireturn, 1) := dk_172 (dk_at dksX0_isIn_0 15 rfl rfl)
abbrev cX0_kept : ByteArray := prog_1_method_16_code
def yX0_kept : MethodName := ⟨RX0, "kept", "()I"⟩
def dkwX0_kept_0 : List UInt8 := [42, 180, 0, 42, 182, 0, 159, 42, 180, 0, 53, 180, 0, 162, 2, 130, 126, 172]
abbrev dktX0_kept_0 : List UInt8 := dkwX0_kept_0 ++ []
theorem dksX0_kept_0 : cX0_kept.data.toList.drop 0 = dktX0_kept_0 := by decide +kernel
theorem dX0_kept_0 : decode cX0_kept 0 = .ok (.aload_n 0, 1) := dk_42 (dk_at dksX0_kept_0 0 rfl rfl)
theorem dX0_kept_1 : decode cX0_kept 1 = .ok (.getfield 42, 3) := dk_180 0 42 (dk_at dksX0_kept_0 1 rfl rfl)
theorem dX0_kept_4 : decode cX0_kept 4 = .ok (.invokevirtual 159, 3) := dk_182 0 159 (dk_at dksX0_kept_0 4 rfl rfl)
theorem dX0_kept_7 : decode cX0_kept 7 = .ok (.aload_n 0, 1) := dk_42 (dk_at dksX0_kept_0 7 rfl rfl)
theorem dX0_kept_8 : decode cX0_kept 8 = .ok (.getfield 53, 3) := dk_180 0 53 (dk_at dksX0_kept_0 8 rfl rfl)
theorem dX0_kept_11 : decode cX0_kept 11 = .ok (.getfield 162, 3) := dk_180 0 162 (dk_at dksX0_kept_0 11 rfl rfl)
theorem dX0_kept_14 : decode cX0_kept 14 = .ok (.iconst (-1), 1) := dk_2 (dk_at dksX0_kept_0 14 rfl rfl)
theorem dX0_kept_15 : decode cX0_kept 15 = .ok (.ixor, 1) := dk_130 (dk_at dksX0_kept_0 15 rfl rfl)
theorem dX0_kept_16 : decode cX0_kept 16 = .ok (.iand, 1) := dk_126 (dk_at dksX0_kept_0 16 rfl rfl)
theorem dX0_kept_17 : decode cX0_kept 17 = .ok (.ireturn, 1) := dk_172 (dk_at dksX0_kept_0 17 rfl rfl)
abbrev cX0_thing : ByteArray := prog_1_method_18_code
def yX0_thing : MethodName := ⟨RX0, "thing", "(II)I"⟩
def dkwX0_thing_4 : List UInt8 := [153, 0, 7, 4, 167, 0, 4, 3, 172, 16, 254, 172]
abbrev dktX0_thing_4 : List UInt8 := dkwX0_thing_4 ++ []
def dkwX0_thing_3 : List UInt8 := [182, 0, 196, 172, 42, 180, 0, 53, 180, 0, 199, 27, 46, 172, 42, 180, 0, 53, 27, 182, 0, 202]
abbrev dktX0_thing_3 : List UInt8 := dkwX0_thing_3 ++ dktX0_thing_4
def dkwX0_thing_2 : List UInt8 := [42, 180, 0, 42, 27, 182, 0, 190, 172, 42, 180, 0, 42, 27, 182, 0, 193, 172, 42, 180, 0, 42, 27]
abbrev dktX0_thing_2 : List UInt8 := dkwX0_thing_2 ++ dktX0_thing_3
def dkwX0_thing_1 : List UInt8 := [170, 0, 0, 0, 0, 0, 0, 90, 0, 0, 0, 0, 0, 0, 0, 4, 0, 0, 0, 36, 0, 0, 0, 45, 0, 0, 0, 54, 0, 0, 0, 63, 0, 0, 0, 73]
abbrev dktX0_thing_1 : List UInt8 := dkwX0_thing_1 ++ dktX0_thing_2
def dkwX0_thing_0 : List UInt8 := [42, 27, 182, 0, 187, 154, 0, 6, 16, 254, 172, 28]
abbrev dktX0_thing_0 : List UInt8 := dkwX0_thing_0 ++ dktX0_thing_1
theorem dksX0_thing_0 : cX0_thing.data.toList.drop 0 = dktX0_thing_0 := by decide +kernel
theorem dksX0_thing_1 : cX0_thing.data.toList.drop 12 = dktX0_thing_1 := dk_seg dksX0_thing_0 12 rfl rfl
theorem dksX0_thing_2 : cX0_thing.data.toList.drop 48 = dktX0_thing_2 := dk_seg dksX0_thing_1 36 rfl rfl
theorem dksX0_thing_3 : cX0_thing.data.toList.drop 71 = dktX0_thing_3 := dk_seg dksX0_thing_2 23 rfl rfl
theorem dksX0_thing_4 : cX0_thing.data.toList.drop 93 = dktX0_thing_4 := dk_seg dksX0_thing_3 22 rfl rfl
theorem dX0_thing_0 : decode cX0_thing 0 = .ok (.aload_n 0, 1) := dk_42 (dk_at dksX0_thing_0 0 rfl rfl)
theorem dX0_thing_1 : decode cX0_thing 1 = .ok (.iload_n 1, 1) := dk_27 (dk_at dksX0_thing_0 1 rfl rfl)
theorem dX0_thing_2 : decode cX0_thing 2 = .ok (.invokevirtual 187, 3) := dk_182 0 187 (dk_at dksX0_thing_0 2 rfl rfl)
theorem dX0_thing_5 : decode cX0_thing 5 = .ok (.ifCond .ne 6, 3) := dk_154 0 6 (dk_at dksX0_thing_0 5 rfl rfl)
theorem dX0_thing_8 : decode cX0_thing 8 = .ok (.bipush (-2), 2) := dk_16 254 (dk_at dksX0_thing_0 8 rfl rfl)
theorem dX0_thing_10 : decode cX0_thing 10 = .ok (.ireturn, 1) := dk_172 (dk_at dksX0_thing_0 10 rfl rfl)
theorem dX0_thing_11 : decode cX0_thing 11 = .ok (.iload_n 2, 1) := dk_28 (dk_at dksX0_thing_0 11 rfl rfl)
theorem dX0_thing_12 : decode cX0_thing 12 = .ok (.tableswitch 90 0 4 #[36, 45, 54, 63, 73], 36) := by decide +kernel
theorem dX0_thing_48 : decode cX0_thing 48 = .ok (.aload_n 0, 1) := dk_42 (dk_at dksX0_thing_2 0 rfl rfl)
theorem dX0_thing_49 : decode cX0_thing 49 = .ok (.getfield 42, 3) := dk_180 0 42 (dk_at dksX0_thing_2 1 rfl rfl)
theorem dX0_thing_52 : decode cX0_thing 52 = .ok (.iload_n 1, 1) := dk_27 (dk_at dksX0_thing_2 4 rfl rfl)
theorem dX0_thing_53 : decode cX0_thing 53 = .ok (.invokevirtual 190, 3) := dk_182 0 190 (dk_at dksX0_thing_2 5 rfl rfl)
theorem dX0_thing_56 : decode cX0_thing 56 = .ok (.ireturn, 1) := dk_172 (dk_at dksX0_thing_2 8 rfl rfl)
theorem dX0_thing_57 : decode cX0_thing 57 = .ok (.aload_n 0, 1) := dk_42 (dk_at dksX0_thing_2 9 rfl rfl)
theorem dX0_thing_58 : decode cX0_thing 58 = .ok (.getfield 42, 3) := dk_180 0 42 (dk_at dksX0_thing_2 10 rfl rfl)
theorem dX0_thing_61 : decode cX0_thing 61 = .ok (.iload_n 1, 1) := dk_27 (dk_at dksX0_thing_2 13 rfl rfl)
theorem dX0_thing_62 : decode cX0_thing 62 = .ok (.invokevirtual 193, 3) := dk_182 0 193 (dk_at dksX0_thing_2 14 rfl rfl)
theorem dX0_thing_65 : decode cX0_thing 65 = .ok (.ireturn, 1) := dk_172 (dk_at dksX0_thing_2 17 rfl rfl)
theorem dX0_thing_66 : decode cX0_thing 66 = .ok (.aload_n 0, 1) := dk_42 (dk_at dksX0_thing_2 18 rfl rfl)
theorem dX0_thing_67 : decode cX0_thing 67 = .ok (.getfield 42, 3) := dk_180 0 42 (dk_at dksX0_thing_2 19 rfl rfl)
theorem dX0_thing_70 : decode cX0_thing 70 = .ok (.iload_n 1, 1) := dk_27 (dk_at dksX0_thing_2 22 rfl rfl)
theorem dX0_thing_71 : decode cX0_thing 71 = .ok (.invokevirtual 196, 3) := dk_182 0 196 (dk_at dksX0_thing_3 0 rfl rfl)
theorem dX0_thing_74 : decode cX0_thing 74 = .ok (.ireturn, 1) := dk_172 (dk_at dksX0_thing_3 3 rfl rfl)
theorem dX0_thing_75 : decode cX0_thing 75 = .ok (.aload_n 0, 1) := dk_42 (dk_at dksX0_thing_3 4 rfl rfl)
theorem dX0_thing_76 : decode cX0_thing 76 = .ok (.getfield 53, 3) := dk_180 0 53 (dk_at dksX0_thing_3 5 rfl rfl)
theorem dX0_thing_79 : decode cX0_thing 79 = .ok (.getfield 199, 3) := dk_180 0 199 (dk_at dksX0_thing_3 8 rfl rfl)
theorem dX0_thing_82 : decode cX0_thing 82 = .ok (.iload_n 1, 1) := dk_27 (dk_at dksX0_thing_3 11 rfl rfl)
theorem dX0_thing_83 : decode cX0_thing 83 = .ok (.iaload, 1) := dk_46 (dk_at dksX0_thing_3 12 rfl rfl)
theorem dX0_thing_84 : decode cX0_thing 84 = .ok (.ireturn, 1) := dk_172 (dk_at dksX0_thing_3 13 rfl rfl)
theorem dX0_thing_85 : decode cX0_thing 85 = .ok (.aload_n 0, 1) := dk_42 (dk_at dksX0_thing_3 14 rfl rfl)
theorem dX0_thing_86 : decode cX0_thing 86 = .ok (.getfield 53, 3) := dk_180 0 53 (dk_at dksX0_thing_3 15 rfl rfl)
theorem dX0_thing_89 : decode cX0_thing 89 = .ok (.iload_n 1, 1) := dk_27 (dk_at dksX0_thing_3 18 rfl rfl)
theorem dX0_thing_90 : decode cX0_thing 90 = .ok (.invokevirtual 202, 3) := dk_182 0 202 (dk_at dksX0_thing_3 19 rfl rfl)
theorem dX0_thing_93 : decode cX0_thing 93 = .ok (.ifCond .eq 7, 3) := dk_153 0 7 (dk_at dksX0_thing_4 0 rfl rfl)
theorem dX0_thing_96 : decode cX0_thing 96 = .ok (.iconst 1, 1) := dk_4 (dk_at dksX0_thing_4 3 rfl rfl)
theorem dX0_thing_97 : decode cX0_thing 97 = .ok (.goto 4, 3) := dk_167 0 4 (dk_at dksX0_thing_4 4 rfl rfl)
theorem dX0_thing_100 : decode cX0_thing 100 = .ok (.iconst 0, 1) := dk_3 (dk_at dksX0_thing_4 7 rfl rfl)
theorem dX0_thing_101 : decode cX0_thing 101 = .ok (.ireturn, 1) := dk_172 (dk_at dksX0_thing_4 8 rfl rfl)
theorem dX0_thing_102 : decode cX0_thing 102 = .ok (.bipush (-2), 2) := dk_16 254 (dk_at dksX0_thing_4 9 rfl rfl)
theorem dX0_thing_104 : decode cX0_thing 104 = .ok (.ireturn, 1) := dk_172 (dk_at dksX0_thing_4 11 rfl rfl)
abbrev cX0_isThing : ByteArray := prog_1_method_15_code
def yX0_isThing : MethodName := ⟨RX0, "isThing", "(I)Z"⟩
def dkwX0_isThing_0 : List UInt8 := [27, 3, 42, 182, 0, 140, 4, 100, 184, 0, 155, 172]
abbrev dktX0_isThing_0 : List UInt8 := dkwX0_isThing_0 ++ []
theorem dksX0_isThing_0 : cX0_isThing.data.toList.drop 0 = dktX0_isThing_0 := by decide +kernel
theorem dX0_isThing_0 : decode cX0_isThing 0 = .ok (.iload_n 1, 1) := dk_27 (dk_at dksX0_isThing_0 0 rfl rfl)
theorem dX0_isThing_1 : decode cX0_isThing 1 = .ok (.iconst 0, 1) := dk_3 (dk_at dksX0_isThing_0 1 rfl rfl)
theorem dX0_isThing_2 : decode cX0_isThing 2 = .ok (.aload_n 0, 1) := dk_42 (dk_at dksX0_isThing_0 2 rfl rfl)
theorem dX0_isThing_3 : decode cX0_isThing 3 = .ok (.invokevirtual 140, 3) := dk_182 0 140 (dk_at dksX0_isThing_0 3 rfl rfl)
theorem dX0_isThing_6 : decode cX0_isThing 6 = .ok (.iconst 1, 1) := dk_4 (dk_at dksX0_isThing_0 6 rfl rfl)
theorem dX0_isThing_7 : decode cX0_isThing 7 = .ok (.isub, 1) := dk_100 (dk_at dksX0_isThing_0 7 rfl rfl)
theorem dX0_isThing_8 : decode cX0_isThing 8 = .ok (.invokestatic 155, 3) := dk_184 0 155 (dk_at dksX0_isThing_0 8 rfl rfl)
theorem dX0_isThing_11 : decode cX0_isThing 11 = .ok (.ireturn, 1) := dk_172 (dk_at dksX0_isThing_0 11 rfl rfl)
abbrev cX0_sack : ByteArray := prog_1_method_20_code
def yX0_sack : MethodName := ⟨RX0, "sack", "(II)I"⟩
def dkwX0_sack_2 : List UInt8 := [160, 0, 15, 42, 180, 0, 53, 180, 0, 218, 27, 46, 167, 0, 4, 2, 172]
abbrev dktX0_sack_2 : List UInt8 := dkwX0_sack_2 ++ []
def dkwX0_sack_1 : List UInt8 := [28, 4, 160, 0, 18, 42, 180, 0, 53, 42, 180, 0, 42, 27, 182, 0, 205, 167, 0, 21, 28, 5]
abbrev dktX0_sack_1 : List UInt8 := dkwX0_sack_1 ++ dktX0_sack_2
def dkwX0_sack_0 : List UInt8 := [42, 27, 182, 0, 212, 154, 0, 7, 2, 167, 0, 53, 28, 154, 0, 11, 42, 27, 182, 0, 215, 167, 0, 41]
abbrev dktX0_sack_0 : List UInt8 := dkwX0_sack_0 ++ dktX0_sack_1
theorem dksX0_sack_0 : cX0_sack.data.toList.drop 0 = dktX0_sack_0 := by decide +kernel
theorem dksX0_sack_1 : cX0_sack.data.toList.drop 24 = dktX0_sack_1 := dk_seg dksX0_sack_0 24 rfl rfl
theorem dksX0_sack_2 : cX0_sack.data.toList.drop 46 = dktX0_sack_2 := dk_seg dksX0_sack_1 22 rfl rfl
theorem dX0_sack_0 : decode cX0_sack 0 = .ok (.aload_n 0, 1) := dk_42 (dk_at dksX0_sack_0 0 rfl rfl)
theorem dX0_sack_1 : decode cX0_sack 1 = .ok (.iload_n 1, 1) := dk_27 (dk_at dksX0_sack_0 1 rfl rfl)
theorem dX0_sack_2 : decode cX0_sack 2 = .ok (.invokevirtual 212, 3) := dk_182 0 212 (dk_at dksX0_sack_0 2 rfl rfl)
theorem dX0_sack_5 : decode cX0_sack 5 = .ok (.ifCond .ne 7, 3) := dk_154 0 7 (dk_at dksX0_sack_0 5 rfl rfl)
theorem dX0_sack_8 : decode cX0_sack 8 = .ok (.iconst (-1), 1) := dk_2 (dk_at dksX0_sack_0 8 rfl rfl)
theorem dX0_sack_9 : decode cX0_sack 9 = .ok (.goto 53, 3) := dk_167 0 53 (dk_at dksX0_sack_0 9 rfl rfl)
theorem dX0_sack_12 : decode cX0_sack 12 = .ok (.iload_n 2, 1) := dk_28 (dk_at dksX0_sack_0 12 rfl rfl)
theorem dX0_sack_13 : decode cX0_sack 13 = .ok (.ifCond .ne 11, 3) := dk_154 0 11 (dk_at dksX0_sack_0 13 rfl rfl)
theorem dX0_sack_16 : decode cX0_sack 16 = .ok (.aload_n 0, 1) := dk_42 (dk_at dksX0_sack_0 16 rfl rfl)
theorem dX0_sack_17 : decode cX0_sack 17 = .ok (.iload_n 1, 1) := dk_27 (dk_at dksX0_sack_0 17 rfl rfl)
theorem dX0_sack_18 : decode cX0_sack 18 = .ok (.invokevirtual 215, 3) := dk_182 0 215 (dk_at dksX0_sack_0 18 rfl rfl)
theorem dX0_sack_21 : decode cX0_sack 21 = .ok (.goto 41, 3) := dk_167 0 41 (dk_at dksX0_sack_0 21 rfl rfl)
theorem dX0_sack_24 : decode cX0_sack 24 = .ok (.iload_n 2, 1) := dk_28 (dk_at dksX0_sack_1 0 rfl rfl)
theorem dX0_sack_25 : decode cX0_sack 25 = .ok (.iconst 1, 1) := dk_4 (dk_at dksX0_sack_1 1 rfl rfl)
theorem dX0_sack_26 : decode cX0_sack 26 = .ok (.if_icmp .ne 18, 3) := dk_160 0 18 (dk_at dksX0_sack_1 2 rfl rfl)
theorem dX0_sack_29 : decode cX0_sack 29 = .ok (.aload_n 0, 1) := dk_42 (dk_at dksX0_sack_1 5 rfl rfl)
theorem dX0_sack_30 : decode cX0_sack 30 = .ok (.getfield 53, 3) := dk_180 0 53 (dk_at dksX0_sack_1 6 rfl rfl)
theorem dX0_sack_33 : decode cX0_sack 33 = .ok (.aload_n 0, 1) := dk_42 (dk_at dksX0_sack_1 9 rfl rfl)
theorem dX0_sack_34 : decode cX0_sack 34 = .ok (.getfield 42, 3) := dk_180 0 42 (dk_at dksX0_sack_1 10 rfl rfl)
theorem dX0_sack_37 : decode cX0_sack 37 = .ok (.iload_n 1, 1) := dk_27 (dk_at dksX0_sack_1 13 rfl rfl)
theorem dX0_sack_38 : decode cX0_sack 38 = .ok (.invokevirtual 205, 3) := dk_182 0 205 (dk_at dksX0_sack_1 14 rfl rfl)
theorem dX0_sack_41 : decode cX0_sack 41 = .ok (.goto 21, 3) := dk_167 0 21 (dk_at dksX0_sack_1 17 rfl rfl)
theorem dX0_sack_44 : decode cX0_sack 44 = .ok (.iload_n 2, 1) := dk_28 (dk_at dksX0_sack_1 20 rfl rfl)
theorem dX0_sack_45 : decode cX0_sack 45 = .ok (.iconst 2, 1) := dk_5 (dk_at dksX0_sack_1 21 rfl rfl)
theorem dX0_sack_46 : decode cX0_sack 46 = .ok (.if_icmp .ne 15, 3) := dk_160 0 15 (dk_at dksX0_sack_2 0 rfl rfl)
theorem dX0_sack_49 : decode cX0_sack 49 = .ok (.aload_n 0, 1) := dk_42 (dk_at dksX0_sack_2 3 rfl rfl)
theorem dX0_sack_50 : decode cX0_sack 50 = .ok (.getfield 53, 3) := dk_180 0 53 (dk_at dksX0_sack_2 4 rfl rfl)
theorem dX0_sack_53 : decode cX0_sack 53 = .ok (.getfield 218, 3) := dk_180 0 218 (dk_at dksX0_sack_2 7 rfl rfl)
theorem dX0_sack_56 : decode cX0_sack 56 = .ok (.iload_n 1, 1) := dk_27 (dk_at dksX0_sack_2 10 rfl rfl)
theorem dX0_sack_57 : decode cX0_sack 57 = .ok (.iaload, 1) := dk_46 (dk_at dksX0_sack_2 11 rfl rfl)
theorem dX0_sack_58 : decode cX0_sack 58 = .ok (.goto 4, 3) := dk_167 0 4 (dk_at dksX0_sack_2 12 rfl rfl)
theorem dX0_sack_61 : decode cX0_sack 61 = .ok (.iconst (-1), 1) := dk_2 (dk_at dksX0_sack_2 15 rfl rfl)
theorem dX0_sack_62 : decode cX0_sack 62 = .ok (.ireturn, 1) := dk_172 (dk_at dksX0_sack_2 16 rfl rfl)
abbrev cX0_isSack : ByteArray := prog_1_method_14_code
def yX0_isSack : MethodName := ⟨RX0, "isSack", "(I)Z"⟩
def dkwX0_isSack_0 : List UInt8 := [27, 3, 42, 182, 0, 153, 4, 100, 184, 0, 155, 172]
abbrev dktX0_isSack_0 : List UInt8 := dkwX0_isSack_0 ++ []
theorem dksX0_isSack_0 : cX0_isSack.data.toList.drop 0 = dktX0_isSack_0 := by decide +kernel
theorem dX0_isSack_0 : decode cX0_isSack 0 = .ok (.iload_n 1, 1) := dk_27 (dk_at dksX0_isSack_0 0 rfl rfl)
theorem dX0_isSack_1 : decode cX0_isSack 1 = .ok (.iconst 0, 1) := dk_3 (dk_at dksX0_isSack_0 1 rfl rfl)
theorem dX0_isSack_2 : decode cX0_isSack 2 = .ok (.aload_n 0, 1) := dk_42 (dk_at dksX0_isSack_0 2 rfl rfl)
theorem dX0_isSack_3 : decode cX0_isSack 3 = .ok (.invokevirtual 153, 3) := dk_182 0 153 (dk_at dksX0_isSack_0 3 rfl rfl)
theorem dX0_isSack_6 : decode cX0_isSack 6 = .ok (.iconst 1, 1) := dk_4 (dk_at dksX0_isSack_0 6 rfl rfl)
theorem dX0_isSack_7 : decode cX0_isSack 7 = .ok (.isub, 1) := dk_100 (dk_at dksX0_isSack_0 7 rfl rfl)
theorem dX0_isSack_8 : decode cX0_isSack 8 = .ok (.invokestatic 155, 3) := dk_184 0 155 (dk_at dksX0_isSack_0 8 rfl rfl)
theorem dX0_isSack_11 : decode cX0_isSack 11 = .ok (.ireturn, 1) := dk_172 (dk_at dksX0_isSack_0 11 rfl rfl)
abbrev cX0_sacks : ByteArray := prog_1_method_9_code
def yX0_sacks : MethodName := ⟨RX0, "sacks", "()I"⟩
def dkwX0_sacks_0 : List UInt8 := [42, 180, 0, 42, 180, 0, 146, 182, 0, 3, 172]
abbrev dktX0_sacks_0 : List UInt8 := dkwX0_sacks_0 ++ []
theorem dksX0_sacks_0 : cX0_sacks.data.toList.drop 0 = dktX0_sacks_0 := by decide +kernel
theorem dX0_sacks_0 : decode cX0_sacks 0 = .ok (.aload_n 0, 1) := dk_42 (dk_at dksX0_sacks_0 0 rfl rfl)
theorem dX0_sacks_1 : decode cX0_sacks 1 = .ok (.getfield 42, 3) := dk_180 0 42 (dk_at dksX0_sacks_0 1 rfl rfl)
theorem dX0_sacks_4 : decode cX0_sacks 4 = .ok (.getfield 146, 3) := dk_180 0 146 (dk_at dksX0_sacks_0 4 rfl rfl)
theorem dX0_sacks_7 : decode cX0_sacks 7 = .ok (.invokevirtual 3, 3) := dk_182 0 3 (dk_at dksX0_sacks_0 7 rfl rfl)
theorem dX0_sacks_10 : decode cX0_sacks 10 = .ok (.ireturn, 1) := dk_172 (dk_at dksX0_sacks_0 10 rfl rfl)
abbrev cX0_heatOf : ByteArray := prog_1_method_19_code
def yX0_heatOf : MethodName := ⟨RX0, "heatOf", "(I)I"⟩
def dkwX0_heatOf_0 : List UInt8 := [42, 180, 0, 42, 42, 180, 0, 53, 42, 180, 0, 42, 27, 182, 0, 205, 182, 0, 209, 172]
abbrev dktX0_heatOf_0 : List UInt8 := dkwX0_heatOf_0 ++ []
theorem dksX0_heatOf_0 : cX0_heatOf.data.toList.drop 0 = dktX0_heatOf_0 := by decide +kernel
theorem dX0_heatOf_0 : decode cX0_heatOf 0 = .ok (.aload_n 0, 1) := dk_42 (dk_at dksX0_heatOf_0 0 rfl rfl)
theorem dX0_heatOf_1 : decode cX0_heatOf 1 = .ok (.getfield 42, 3) := dk_180 0 42 (dk_at dksX0_heatOf_0 1 rfl rfl)
theorem dX0_heatOf_4 : decode cX0_heatOf 4 = .ok (.aload_n 0, 1) := dk_42 (dk_at dksX0_heatOf_0 4 rfl rfl)
theorem dX0_heatOf_5 : decode cX0_heatOf 5 = .ok (.getfield 53, 3) := dk_180 0 53 (dk_at dksX0_heatOf_0 5 rfl rfl)
theorem dX0_heatOf_8 : decode cX0_heatOf 8 = .ok (.aload_n 0, 1) := dk_42 (dk_at dksX0_heatOf_0 8 rfl rfl)
theorem dX0_heatOf_9 : decode cX0_heatOf 9 = .ok (.getfield 42, 3) := dk_180 0 42 (dk_at dksX0_heatOf_0 9 rfl rfl)
theorem dX0_heatOf_12 : decode cX0_heatOf 12 = .ok (.iload_n 1, 1) := dk_27 (dk_at dksX0_heatOf_0 12 rfl rfl)
theorem dX0_heatOf_13 : decode cX0_heatOf 13 = .ok (.invokevirtual 205, 3) := dk_182 0 205 (dk_at dksX0_heatOf_0 13 rfl rfl)
theorem dX0_heatOf_16 : decode cX0_heatOf 16 = .ok (.invokevirtual 209, 3) := dk_182 0 209 (dk_at dksX0_heatOf_0 16 rfl rfl)
theorem dX0_heatOf_19 : decode cX0_heatOf 19 = .ok (.ireturn, 1) := dk_172 (dk_at dksX0_heatOf_0 19 rfl rfl)
abbrev cX0_would : ByteArray := prog_1_method_21_code
def yX0_would : MethodName := ⟨RX0, "would", "(I)I"⟩
def dkwX0_would_1 : List UInt8 := [172]
abbrev dktX0_would_1 : List UInt8 := dkwX0_would_1 ++ []
def dkwX0_would_0 : List UInt8 := [42, 27, 182, 0, 212, 153, 0, 18, 42, 180, 0, 53, 42, 180, 0, 42, 27, 182, 0, 221, 167, 0, 4, 2]
abbrev dktX0_would_0 : List UInt8 := dkwX0_would_0 ++ dktX0_would_1
theorem dksX0_would_0 : cX0_would.data.toList.drop 0 = dktX0_would_0 := by decide +kernel
theorem dksX0_would_1 : cX0_would.data.toList.drop 24 = dktX0_would_1 := dk_seg dksX0_would_0 24 rfl rfl
theorem dX0_would_0 : decode cX0_would 0 = .ok (.aload_n 0, 1) := dk_42 (dk_at dksX0_would_0 0 rfl rfl)
theorem dX0_would_1 : decode cX0_would 1 = .ok (.iload_n 1, 1) := dk_27 (dk_at dksX0_would_0 1 rfl rfl)
theorem dX0_would_2 : decode cX0_would 2 = .ok (.invokevirtual 212, 3) := dk_182 0 212 (dk_at dksX0_would_0 2 rfl rfl)
theorem dX0_would_5 : decode cX0_would 5 = .ok (.ifCond .eq 18, 3) := dk_153 0 18 (dk_at dksX0_would_0 5 rfl rfl)
theorem dX0_would_8 : decode cX0_would 8 = .ok (.aload_n 0, 1) := dk_42 (dk_at dksX0_would_0 8 rfl rfl)
theorem dX0_would_9 : decode cX0_would 9 = .ok (.getfield 53, 3) := dk_180 0 53 (dk_at dksX0_would_0 9 rfl rfl)
theorem dX0_would_12 : decode cX0_would 12 = .ok (.aload_n 0, 1) := dk_42 (dk_at dksX0_would_0 12 rfl rfl)
theorem dX0_would_13 : decode cX0_would 13 = .ok (.getfield 42, 3) := dk_180 0 42 (dk_at dksX0_would_0 13 rfl rfl)
theorem dX0_would_16 : decode cX0_would 16 = .ok (.iload_n 1, 1) := dk_27 (dk_at dksX0_would_0 16 rfl rfl)
theorem dX0_would_17 : decode cX0_would 17 = .ok (.invokevirtual 221, 3) := dk_182 0 221 (dk_at dksX0_would_0 17 rfl rfl)
theorem dX0_would_20 : decode cX0_would 20 = .ok (.goto 4, 3) := dk_167 0 4 (dk_at dksX0_would_0 20 rfl rfl)
theorem dX0_would_23 : decode cX0_would 23 = .ok (.iconst (-1), 1) := dk_2 (dk_at dksX0_would_0 23 rfl rfl)
theorem dX0_would_24 : decode cX0_would 24 = .ok (.ireturn, 1) := dk_172 (dk_at dksX0_would_1 0 rfl rfl)
abbrev cX0_sit : ByteArray := prog_1_method_25_code
def yX0_sit : MethodName := ⟨RX0, "sit", "(I)I"⟩
def dkwX0_sit_1 : List UInt8 := [167, 0, 4, 2, 172]
abbrev dktX0_sit_1 : List UInt8 := dkwX0_sit_1 ++ []
def dkwX0_sit_0 : List UInt8 := [42, 27, 182, 0, 165, 153, 0, 22, 42, 180, 0, 53, 27, 182, 0, 174, 154, 0, 11, 42, 27, 182, 0, 244]
abbrev dktX0_sit_0 : List UInt8 := dkwX0_sit_0 ++ dktX0_sit_1
theorem dksX0_sit_0 : cX0_sit.data.toList.drop 0 = dktX0_sit_0 := by decide +kernel
theorem dksX0_sit_1 : cX0_sit.data.toList.drop 24 = dktX0_sit_1 := dk_seg dksX0_sit_0 24 rfl rfl
theorem dX0_sit_0 : decode cX0_sit 0 = .ok (.aload_n 0, 1) := dk_42 (dk_at dksX0_sit_0 0 rfl rfl)
theorem dX0_sit_1 : decode cX0_sit 1 = .ok (.iload_n 1, 1) := dk_27 (dk_at dksX0_sit_0 1 rfl rfl)
theorem dX0_sit_2 : decode cX0_sit 2 = .ok (.invokevirtual 165, 3) := dk_182 0 165 (dk_at dksX0_sit_0 2 rfl rfl)
theorem dX0_sit_5 : decode cX0_sit 5 = .ok (.ifCond .eq 22, 3) := dk_153 0 22 (dk_at dksX0_sit_0 5 rfl rfl)
theorem dX0_sit_8 : decode cX0_sit 8 = .ok (.aload_n 0, 1) := dk_42 (dk_at dksX0_sit_0 8 rfl rfl)
theorem dX0_sit_9 : decode cX0_sit 9 = .ok (.getfield 53, 3) := dk_180 0 53 (dk_at dksX0_sit_0 9 rfl rfl)
theorem dX0_sit_12 : decode cX0_sit 12 = .ok (.iload_n 1, 1) := dk_27 (dk_at dksX0_sit_0 12 rfl rfl)
theorem dX0_sit_13 : decode cX0_sit 13 = .ok (.invokevirtual 174, 3) := dk_182 0 174 (dk_at dksX0_sit_0 13 rfl rfl)
theorem dX0_sit_16 : decode cX0_sit 16 = .ok (.ifCond .ne 11, 3) := dk_154 0 11 (dk_at dksX0_sit_0 16 rfl rfl)
theorem dX0_sit_19 : decode cX0_sit 19 = .ok (.aload_n 0, 1) := dk_42 (dk_at dksX0_sit_0 19 rfl rfl)
theorem dX0_sit_20 : decode cX0_sit 20 = .ok (.iload_n 1, 1) := dk_27 (dk_at dksX0_sit_0 20 rfl rfl)
theorem dX0_sit_21 : decode cX0_sit 21 = .ok (.invokevirtual 244, 3) := dk_182 0 244 (dk_at dksX0_sit_0 21 rfl rfl)
theorem dX0_sit_24 : decode cX0_sit 24 = .ok (.goto 4, 3) := dk_167 0 4 (dk_at dksX0_sit_1 0 rfl rfl)
theorem dX0_sit_27 : decode cX0_sit 27 = .ok (.iconst (-1), 1) := dk_2 (dk_at dksX0_sit_1 3 rfl rfl)
theorem dX0_sit_28 : decode cX0_sit 28 = .ok (.ireturn, 1) := dk_172 (dk_at dksX0_sit_1 4 rfl rfl)
abbrev cX0_change : ByteArray := prog_1_method_24_code
def yX0_change : MethodName := ⟨RX0, "change", "(I)I"⟩
def dkwX0_change_1 : List UInt8 := [180, 0, 237, 184, 0, 239, 172]
abbrev dktX0_change_1 : List UInt8 := dkwX0_change_1 ++ []
def dkwX0_change_0 : List UInt8 := [42, 182, 0, 234, 42, 180, 0, 53, 89, 180, 0, 237, 4, 27, 120, 130, 181, 0, 237, 42, 180, 0, 53]
abbrev dktX0_change_0 : List UInt8 := dkwX0_change_0 ++ dktX0_change_1
theorem dksX0_change_0 : cX0_change.data.toList.drop 0 = dktX0_change_0 := by decide +kernel
theorem dksX0_change_1 : cX0_change.data.toList.drop 23 = dktX0_change_1 := dk_seg dksX0_change_0 23 rfl rfl
theorem dX0_change_0 : decode cX0_change 0 = .ok (.aload_n 0, 1) := dk_42 (dk_at dksX0_change_0 0 rfl rfl)
theorem dX0_change_1 : decode cX0_change 1 = .ok (.invokevirtual 234, 3) := dk_182 0 234 (dk_at dksX0_change_0 1 rfl rfl)
theorem dX0_change_4 : decode cX0_change 4 = .ok (.aload_n 0, 1) := dk_42 (dk_at dksX0_change_0 4 rfl rfl)
theorem dX0_change_5 : decode cX0_change 5 = .ok (.getfield 53, 3) := dk_180 0 53 (dk_at dksX0_change_0 5 rfl rfl)
theorem dX0_change_8 : decode cX0_change 8 = .ok (.dup, 1) := dk_89 (dk_at dksX0_change_0 8 rfl rfl)
theorem dX0_change_9 : decode cX0_change 9 = .ok (.getfield 237, 3) := dk_180 0 237 (dk_at dksX0_change_0 9 rfl rfl)
theorem dX0_change_12 : decode cX0_change 12 = .ok (.iconst 1, 1) := dk_4 (dk_at dksX0_change_0 12 rfl rfl)
theorem dX0_change_13 : decode cX0_change 13 = .ok (.iload_n 1, 1) := dk_27 (dk_at dksX0_change_0 13 rfl rfl)
theorem dX0_change_14 : decode cX0_change 14 = .ok (.ishl, 1) := dk_120 (dk_at dksX0_change_0 14 rfl rfl)
theorem dX0_change_15 : decode cX0_change 15 = .ok (.ixor, 1) := dk_130 (dk_at dksX0_change_0 15 rfl rfl)
theorem dX0_change_16 : decode cX0_change 16 = .ok (.putfield 237, 3) := dk_181 0 237 (dk_at dksX0_change_0 16 rfl rfl)
theorem dX0_change_19 : decode cX0_change 19 = .ok (.aload_n 0, 1) := dk_42 (dk_at dksX0_change_0 19 rfl rfl)
theorem dX0_change_20 : decode cX0_change 20 = .ok (.getfield 53, 3) := dk_180 0 53 (dk_at dksX0_change_0 20 rfl rfl)
theorem dX0_change_23 : decode cX0_change 23 = .ok (.getfield 237, 3) := dk_180 0 237 (dk_at dksX0_change_1 0 rfl rfl)
theorem dX0_change_26 : decode cX0_change 26 = .ok (.invokestatic 239, 3) := dk_184 0 239 (dk_at dksX0_change_1 3 rfl rfl)
theorem dX0_change_29 : decode cX0_change 29 = .ok (.ireturn, 1) := dk_172 (dk_at dksX0_change_1 6 rfl rfl)
abbrev cX0_act : ByteArray := prog_1_method_22_code
def yX0_act : MethodName := ⟨RX0, "act", "()V"⟩
def dkwX0_act_3 : List UInt8 := [180, 0, 117, 4, 96, 181, 0, 117, 42, 3, 181, 0, 120, 177]
abbrev dktX0_act_3 : List UInt8 := dkwX0_act_3 ++ []
def dkwX0_act_2 : List UInt8 := [181, 0, 117, 42, 180, 0, 63, 42, 180, 0, 117, 50, 42, 180, 0, 53, 182, 0, 230, 87, 42, 89]
abbrev dktX0_act_2 : List UInt8 := dkwX0_act_2 ++ dktX0_act_3
def dkwX0_act_1 : List UInt8 := [180, 0, 63, 3, 16, 39, 184, 0, 224, 42, 180, 0, 63, 16, 39, 43, 83, 42, 89, 180, 0, 117, 4, 100]
abbrev dktX0_act_1 : List UInt8 := dkwX0_act_1 ++ dktX0_act_2
def dkwX0_act_0 : List UInt8 := [42, 180, 0, 117, 16, 40, 160, 0, 43, 42, 180, 0, 63, 3, 50, 76, 42, 180, 0, 63, 4, 42]
abbrev dktX0_act_0 : List UInt8 := dkwX0_act_0 ++ dktX0_act_1
theorem dksX0_act_0 : cX0_act.data.toList.drop 0 = dktX0_act_0 := by decide +kernel
theorem dksX0_act_1 : cX0_act.data.toList.drop 22 = dktX0_act_1 := dk_seg dksX0_act_0 22 rfl rfl
theorem dksX0_act_2 : cX0_act.data.toList.drop 46 = dktX0_act_2 := dk_seg dksX0_act_1 24 rfl rfl
theorem dksX0_act_3 : cX0_act.data.toList.drop 68 = dktX0_act_3 := dk_seg dksX0_act_2 22 rfl rfl
theorem dX0_act_0 : decode cX0_act 0 = .ok (.aload_n 0, 1) := dk_42 (dk_at dksX0_act_0 0 rfl rfl)
theorem dX0_act_1 : decode cX0_act 1 = .ok (.getfield 117, 3) := dk_180 0 117 (dk_at dksX0_act_0 1 rfl rfl)
theorem dX0_act_4 : decode cX0_act 4 = .ok (.bipush 40, 2) := dk_16 40 (dk_at dksX0_act_0 4 rfl rfl)
theorem dX0_act_6 : decode cX0_act 6 = .ok (.if_icmp .ne 43, 3) := dk_160 0 43 (dk_at dksX0_act_0 6 rfl rfl)
theorem dX0_act_9 : decode cX0_act 9 = .ok (.aload_n 0, 1) := dk_42 (dk_at dksX0_act_0 9 rfl rfl)
theorem dX0_act_10 : decode cX0_act 10 = .ok (.getfield 63, 3) := dk_180 0 63 (dk_at dksX0_act_0 10 rfl rfl)
theorem dX0_act_13 : decode cX0_act 13 = .ok (.iconst 0, 1) := dk_3 (dk_at dksX0_act_0 13 rfl rfl)
theorem dX0_act_14 : decode cX0_act 14 = .ok (.aaload, 1) := dk_50 (dk_at dksX0_act_0 14 rfl rfl)
theorem dX0_act_15 : decode cX0_act 15 = .ok (.astore_n 1, 1) := dk_76 (dk_at dksX0_act_0 15 rfl rfl)
theorem dX0_act_16 : decode cX0_act 16 = .ok (.aload_n 0, 1) := dk_42 (dk_at dksX0_act_0 16 rfl rfl)
theorem dX0_act_17 : decode cX0_act 17 = .ok (.getfield 63, 3) := dk_180 0 63 (dk_at dksX0_act_0 17 rfl rfl)
theorem dX0_act_20 : decode cX0_act 20 = .ok (.iconst 1, 1) := dk_4 (dk_at dksX0_act_0 20 rfl rfl)
theorem dX0_act_21 : decode cX0_act 21 = .ok (.aload_n 0, 1) := dk_42 (dk_at dksX0_act_0 21 rfl rfl)
theorem dX0_act_22 : decode cX0_act 22 = .ok (.getfield 63, 3) := dk_180 0 63 (dk_at dksX0_act_1 0 rfl rfl)
theorem dX0_act_25 : decode cX0_act 25 = .ok (.iconst 0, 1) := dk_3 (dk_at dksX0_act_1 3 rfl rfl)
theorem dX0_act_26 : decode cX0_act 26 = .ok (.bipush 39, 2) := dk_16 39 (dk_at dksX0_act_1 4 rfl rfl)
theorem dX0_act_28 : decode cX0_act 28 = .ok (.invokestatic 224, 3) := dk_184 0 224 (dk_at dksX0_act_1 6 rfl rfl)
theorem dX0_act_31 : decode cX0_act 31 = .ok (.aload_n 0, 1) := dk_42 (dk_at dksX0_act_1 9 rfl rfl)
theorem dX0_act_32 : decode cX0_act 32 = .ok (.getfield 63, 3) := dk_180 0 63 (dk_at dksX0_act_1 10 rfl rfl)
theorem dX0_act_35 : decode cX0_act 35 = .ok (.bipush 39, 2) := dk_16 39 (dk_at dksX0_act_1 13 rfl rfl)
theorem dX0_act_37 : decode cX0_act 37 = .ok (.aload_n 1, 1) := dk_43 (dk_at dksX0_act_1 15 rfl rfl)
theorem dX0_act_38 : decode cX0_act 38 = .ok (.aastore, 1) := dk_83 (dk_at dksX0_act_1 16 rfl rfl)
theorem dX0_act_39 : decode cX0_act 39 = .ok (.aload_n 0, 1) := dk_42 (dk_at dksX0_act_1 17 rfl rfl)
theorem dX0_act_40 : decode cX0_act 40 = .ok (.dup, 1) := dk_89 (dk_at dksX0_act_1 18 rfl rfl)
theorem dX0_act_41 : decode cX0_act 41 = .ok (.getfield 117, 3) := dk_180 0 117 (dk_at dksX0_act_1 19 rfl rfl)
theorem dX0_act_44 : decode cX0_act 44 = .ok (.iconst 1, 1) := dk_4 (dk_at dksX0_act_1 22 rfl rfl)
theorem dX0_act_45 : decode cX0_act 45 = .ok (.isub, 1) := dk_100 (dk_at dksX0_act_1 23 rfl rfl)
theorem dX0_act_46 : decode cX0_act 46 = .ok (.putfield 117, 3) := dk_181 0 117 (dk_at dksX0_act_2 0 rfl rfl)
theorem dX0_act_49 : decode cX0_act 49 = .ok (.aload_n 0, 1) := dk_42 (dk_at dksX0_act_2 3 rfl rfl)
theorem dX0_act_50 : decode cX0_act 50 = .ok (.getfield 63, 3) := dk_180 0 63 (dk_at dksX0_act_2 4 rfl rfl)
theorem dX0_act_53 : decode cX0_act 53 = .ok (.aload_n 0, 1) := dk_42 (dk_at dksX0_act_2 7 rfl rfl)
theorem dX0_act_54 : decode cX0_act 54 = .ok (.getfield 117, 3) := dk_180 0 117 (dk_at dksX0_act_2 8 rfl rfl)
theorem dX0_act_57 : decode cX0_act 57 = .ok (.aaload, 1) := dk_50 (dk_at dksX0_act_2 11 rfl rfl)
theorem dX0_act_58 : decode cX0_act 58 = .ok (.aload_n 0, 1) := dk_42 (dk_at dksX0_act_2 12 rfl rfl)
theorem dX0_act_59 : decode cX0_act 59 = .ok (.getfield 53, 3) := dk_180 0 53 (dk_at dksX0_act_2 13 rfl rfl)
theorem dX0_act_62 : decode cX0_act 62 = .ok (.invokevirtual 230, 3) := dk_182 0 230 (dk_at dksX0_act_2 16 rfl rfl)
theorem dX0_act_65 : decode cX0_act 65 = .ok (.pop, 1) := dk_87 (dk_at dksX0_act_2 19 rfl rfl)
theorem dX0_act_66 : decode cX0_act 66 = .ok (.aload_n 0, 1) := dk_42 (dk_at dksX0_act_2 20 rfl rfl)
theorem dX0_act_67 : decode cX0_act 67 = .ok (.dup, 1) := dk_89 (dk_at dksX0_act_2 21 rfl rfl)
theorem dX0_act_68 : decode cX0_act 68 = .ok (.getfield 117, 3) := dk_180 0 117 (dk_at dksX0_act_3 0 rfl rfl)
theorem dX0_act_71 : decode cX0_act 71 = .ok (.iconst 1, 1) := dk_4 (dk_at dksX0_act_3 3 rfl rfl)
theorem dX0_act_72 : decode cX0_act 72 = .ok (.iadd, 1) := dk_96 (dk_at dksX0_act_3 4 rfl rfl)
theorem dX0_act_73 : decode cX0_act 73 = .ok (.putfield 117, 3) := dk_181 0 117 (dk_at dksX0_act_3 5 rfl rfl)
theorem dX0_act_76 : decode cX0_act 76 = .ok (.aload_n 0, 1) := dk_42 (dk_at dksX0_act_3 8 rfl rfl)
theorem dX0_act_77 : decode cX0_act 77 = .ok (.iconst 0, 1) := dk_3 (dk_at dksX0_act_3 9 rfl rfl)
theorem dX0_act_78 : decode cX0_act 78 = .ok (.putfield 120, 3) := dk_181 0 120 (dk_at dksX0_act_3 10 rfl rfl)
theorem dX0_act_81 : decode cX0_act 81 = .ok (.return_, 1) := dk_177 (dk_at dksX0_act_3 13 rfl rfl)
abbrev cX0_rise : ByteArray := prog_1_method_26_code
def yX0_rise : MethodName := ⟨RX0, "rise", "(I)I"⟩
def dkwX0_rise_1 : List UInt8 := [167, 0, 4, 2, 172]
abbrev dktX0_rise_1 : List UInt8 := dkwX0_rise_1 ++ []
def dkwX0_rise_0 : List UInt8 := [42, 27, 182, 0, 165, 153, 0, 22, 42, 180, 0, 53, 27, 182, 0, 174, 153, 0, 11, 42, 27, 182, 0, 244]
abbrev dktX0_rise_0 : List UInt8 := dkwX0_rise_0 ++ dktX0_rise_1
theorem dksX0_rise_0 : cX0_rise.data.toList.drop 0 = dktX0_rise_0 := by decide +kernel
theorem dksX0_rise_1 : cX0_rise.data.toList.drop 24 = dktX0_rise_1 := dk_seg dksX0_rise_0 24 rfl rfl
theorem dX0_rise_0 : decode cX0_rise 0 = .ok (.aload_n 0, 1) := dk_42 (dk_at dksX0_rise_0 0 rfl rfl)
theorem dX0_rise_1 : decode cX0_rise 1 = .ok (.iload_n 1, 1) := dk_27 (dk_at dksX0_rise_0 1 rfl rfl)
theorem dX0_rise_2 : decode cX0_rise 2 = .ok (.invokevirtual 165, 3) := dk_182 0 165 (dk_at dksX0_rise_0 2 rfl rfl)
theorem dX0_rise_5 : decode cX0_rise 5 = .ok (.ifCond .eq 22, 3) := dk_153 0 22 (dk_at dksX0_rise_0 5 rfl rfl)
theorem dX0_rise_8 : decode cX0_rise 8 = .ok (.aload_n 0, 1) := dk_42 (dk_at dksX0_rise_0 8 rfl rfl)
theorem dX0_rise_9 : decode cX0_rise 9 = .ok (.getfield 53, 3) := dk_180 0 53 (dk_at dksX0_rise_0 9 rfl rfl)
theorem dX0_rise_12 : decode cX0_rise 12 = .ok (.iload_n 1, 1) := dk_27 (dk_at dksX0_rise_0 12 rfl rfl)
theorem dX0_rise_13 : decode cX0_rise 13 = .ok (.invokevirtual 174, 3) := dk_182 0 174 (dk_at dksX0_rise_0 13 rfl rfl)
theorem dX0_rise_16 : decode cX0_rise 16 = .ok (.ifCond .eq 11, 3) := dk_153 0 11 (dk_at dksX0_rise_0 16 rfl rfl)
theorem dX0_rise_19 : decode cX0_rise 19 = .ok (.aload_n 0, 1) := dk_42 (dk_at dksX0_rise_0 19 rfl rfl)
theorem dX0_rise_20 : decode cX0_rise 20 = .ok (.iload_n 1, 1) := dk_27 (dk_at dksX0_rise_0 20 rfl rfl)
theorem dX0_rise_21 : decode cX0_rise 21 = .ok (.invokevirtual 244, 3) := dk_182 0 244 (dk_at dksX0_rise_0 21 rfl rfl)
theorem dX0_rise_24 : decode cX0_rise 24 = .ok (.goto 4, 3) := dk_167 0 4 (dk_at dksX0_rise_1 0 rfl rfl)
theorem dX0_rise_27 : decode cX0_rise 27 = .ok (.iconst (-1), 1) := dk_2 (dk_at dksX0_rise_1 3 rfl rfl)
theorem dX0_rise_28 : decode cX0_rise 28 = .ok (.ireturn, 1) := dk_172 (dk_at dksX0_rise_1 4 rfl rfl)
abbrev cX0_grind : ByteArray := prog_1_method_27_code
def yX0_grind : MethodName := ⟨RX0, "grind", "(I)I"⟩
def dkwX0_grind_1 : List UInt8 := [182, 0, 247, 172]
abbrev dktX0_grind_1 : List UInt8 := dkwX0_grind_1 ++ []
def dkwX0_grind_0 : List UInt8 := [42, 27, 182, 0, 212, 154, 0, 5, 2, 172, 42, 182, 0, 234, 42, 180, 0, 53, 42, 180, 0, 42, 27]
abbrev dktX0_grind_0 : List UInt8 := dkwX0_grind_0 ++ dktX0_grind_1
theorem dksX0_grind_0 : cX0_grind.data.toList.drop 0 = dktX0_grind_0 := by decide +kernel
theorem dksX0_grind_1 : cX0_grind.data.toList.drop 23 = dktX0_grind_1 := dk_seg dksX0_grind_0 23 rfl rfl
theorem dX0_grind_0 : decode cX0_grind 0 = .ok (.aload_n 0, 1) := dk_42 (dk_at dksX0_grind_0 0 rfl rfl)
theorem dX0_grind_1 : decode cX0_grind 1 = .ok (.iload_n 1, 1) := dk_27 (dk_at dksX0_grind_0 1 rfl rfl)
theorem dX0_grind_2 : decode cX0_grind 2 = .ok (.invokevirtual 212, 3) := dk_182 0 212 (dk_at dksX0_grind_0 2 rfl rfl)
theorem dX0_grind_5 : decode cX0_grind 5 = .ok (.ifCond .ne 5, 3) := dk_154 0 5 (dk_at dksX0_grind_0 5 rfl rfl)
theorem dX0_grind_8 : decode cX0_grind 8 = .ok (.iconst (-1), 1) := dk_2 (dk_at dksX0_grind_0 8 rfl rfl)
theorem dX0_grind_9 : decode cX0_grind 9 = .ok (.ireturn, 1) := dk_172 (dk_at dksX0_grind_0 9 rfl rfl)
theorem dX0_grind_10 : decode cX0_grind 10 = .ok (.aload_n 0, 1) := dk_42 (dk_at dksX0_grind_0 10 rfl rfl)
theorem dX0_grind_11 : decode cX0_grind 11 = .ok (.invokevirtual 234, 3) := dk_182 0 234 (dk_at dksX0_grind_0 11 rfl rfl)
theorem dX0_grind_14 : decode cX0_grind 14 = .ok (.aload_n 0, 1) := dk_42 (dk_at dksX0_grind_0 14 rfl rfl)
theorem dX0_grind_15 : decode cX0_grind 15 = .ok (.getfield 53, 3) := dk_180 0 53 (dk_at dksX0_grind_0 15 rfl rfl)
theorem dX0_grind_18 : decode cX0_grind 18 = .ok (.aload_n 0, 1) := dk_42 (dk_at dksX0_grind_0 18 rfl rfl)
theorem dX0_grind_19 : decode cX0_grind 19 = .ok (.getfield 42, 3) := dk_180 0 42 (dk_at dksX0_grind_0 19 rfl rfl)
theorem dX0_grind_22 : decode cX0_grind 22 = .ok (.iload_n 1, 1) := dk_27 (dk_at dksX0_grind_0 22 rfl rfl)
theorem dX0_grind_23 : decode cX0_grind 23 = .ok (.invokevirtual 247, 3) := dk_182 0 247 (dk_at dksX0_grind_1 0 rfl rfl)
theorem dX0_grind_26 : decode cX0_grind 26 = .ok (.ireturn, 1) := dk_172 (dk_at dksX0_grind_1 3 rfl rfl)
abbrev cX0_pour : ByteArray := prog_1_method_28_code
def yX0_pour : MethodName := ⟨RX0, "pour", "(II)I"⟩
def dkwX0_pour_3 : List UInt8 := [29, 172]
abbrev dktX0_pour_3 : List UInt8 := dkwX0_pour_3 ++ []
def dkwX0_pour_2 : List UInt8 := [42, 182, 0, 234, 42, 180, 0, 53, 180, 0, 199, 27, 46, 62, 42, 180, 0, 53, 180, 0, 199, 27, 28, 79]
abbrev dktX0_pour_2 : List UInt8 := dkwX0_pour_2 ++ dktX0_pour_3
def dkwX0_pour_1 : List UInt8 := [42, 28, 182, 0, 212, 153, 0, 16, 42, 180, 0, 53, 180, 0, 199, 27, 46, 28, 160, 0, 6, 16, 254, 172]
abbrev dktX0_pour_1 : List UInt8 := dkwX0_pour_1 ++ dktX0_pour_2
def dkwX0_pour_0 : List UInt8 := [42, 27, 182, 0, 187, 153, 0, 40, 42, 180, 0, 53, 27, 182, 0, 202, 154, 0, 29, 28, 2, 159, 0, 11]
abbrev dktX0_pour_0 : List UInt8 := dkwX0_pour_0 ++ dktX0_pour_1
theorem dksX0_pour_0 : cX0_pour.data.toList.drop 0 = dktX0_pour_0 := by decide +kernel
theorem dksX0_pour_1 : cX0_pour.data.toList.drop 24 = dktX0_pour_1 := dk_seg dksX0_pour_0 24 rfl rfl
theorem dksX0_pour_2 : cX0_pour.data.toList.drop 48 = dktX0_pour_2 := dk_seg dksX0_pour_1 24 rfl rfl
theorem dksX0_pour_3 : cX0_pour.data.toList.drop 72 = dktX0_pour_3 := dk_seg dksX0_pour_2 24 rfl rfl
theorem dX0_pour_0 : decode cX0_pour 0 = .ok (.aload_n 0, 1) := dk_42 (dk_at dksX0_pour_0 0 rfl rfl)
theorem dX0_pour_1 : decode cX0_pour 1 = .ok (.iload_n 1, 1) := dk_27 (dk_at dksX0_pour_0 1 rfl rfl)
theorem dX0_pour_2 : decode cX0_pour 2 = .ok (.invokevirtual 187, 3) := dk_182 0 187 (dk_at dksX0_pour_0 2 rfl rfl)
theorem dX0_pour_5 : decode cX0_pour 5 = .ok (.ifCond .eq 40, 3) := dk_153 0 40 (dk_at dksX0_pour_0 5 rfl rfl)
theorem dX0_pour_8 : decode cX0_pour 8 = .ok (.aload_n 0, 1) := dk_42 (dk_at dksX0_pour_0 8 rfl rfl)
theorem dX0_pour_9 : decode cX0_pour 9 = .ok (.getfield 53, 3) := dk_180 0 53 (dk_at dksX0_pour_0 9 rfl rfl)
theorem dX0_pour_12 : decode cX0_pour 12 = .ok (.iload_n 1, 1) := dk_27 (dk_at dksX0_pour_0 12 rfl rfl)
theorem dX0_pour_13 : decode cX0_pour 13 = .ok (.invokevirtual 202, 3) := dk_182 0 202 (dk_at dksX0_pour_0 13 rfl rfl)
theorem dX0_pour_16 : decode cX0_pour 16 = .ok (.ifCond .ne 29, 3) := dk_154 0 29 (dk_at dksX0_pour_0 16 rfl rfl)
theorem dX0_pour_19 : decode cX0_pour 19 = .ok (.iload_n 2, 1) := dk_28 (dk_at dksX0_pour_0 19 rfl rfl)
theorem dX0_pour_20 : decode cX0_pour 20 = .ok (.iconst (-1), 1) := dk_2 (dk_at dksX0_pour_0 20 rfl rfl)
theorem dX0_pour_21 : decode cX0_pour 21 = .ok (.if_icmp .eq 11, 3) := dk_159 0 11 (dk_at dksX0_pour_0 21 rfl rfl)
theorem dX0_pour_24 : decode cX0_pour 24 = .ok (.aload_n 0, 1) := dk_42 (dk_at dksX0_pour_1 0 rfl rfl)
theorem dX0_pour_25 : decode cX0_pour 25 = .ok (.iload_n 2, 1) := dk_28 (dk_at dksX0_pour_1 1 rfl rfl)
theorem dX0_pour_26 : decode cX0_pour 26 = .ok (.invokevirtual 212, 3) := dk_182 0 212 (dk_at dksX0_pour_1 2 rfl rfl)
theorem dX0_pour_29 : decode cX0_pour 29 = .ok (.ifCond .eq 16, 3) := dk_153 0 16 (dk_at dksX0_pour_1 5 rfl rfl)
theorem dX0_pour_32 : decode cX0_pour 32 = .ok (.aload_n 0, 1) := dk_42 (dk_at dksX0_pour_1 8 rfl rfl)
theorem dX0_pour_33 : decode cX0_pour 33 = .ok (.getfield 53, 3) := dk_180 0 53 (dk_at dksX0_pour_1 9 rfl rfl)
theorem dX0_pour_36 : decode cX0_pour 36 = .ok (.getfield 199, 3) := dk_180 0 199 (dk_at dksX0_pour_1 12 rfl rfl)
theorem dX0_pour_39 : decode cX0_pour 39 = .ok (.iload_n 1, 1) := dk_27 (dk_at dksX0_pour_1 15 rfl rfl)
theorem dX0_pour_40 : decode cX0_pour 40 = .ok (.iaload, 1) := dk_46 (dk_at dksX0_pour_1 16 rfl rfl)
theorem dX0_pour_41 : decode cX0_pour 41 = .ok (.iload_n 2, 1) := dk_28 (dk_at dksX0_pour_1 17 rfl rfl)
theorem dX0_pour_42 : decode cX0_pour 42 = .ok (.if_icmp .ne 6, 3) := dk_160 0 6 (dk_at dksX0_pour_1 18 rfl rfl)
theorem dX0_pour_45 : decode cX0_pour 45 = .ok (.bipush (-2), 2) := dk_16 254 (dk_at dksX0_pour_1 21 rfl rfl)
theorem dX0_pour_47 : decode cX0_pour 47 = .ok (.ireturn, 1) := dk_172 (dk_at dksX0_pour_1 23 rfl rfl)
theorem dX0_pour_48 : decode cX0_pour 48 = .ok (.aload_n 0, 1) := dk_42 (dk_at dksX0_pour_2 0 rfl rfl)
theorem dX0_pour_49 : decode cX0_pour 49 = .ok (.invokevirtual 234, 3) := dk_182 0 234 (dk_at dksX0_pour_2 1 rfl rfl)
theorem dX0_pour_52 : decode cX0_pour 52 = .ok (.aload_n 0, 1) := dk_42 (dk_at dksX0_pour_2 4 rfl rfl)
theorem dX0_pour_53 : decode cX0_pour 53 = .ok (.getfield 53, 3) := dk_180 0 53 (dk_at dksX0_pour_2 5 rfl rfl)
theorem dX0_pour_56 : decode cX0_pour 56 = .ok (.getfield 199, 3) := dk_180 0 199 (dk_at dksX0_pour_2 8 rfl rfl)
theorem dX0_pour_59 : decode cX0_pour 59 = .ok (.iload_n 1, 1) := dk_27 (dk_at dksX0_pour_2 11 rfl rfl)
theorem dX0_pour_60 : decode cX0_pour 60 = .ok (.iaload, 1) := dk_46 (dk_at dksX0_pour_2 12 rfl rfl)
theorem dX0_pour_61 : decode cX0_pour 61 = .ok (.istore_n 3, 1) := dk_62 (dk_at dksX0_pour_2 13 rfl rfl)
theorem dX0_pour_62 : decode cX0_pour 62 = .ok (.aload_n 0, 1) := dk_42 (dk_at dksX0_pour_2 14 rfl rfl)
theorem dX0_pour_63 : decode cX0_pour 63 = .ok (.getfield 53, 3) := dk_180 0 53 (dk_at dksX0_pour_2 15 rfl rfl)
theorem dX0_pour_66 : decode cX0_pour 66 = .ok (.getfield 199, 3) := dk_180 0 199 (dk_at dksX0_pour_2 18 rfl rfl)
theorem dX0_pour_69 : decode cX0_pour 69 = .ok (.iload_n 1, 1) := dk_27 (dk_at dksX0_pour_2 21 rfl rfl)
theorem dX0_pour_70 : decode cX0_pour 70 = .ok (.iload_n 2, 1) := dk_28 (dk_at dksX0_pour_2 22 rfl rfl)
theorem dX0_pour_71 : decode cX0_pour 71 = .ok (.iastore, 1) := dk_79 (dk_at dksX0_pour_2 23 rfl rfl)
theorem dX0_pour_72 : decode cX0_pour 72 = .ok (.iload_n 3, 1) := dk_29 (dk_at dksX0_pour_3 0 rfl rfl)
theorem dX0_pour_73 : decode cX0_pour 73 = .ok (.ireturn, 1) := dk_172 (dk_at dksX0_pour_3 1 rfl rfl)
abbrev cX0_course : ByteArray := prog_1_method_29_code
def yX0_course : MethodName := ⟨RX0, "course", "()I"⟩
def dkwX0_course_3 : List UInt8 := [156, 0, 7, 3, 167, 0, 6, 4, 27, 120, 128, 181, 0, 162, 27, 172]
abbrev dktX0_course_3 : List UInt8 := dkwX0_course_3 ++ []
def dkwX0_course_2 : List UInt8 := [172, 42, 180, 0, 53, 42, 180, 0, 42, 182, 1, 1, 60, 42, 180, 0, 53, 89, 180, 0, 162, 27]
abbrev dktX0_course_2 : List UInt8 := dkwX0_course_2 ++ dktX0_course_3
def dkwX0_course_1 : List UInt8 := [89, 180, 0, 250, 4, 96, 181, 0, 250, 42, 180, 0, 53, 42, 180, 0, 42, 182, 0, 253, 154, 0, 5, 2]
abbrev dktX0_course_1 : List UInt8 := dkwX0_course_1 ++ dktX0_course_2
def dkwX0_course_0 : List UInt8 := [42, 180, 0, 53, 180, 0, 250, 17, 3, 231, 160, 0, 6, 16, 254, 172, 42, 182, 0, 234, 42, 180, 0, 53]
abbrev dktX0_course_0 : List UInt8 := dkwX0_course_0 ++ dktX0_course_1
theorem dksX0_course_0 : cX0_course.data.toList.drop 0 = dktX0_course_0 := by decide +kernel
theorem dksX0_course_1 : cX0_course.data.toList.drop 24 = dktX0_course_1 := dk_seg dksX0_course_0 24 rfl rfl
theorem dksX0_course_2 : cX0_course.data.toList.drop 48 = dktX0_course_2 := dk_seg dksX0_course_1 24 rfl rfl
theorem dksX0_course_3 : cX0_course.data.toList.drop 70 = dktX0_course_3 := dk_seg dksX0_course_2 22 rfl rfl
theorem dX0_course_0 : decode cX0_course 0 = .ok (.aload_n 0, 1) := dk_42 (dk_at dksX0_course_0 0 rfl rfl)
theorem dX0_course_1 : decode cX0_course 1 = .ok (.getfield 53, 3) := dk_180 0 53 (dk_at dksX0_course_0 1 rfl rfl)
theorem dX0_course_4 : decode cX0_course 4 = .ok (.getfield 250, 3) := dk_180 0 250 (dk_at dksX0_course_0 4 rfl rfl)
theorem dX0_course_7 : decode cX0_course 7 = .ok (.sipush 999, 3) := dk_17 3 231 (dk_at dksX0_course_0 7 rfl rfl)
theorem dX0_course_10 : decode cX0_course 10 = .ok (.if_icmp .ne 6, 3) := dk_160 0 6 (dk_at dksX0_course_0 10 rfl rfl)
theorem dX0_course_13 : decode cX0_course 13 = .ok (.bipush (-2), 2) := dk_16 254 (dk_at dksX0_course_0 13 rfl rfl)
theorem dX0_course_15 : decode cX0_course 15 = .ok (.ireturn, 1) := dk_172 (dk_at dksX0_course_0 15 rfl rfl)
theorem dX0_course_16 : decode cX0_course 16 = .ok (.aload_n 0, 1) := dk_42 (dk_at dksX0_course_0 16 rfl rfl)
theorem dX0_course_17 : decode cX0_course 17 = .ok (.invokevirtual 234, 3) := dk_182 0 234 (dk_at dksX0_course_0 17 rfl rfl)
theorem dX0_course_20 : decode cX0_course 20 = .ok (.aload_n 0, 1) := dk_42 (dk_at dksX0_course_0 20 rfl rfl)
theorem dX0_course_21 : decode cX0_course 21 = .ok (.getfield 53, 3) := dk_180 0 53 (dk_at dksX0_course_0 21 rfl rfl)
theorem dX0_course_24 : decode cX0_course 24 = .ok (.dup, 1) := dk_89 (dk_at dksX0_course_1 0 rfl rfl)
theorem dX0_course_25 : decode cX0_course 25 = .ok (.getfield 250, 3) := dk_180 0 250 (dk_at dksX0_course_1 1 rfl rfl)
theorem dX0_course_28 : decode cX0_course 28 = .ok (.iconst 1, 1) := dk_4 (dk_at dksX0_course_1 4 rfl rfl)
theorem dX0_course_29 : decode cX0_course 29 = .ok (.iadd, 1) := dk_96 (dk_at dksX0_course_1 5 rfl rfl)
theorem dX0_course_30 : decode cX0_course 30 = .ok (.putfield 250, 3) := dk_181 0 250 (dk_at dksX0_course_1 6 rfl rfl)
theorem dX0_course_33 : decode cX0_course 33 = .ok (.aload_n 0, 1) := dk_42 (dk_at dksX0_course_1 9 rfl rfl)
theorem dX0_course_34 : decode cX0_course 34 = .ok (.getfield 53, 3) := dk_180 0 53 (dk_at dksX0_course_1 10 rfl rfl)
theorem dX0_course_37 : decode cX0_course 37 = .ok (.aload_n 0, 1) := dk_42 (dk_at dksX0_course_1 13 rfl rfl)
theorem dX0_course_38 : decode cX0_course 38 = .ok (.getfield 42, 3) := dk_180 0 42 (dk_at dksX0_course_1 14 rfl rfl)
theorem dX0_course_41 : decode cX0_course 41 = .ok (.invokevirtual 253, 3) := dk_182 0 253 (dk_at dksX0_course_1 17 rfl rfl)
theorem dX0_course_44 : decode cX0_course 44 = .ok (.ifCond .ne 5, 3) := dk_154 0 5 (dk_at dksX0_course_1 20 rfl rfl)
theorem dX0_course_47 : decode cX0_course 47 = .ok (.iconst (-1), 1) := dk_2 (dk_at dksX0_course_1 23 rfl rfl)
theorem dX0_course_48 : decode cX0_course 48 = .ok (.ireturn, 1) := dk_172 (dk_at dksX0_course_2 0 rfl rfl)
theorem dX0_course_49 : decode cX0_course 49 = .ok (.aload_n 0, 1) := dk_42 (dk_at dksX0_course_2 1 rfl rfl)
theorem dX0_course_50 : decode cX0_course 50 = .ok (.getfield 53, 3) := dk_180 0 53 (dk_at dksX0_course_2 2 rfl rfl)
theorem dX0_course_53 : decode cX0_course 53 = .ok (.aload_n 0, 1) := dk_42 (dk_at dksX0_course_2 5 rfl rfl)
theorem dX0_course_54 : decode cX0_course 54 = .ok (.getfield 42, 3) := dk_180 0 42 (dk_at dksX0_course_2 6 rfl rfl)
theorem dX0_course_57 : decode cX0_course 57 = .ok (.invokevirtual 257, 3) := dk_182 1 1 (dk_at dksX0_course_2 9 rfl rfl)
theorem dX0_course_60 : decode cX0_course 60 = .ok (.istore_n 1, 1) := dk_60 (dk_at dksX0_course_2 12 rfl rfl)
theorem dX0_course_61 : decode cX0_course 61 = .ok (.aload_n 0, 1) := dk_42 (dk_at dksX0_course_2 13 rfl rfl)
theorem dX0_course_62 : decode cX0_course 62 = .ok (.getfield 53, 3) := dk_180 0 53 (dk_at dksX0_course_2 14 rfl rfl)
theorem dX0_course_65 : decode cX0_course 65 = .ok (.dup, 1) := dk_89 (dk_at dksX0_course_2 17 rfl rfl)
theorem dX0_course_66 : decode cX0_course 66 = .ok (.getfield 162, 3) := dk_180 0 162 (dk_at dksX0_course_2 18 rfl rfl)
theorem dX0_course_69 : decode cX0_course 69 = .ok (.iload_n 1, 1) := dk_27 (dk_at dksX0_course_2 21 rfl rfl)
theorem dX0_course_70 : decode cX0_course 70 = .ok (.ifCond .ge 7, 3) := dk_156 0 7 (dk_at dksX0_course_3 0 rfl rfl)
theorem dX0_course_73 : decode cX0_course 73 = .ok (.iconst 0, 1) := dk_3 (dk_at dksX0_course_3 3 rfl rfl)
theorem dX0_course_74 : decode cX0_course 74 = .ok (.goto 6, 3) := dk_167 0 6 (dk_at dksX0_course_3 4 rfl rfl)
theorem dX0_course_77 : decode cX0_course 77 = .ok (.iconst 1, 1) := dk_4 (dk_at dksX0_course_3 7 rfl rfl)
theorem dX0_course_78 : decode cX0_course 78 = .ok (.iload_n 1, 1) := dk_27 (dk_at dksX0_course_3 8 rfl rfl)
theorem dX0_course_79 : decode cX0_course 79 = .ok (.ishl, 1) := dk_120 (dk_at dksX0_course_3 9 rfl rfl)
theorem dX0_course_80 : decode cX0_course 80 = .ok (.ior, 1) := dk_128 (dk_at dksX0_course_3 10 rfl rfl)
theorem dX0_course_81 : decode cX0_course 81 = .ok (.putfield 162, 3) := dk_181 0 162 (dk_at dksX0_course_3 11 rfl rfl)
theorem dX0_course_84 : decode cX0_course 84 = .ok (.iload_n 1, 1) := dk_27 (dk_at dksX0_course_3 14 rfl rfl)
theorem dX0_course_85 : decode cX0_course 85 = .ok (.ireturn, 1) := dk_172 (dk_at dksX0_course_3 15 rfl rfl)
abbrev cX0_undo : ByteArray := prog_1_method_30_code
def yX0_undo : MethodName := ⟨RX0, "undo", "()Z"⟩
def dkwX0_undo_1 : List UInt8 := [4, 96, 181, 0, 120, 42, 42, 180, 0, 63, 42, 180, 0, 117, 50, 182, 1, 5, 4, 172]
abbrev dktX0_undo_1 : List UInt8 := dkwX0_undo_1 ++ []
def dkwX0_undo_0 : List UInt8 := [42, 180, 0, 117, 154, 0, 5, 3, 172, 42, 89, 180, 0, 117, 4, 100, 181, 0, 117, 42, 89, 180, 0, 120]
abbrev dktX0_undo_0 : List UInt8 := dkwX0_undo_0 ++ dktX0_undo_1
theorem dksX0_undo_0 : cX0_undo.data.toList.drop 0 = dktX0_undo_0 := by decide +kernel
theorem dksX0_undo_1 : cX0_undo.data.toList.drop 24 = dktX0_undo_1 := dk_seg dksX0_undo_0 24 rfl rfl
theorem dX0_undo_0 : decode cX0_undo 0 = .ok (.aload_n 0, 1) := dk_42 (dk_at dksX0_undo_0 0 rfl rfl)
theorem dX0_undo_1 : decode cX0_undo 1 = .ok (.getfield 117, 3) := dk_180 0 117 (dk_at dksX0_undo_0 1 rfl rfl)
theorem dX0_undo_4 : decode cX0_undo 4 = .ok (.ifCond .ne 5, 3) := dk_154 0 5 (dk_at dksX0_undo_0 4 rfl rfl)
theorem dX0_undo_7 : decode cX0_undo 7 = .ok (.iconst 0, 1) := dk_3 (dk_at dksX0_undo_0 7 rfl rfl)
theorem dX0_undo_8 : decode cX0_undo 8 = .ok (.ireturn, 1) := dk_172 (dk_at dksX0_undo_0 8 rfl rfl)
theorem dX0_undo_9 : decode cX0_undo 9 = .ok (.aload_n 0, 1) := dk_42 (dk_at dksX0_undo_0 9 rfl rfl)
theorem dX0_undo_10 : decode cX0_undo 10 = .ok (.dup, 1) := dk_89 (dk_at dksX0_undo_0 10 rfl rfl)
theorem dX0_undo_11 : decode cX0_undo 11 = .ok (.getfield 117, 3) := dk_180 0 117 (dk_at dksX0_undo_0 11 rfl rfl)
theorem dX0_undo_14 : decode cX0_undo 14 = .ok (.iconst 1, 1) := dk_4 (dk_at dksX0_undo_0 14 rfl rfl)
theorem dX0_undo_15 : decode cX0_undo 15 = .ok (.isub, 1) := dk_100 (dk_at dksX0_undo_0 15 rfl rfl)
theorem dX0_undo_16 : decode cX0_undo 16 = .ok (.putfield 117, 3) := dk_181 0 117 (dk_at dksX0_undo_0 16 rfl rfl)
theorem dX0_undo_19 : decode cX0_undo 19 = .ok (.aload_n 0, 1) := dk_42 (dk_at dksX0_undo_0 19 rfl rfl)
theorem dX0_undo_20 : decode cX0_undo 20 = .ok (.dup, 1) := dk_89 (dk_at dksX0_undo_0 20 rfl rfl)
theorem dX0_undo_21 : decode cX0_undo 21 = .ok (.getfield 120, 3) := dk_180 0 120 (dk_at dksX0_undo_0 21 rfl rfl)
theorem dX0_undo_24 : decode cX0_undo 24 = .ok (.iconst 1, 1) := dk_4 (dk_at dksX0_undo_1 0 rfl rfl)
theorem dX0_undo_25 : decode cX0_undo 25 = .ok (.iadd, 1) := dk_96 (dk_at dksX0_undo_1 1 rfl rfl)
theorem dX0_undo_26 : decode cX0_undo 26 = .ok (.putfield 120, 3) := dk_181 0 120 (dk_at dksX0_undo_1 2 rfl rfl)
theorem dX0_undo_29 : decode cX0_undo 29 = .ok (.aload_n 0, 1) := dk_42 (dk_at dksX0_undo_1 5 rfl rfl)
theorem dX0_undo_30 : decode cX0_undo 30 = .ok (.aload_n 0, 1) := dk_42 (dk_at dksX0_undo_1 6 rfl rfl)
theorem dX0_undo_31 : decode cX0_undo 31 = .ok (.getfield 63, 3) := dk_180 0 63 (dk_at dksX0_undo_1 7 rfl rfl)
theorem dX0_undo_34 : decode cX0_undo 34 = .ok (.aload_n 0, 1) := dk_42 (dk_at dksX0_undo_1 10 rfl rfl)
theorem dX0_undo_35 : decode cX0_undo 35 = .ok (.getfield 117, 3) := dk_180 0 117 (dk_at dksX0_undo_1 11 rfl rfl)
theorem dX0_undo_38 : decode cX0_undo 38 = .ok (.aaload, 1) := dk_50 (dk_at dksX0_undo_1 14 rfl rfl)
theorem dX0_undo_39 : decode cX0_undo 39 = .ok (.invokevirtual 261, 3) := dk_182 1 5 (dk_at dksX0_undo_1 15 rfl rfl)
theorem dX0_undo_42 : decode cX0_undo 42 = .ok (.iconst 1, 1) := dk_4 (dk_at dksX0_undo_1 18 rfl rfl)
theorem dX0_undo_43 : decode cX0_undo 43 = .ok (.ireturn, 1) := dk_172 (dk_at dksX0_undo_1 19 rfl rfl)
abbrev cX0_turnAbout : ByteArray := prog_1_method_23_code
def yX0_turnAbout : MethodName := ⟨RX0, "turnAbout", "(LPepperTables$Table;)V"⟩
def dkwX0_turnAbout_1 : List UInt8 := [180, 0, 57, 182, 0, 230, 87, 177]
abbrev dktX0_turnAbout_1 : List UInt8 := dkwX0_turnAbout_1 ++ []
def dkwX0_turnAbout_0 : List UInt8 := [42, 180, 0, 57, 43, 182, 0, 230, 87, 43, 42, 180, 0, 53, 182, 0, 230, 87, 42, 180, 0, 53, 42]
abbrev dktX0_turnAbout_0 : List UInt8 := dkwX0_turnAbout_0 ++ dktX0_turnAbout_1
theorem dksX0_turnAbout_0 : cX0_turnAbout.data.toList.drop 0 = dktX0_turnAbout_0 := by decide +kernel
theorem dksX0_turnAbout_1 : cX0_turnAbout.data.toList.drop 23 = dktX0_turnAbout_1 := dk_seg dksX0_turnAbout_0 23 rfl rfl
theorem dX0_turnAbout_0 : decode cX0_turnAbout 0 = .ok (.aload_n 0, 1) := dk_42 (dk_at dksX0_turnAbout_0 0 rfl rfl)
theorem dX0_turnAbout_1 : decode cX0_turnAbout 1 = .ok (.getfield 57, 3) := dk_180 0 57 (dk_at dksX0_turnAbout_0 1 rfl rfl)
theorem dX0_turnAbout_4 : decode cX0_turnAbout 4 = .ok (.aload_n 1, 1) := dk_43 (dk_at dksX0_turnAbout_0 4 rfl rfl)
theorem dX0_turnAbout_5 : decode cX0_turnAbout 5 = .ok (.invokevirtual 230, 3) := dk_182 0 230 (dk_at dksX0_turnAbout_0 5 rfl rfl)
theorem dX0_turnAbout_8 : decode cX0_turnAbout 8 = .ok (.pop, 1) := dk_87 (dk_at dksX0_turnAbout_0 8 rfl rfl)
theorem dX0_turnAbout_9 : decode cX0_turnAbout 9 = .ok (.aload_n 1, 1) := dk_43 (dk_at dksX0_turnAbout_0 9 rfl rfl)
theorem dX0_turnAbout_10 : decode cX0_turnAbout 10 = .ok (.aload_n 0, 1) := dk_42 (dk_at dksX0_turnAbout_0 10 rfl rfl)
theorem dX0_turnAbout_11 : decode cX0_turnAbout 11 = .ok (.getfield 53, 3) := dk_180 0 53 (dk_at dksX0_turnAbout_0 11 rfl rfl)
theorem dX0_turnAbout_14 : decode cX0_turnAbout 14 = .ok (.invokevirtual 230, 3) := dk_182 0 230 (dk_at dksX0_turnAbout_0 14 rfl rfl)
theorem dX0_turnAbout_17 : decode cX0_turnAbout 17 = .ok (.pop, 1) := dk_87 (dk_at dksX0_turnAbout_0 17 rfl rfl)
theorem dX0_turnAbout_18 : decode cX0_turnAbout 18 = .ok (.aload_n 0, 1) := dk_42 (dk_at dksX0_turnAbout_0 18 rfl rfl)
theorem dX0_turnAbout_19 : decode cX0_turnAbout 19 = .ok (.getfield 53, 3) := dk_180 0 53 (dk_at dksX0_turnAbout_0 19 rfl rfl)
theorem dX0_turnAbout_22 : decode cX0_turnAbout 22 = .ok (.aload_n 0, 1) := dk_42 (dk_at dksX0_turnAbout_0 22 rfl rfl)
theorem dX0_turnAbout_23 : decode cX0_turnAbout 23 = .ok (.getfield 57, 3) := dk_180 0 57 (dk_at dksX0_turnAbout_1 0 rfl rfl)
theorem dX0_turnAbout_26 : decode cX0_turnAbout 26 = .ok (.invokevirtual 230, 3) := dk_182 0 230 (dk_at dksX0_turnAbout_1 3 rfl rfl)
theorem dX0_turnAbout_29 : decode cX0_turnAbout 29 = .ok (.pop, 1) := dk_87 (dk_at dksX0_turnAbout_1 6 rfl rfl)
theorem dX0_turnAbout_30 : decode cX0_turnAbout 30 = .ok (.return_, 1) := dk_177 (dk_at dksX0_turnAbout_1 7 rfl rfl)
abbrev cX0_redo : ByteArray := prog_1_method_31_code
def yX0_redo : MethodName := ⟨RX0, "redo", "()Z"⟩
def dkwX0_redo_1 : List UInt8 := [180, 0, 117, 4, 96, 181, 0, 117, 42, 89, 180, 0, 120, 4, 100, 181, 0, 120, 4, 172]
abbrev dktX0_redo_1 : List UInt8 := dkwX0_redo_1 ++ []
def dkwX0_redo_0 : List UInt8 := [42, 180, 0, 120, 154, 0, 5, 3, 172, 42, 42, 180, 0, 63, 42, 180, 0, 117, 50, 182, 1, 5, 42, 89]
abbrev dktX0_redo_0 : List UInt8 := dkwX0_redo_0 ++ dktX0_redo_1
theorem dksX0_redo_0 : cX0_redo.data.toList.drop 0 = dktX0_redo_0 := by decide +kernel
theorem dksX0_redo_1 : cX0_redo.data.toList.drop 24 = dktX0_redo_1 := dk_seg dksX0_redo_0 24 rfl rfl
theorem dX0_redo_0 : decode cX0_redo 0 = .ok (.aload_n 0, 1) := dk_42 (dk_at dksX0_redo_0 0 rfl rfl)
theorem dX0_redo_1 : decode cX0_redo 1 = .ok (.getfield 120, 3) := dk_180 0 120 (dk_at dksX0_redo_0 1 rfl rfl)
theorem dX0_redo_4 : decode cX0_redo 4 = .ok (.ifCond .ne 5, 3) := dk_154 0 5 (dk_at dksX0_redo_0 4 rfl rfl)
theorem dX0_redo_7 : decode cX0_redo 7 = .ok (.iconst 0, 1) := dk_3 (dk_at dksX0_redo_0 7 rfl rfl)
theorem dX0_redo_8 : decode cX0_redo 8 = .ok (.ireturn, 1) := dk_172 (dk_at dksX0_redo_0 8 rfl rfl)
theorem dX0_redo_9 : decode cX0_redo 9 = .ok (.aload_n 0, 1) := dk_42 (dk_at dksX0_redo_0 9 rfl rfl)
theorem dX0_redo_10 : decode cX0_redo 10 = .ok (.aload_n 0, 1) := dk_42 (dk_at dksX0_redo_0 10 rfl rfl)
theorem dX0_redo_11 : decode cX0_redo 11 = .ok (.getfield 63, 3) := dk_180 0 63 (dk_at dksX0_redo_0 11 rfl rfl)
theorem dX0_redo_14 : decode cX0_redo 14 = .ok (.aload_n 0, 1) := dk_42 (dk_at dksX0_redo_0 14 rfl rfl)
theorem dX0_redo_15 : decode cX0_redo 15 = .ok (.getfield 117, 3) := dk_180 0 117 (dk_at dksX0_redo_0 15 rfl rfl)
theorem dX0_redo_18 : decode cX0_redo 18 = .ok (.aaload, 1) := dk_50 (dk_at dksX0_redo_0 18 rfl rfl)
theorem dX0_redo_19 : decode cX0_redo 19 = .ok (.invokevirtual 261, 3) := dk_182 1 5 (dk_at dksX0_redo_0 19 rfl rfl)
theorem dX0_redo_22 : decode cX0_redo 22 = .ok (.aload_n 0, 1) := dk_42 (dk_at dksX0_redo_0 22 rfl rfl)
theorem dX0_redo_23 : decode cX0_redo 23 = .ok (.dup, 1) := dk_89 (dk_at dksX0_redo_0 23 rfl rfl)
theorem dX0_redo_24 : decode cX0_redo 24 = .ok (.getfield 117, 3) := dk_180 0 117 (dk_at dksX0_redo_1 0 rfl rfl)
theorem dX0_redo_27 : decode cX0_redo 27 = .ok (.iconst 1, 1) := dk_4 (dk_at dksX0_redo_1 3 rfl rfl)
theorem dX0_redo_28 : decode cX0_redo 28 = .ok (.iadd, 1) := dk_96 (dk_at dksX0_redo_1 4 rfl rfl)
theorem dX0_redo_29 : decode cX0_redo 29 = .ok (.putfield 117, 3) := dk_181 0 117 (dk_at dksX0_redo_1 5 rfl rfl)
theorem dX0_redo_32 : decode cX0_redo 32 = .ok (.aload_n 0, 1) := dk_42 (dk_at dksX0_redo_1 8 rfl rfl)
theorem dX0_redo_33 : decode cX0_redo 33 = .ok (.dup, 1) := dk_89 (dk_at dksX0_redo_1 9 rfl rfl)
theorem dX0_redo_34 : decode cX0_redo 34 = .ok (.getfield 120, 3) := dk_180 0 120 (dk_at dksX0_redo_1 10 rfl rfl)
theorem dX0_redo_37 : decode cX0_redo 37 = .ok (.iconst 1, 1) := dk_4 (dk_at dksX0_redo_1 13 rfl rfl)
theorem dX0_redo_38 : decode cX0_redo 38 = .ok (.isub, 1) := dk_100 (dk_at dksX0_redo_1 14 rfl rfl)
theorem dX0_redo_39 : decode cX0_redo 39 = .ok (.putfield 120, 3) := dk_181 0 120 (dk_at dksX0_redo_1 15 rfl rfl)
theorem dX0_redo_42 : decode cX0_redo 42 = .ok (.iconst 1, 1) := dk_4 (dk_at dksX0_redo_1 18 rfl rfl)
theorem dX0_redo_43 : decode cX0_redo 43 = .ok (.ireturn, 1) := dk_172 (dk_at dksX0_redo_1 19 rfl rfl)
abbrev cX0_table : ByteArray := prog_1_method_34_code
def yX0_table : MethodName := ⟨RX0, "table", "(III)I"⟩
def dkwX0_table_4 : List UInt8 := [21, 4, 184, 0, 239, 167, 0, 5, 21, 4, 172]
abbrev dktX0_table_4 : List UInt8 := dkwX0_table_4 ++ []
def dkwX0_table_3 : List UInt8 := [21, 5, 54, 4, 132, 5, 1, 167, 255, 219, 21, 4, 156, 0, 7, 2, 167, 0, 17, 29, 154, 0, 11]
abbrev dktX0_table_3 : List UInt8 := dkwX0_table_3 ++ dktX0_table_4
def dkwX0_table_2 : List UInt8 := [163, 0, 34, 21, 5, 21, 4, 184, 1, 16, 153, 0, 18, 42, 21, 5, 28, 182, 1, 20, 27, 160, 0, 7]
abbrev dktX0_table_2 : List UInt8 := dkwX0_table_2 ++ dktX0_table_3
def dkwX0_table_1 : List UInt8 := [3, 4, 184, 0, 155, 154, 0, 5, 2, 172, 2, 54, 4, 3, 54, 5, 21, 5, 42, 182, 1, 13]
abbrev dktX0_table_1 : List UInt8 := dkwX0_table_1 ++ dktX0_table_2
def dkwX0_table_0 : List UInt8 := [27, 3, 42, 180, 0, 42, 182, 0, 159, 184, 0, 155, 153, 0, 20, 42, 28, 182, 0, 212, 153, 0, 12, 29]
abbrev dktX0_table_0 : List UInt8 := dkwX0_table_0 ++ dktX0_table_1
theorem dksX0_table_0 : cX0_table.data.toList.drop 0 = dktX0_table_0 := by decide +kernel
theorem dksX0_table_1 : cX0_table.data.toList.drop 24 = dktX0_table_1 := dk_seg dksX0_table_0 24 rfl rfl
theorem dksX0_table_2 : cX0_table.data.toList.drop 46 = dktX0_table_2 := dk_seg dksX0_table_1 22 rfl rfl
theorem dksX0_table_3 : cX0_table.data.toList.drop 70 = dktX0_table_3 := dk_seg dksX0_table_2 24 rfl rfl
theorem dksX0_table_4 : cX0_table.data.toList.drop 93 = dktX0_table_4 := dk_seg dksX0_table_3 23 rfl rfl
theorem dX0_table_0 : decode cX0_table 0 = .ok (.iload_n 1, 1) := dk_27 (dk_at dksX0_table_0 0 rfl rfl)
theorem dX0_table_1 : decode cX0_table 1 = .ok (.iconst 0, 1) := dk_3 (dk_at dksX0_table_0 1 rfl rfl)
theorem dX0_table_2 : decode cX0_table 2 = .ok (.aload_n 0, 1) := dk_42 (dk_at dksX0_table_0 2 rfl rfl)
theorem dX0_table_3 : decode cX0_table 3 = .ok (.getfield 42, 3) := dk_180 0 42 (dk_at dksX0_table_0 3 rfl rfl)
theorem dX0_table_6 : decode cX0_table 6 = .ok (.invokevirtual 159, 3) := dk_182 0 159 (dk_at dksX0_table_0 6 rfl rfl)
theorem dX0_table_9 : decode cX0_table 9 = .ok (.invokestatic 155, 3) := dk_184 0 155 (dk_at dksX0_table_0 9 rfl rfl)
theorem dX0_table_12 : decode cX0_table 12 = .ok (.ifCond .eq 20, 3) := dk_153 0 20 (dk_at dksX0_table_0 12 rfl rfl)
theorem dX0_table_15 : decode cX0_table 15 = .ok (.aload_n 0, 1) := dk_42 (dk_at dksX0_table_0 15 rfl rfl)
theorem dX0_table_16 : decode cX0_table 16 = .ok (.iload_n 2, 1) := dk_28 (dk_at dksX0_table_0 16 rfl rfl)
theorem dX0_table_17 : decode cX0_table 17 = .ok (.invokevirtual 212, 3) := dk_182 0 212 (dk_at dksX0_table_0 17 rfl rfl)
theorem dX0_table_20 : decode cX0_table 20 = .ok (.ifCond .eq 12, 3) := dk_153 0 12 (dk_at dksX0_table_0 20 rfl rfl)
theorem dX0_table_23 : decode cX0_table 23 = .ok (.iload_n 3, 1) := dk_29 (dk_at dksX0_table_0 23 rfl rfl)
theorem dX0_table_24 : decode cX0_table 24 = .ok (.iconst 0, 1) := dk_3 (dk_at dksX0_table_1 0 rfl rfl)
theorem dX0_table_25 : decode cX0_table 25 = .ok (.iconst 1, 1) := dk_4 (dk_at dksX0_table_1 1 rfl rfl)
theorem dX0_table_26 : decode cX0_table 26 = .ok (.invokestatic 155, 3) := dk_184 0 155 (dk_at dksX0_table_1 2 rfl rfl)
theorem dX0_table_29 : decode cX0_table 29 = .ok (.ifCond .ne 5, 3) := dk_154 0 5 (dk_at dksX0_table_1 5 rfl rfl)
theorem dX0_table_32 : decode cX0_table 32 = .ok (.iconst (-1), 1) := dk_2 (dk_at dksX0_table_1 8 rfl rfl)
theorem dX0_table_33 : decode cX0_table 33 = .ok (.ireturn, 1) := dk_172 (dk_at dksX0_table_1 9 rfl rfl)
theorem dX0_table_34 : decode cX0_table 34 = .ok (.iconst (-1), 1) := dk_2 (dk_at dksX0_table_1 10 rfl rfl)
theorem dX0_table_35 : decode cX0_table 35 = .ok (.istore 4, 2) := dk_54 4 (dk_at dksX0_table_1 11 rfl rfl)
theorem dX0_table_37 : decode cX0_table 37 = .ok (.iconst 0, 1) := dk_3 (dk_at dksX0_table_1 13 rfl rfl)
theorem dX0_table_38 : decode cX0_table 38 = .ok (.istore 5, 2) := dk_54 5 (dk_at dksX0_table_1 14 rfl rfl)
theorem dX0_table_40 : decode cX0_table 40 = .ok (.iload 5, 2) := dk_21 5 (dk_at dksX0_table_1 16 rfl rfl)
theorem dX0_table_42 : decode cX0_table 42 = .ok (.aload_n 0, 1) := dk_42 (dk_at dksX0_table_1 18 rfl rfl)
theorem dX0_table_43 : decode cX0_table 43 = .ok (.invokevirtual 269, 3) := dk_182 1 13 (dk_at dksX0_table_1 19 rfl rfl)
theorem dX0_table_46 : decode cX0_table 46 = .ok (.if_icmp .gt 34, 3) := dk_163 0 34 (dk_at dksX0_table_2 0 rfl rfl)
theorem dX0_table_49 : decode cX0_table 49 = .ok (.iload 5, 2) := dk_21 5 (dk_at dksX0_table_2 3 rfl rfl)
theorem dX0_table_51 : decode cX0_table 51 = .ok (.iload 4, 2) := dk_21 4 (dk_at dksX0_table_2 5 rfl rfl)
theorem dX0_table_53 : decode cX0_table 53 = .ok (.invokestatic 272, 3) := dk_184 1 16 (dk_at dksX0_table_2 7 rfl rfl)
theorem dX0_table_56 : decode cX0_table 56 = .ok (.ifCond .eq 18, 3) := dk_153 0 18 (dk_at dksX0_table_2 10 rfl rfl)
theorem dX0_table_59 : decode cX0_table 59 = .ok (.aload_n 0, 1) := dk_42 (dk_at dksX0_table_2 13 rfl rfl)
theorem dX0_table_60 : decode cX0_table 60 = .ok (.iload 5, 2) := dk_21 5 (dk_at dksX0_table_2 14 rfl rfl)
theorem dX0_table_62 : decode cX0_table 62 = .ok (.iload_n 2, 1) := dk_28 (dk_at dksX0_table_2 16 rfl rfl)
theorem dX0_table_63 : decode cX0_table 63 = .ok (.invokevirtual 276, 3) := dk_182 1 20 (dk_at dksX0_table_2 17 rfl rfl)
theorem dX0_table_66 : decode cX0_table 66 = .ok (.iload_n 1, 1) := dk_27 (dk_at dksX0_table_2 20 rfl rfl)
theorem dX0_table_67 : decode cX0_table 67 = .ok (.if_icmp .ne 7, 3) := dk_160 0 7 (dk_at dksX0_table_2 21 rfl rfl)
theorem dX0_table_70 : decode cX0_table 70 = .ok (.iload 5, 2) := dk_21 5 (dk_at dksX0_table_3 0 rfl rfl)
theorem dX0_table_72 : decode cX0_table 72 = .ok (.istore 4, 2) := dk_54 4 (dk_at dksX0_table_3 2 rfl rfl)
theorem dX0_table_74 : decode cX0_table 74 = .ok (.iinc 5 1, 3) := dk_132 5 1 (dk_at dksX0_table_3 4 rfl rfl)
theorem dX0_table_77 : decode cX0_table 77 = .ok (.goto (-37), 3) := dk_167 255 219 (dk_at dksX0_table_3 7 rfl rfl)
theorem dX0_table_80 : decode cX0_table 80 = .ok (.iload 4, 2) := dk_21 4 (dk_at dksX0_table_3 10 rfl rfl)
theorem dX0_table_82 : decode cX0_table 82 = .ok (.ifCond .ge 7, 3) := dk_156 0 7 (dk_at dksX0_table_3 12 rfl rfl)
theorem dX0_table_85 : decode cX0_table 85 = .ok (.iconst (-1), 1) := dk_2 (dk_at dksX0_table_3 15 rfl rfl)
theorem dX0_table_86 : decode cX0_table 86 = .ok (.goto 17, 3) := dk_167 0 17 (dk_at dksX0_table_3 16 rfl rfl)
theorem dX0_table_89 : decode cX0_table 89 = .ok (.iload_n 3, 1) := dk_29 (dk_at dksX0_table_3 19 rfl rfl)
theorem dX0_table_90 : decode cX0_table 90 = .ok (.ifCond .ne 11, 3) := dk_154 0 11 (dk_at dksX0_table_3 20 rfl rfl)
theorem dX0_table_93 : decode cX0_table 93 = .ok (.iload 4, 2) := dk_21 4 (dk_at dksX0_table_4 0 rfl rfl)
theorem dX0_table_95 : decode cX0_table 95 = .ok (.invokestatic 239, 3) := dk_184 0 239 (dk_at dksX0_table_4 2 rfl rfl)
theorem dX0_table_98 : decode cX0_table 98 = .ok (.goto 5, 3) := dk_167 0 5 (dk_at dksX0_table_4 5 rfl rfl)
theorem dX0_table_101 : decode cX0_table 101 = .ok (.iload 4, 2) := dk_21 4 (dk_at dksX0_table_4 8 rfl rfl)
theorem dX0_table_103 : decode cX0_table 103 = .ok (.ireturn, 1) := dk_172 (dk_at dksX0_table_4 10 rfl rfl)
abbrev cX0_allPeople : ByteArray := prog_1_method_11_code
def yX0_allPeople : MethodName := ⟨RX0, "allPeople", "()I"⟩
def dkwX0_allPeople_0 : List UInt8 := [4, 42, 182, 0, 151, 120, 4, 100, 172]
abbrev dktX0_allPeople_0 : List UInt8 := dkwX0_allPeople_0 ++ []
theorem dksX0_allPeople_0 : cX0_allPeople.data.toList.drop 0 = dktX0_allPeople_0 := by decide +kernel
theorem dX0_allPeople_0 : decode cX0_allPeople 0 = .ok (.iconst 1, 1) := dk_4 (dk_at dksX0_allPeople_0 0 rfl rfl)
theorem dX0_allPeople_1 : decode cX0_allPeople 1 = .ok (.aload_n 0, 1) := dk_42 (dk_at dksX0_allPeople_0 1 rfl rfl)
theorem dX0_allPeople_2 : decode cX0_allPeople 2 = .ok (.invokevirtual 151, 3) := dk_182 0 151 (dk_at dksX0_allPeople_0 2 rfl rfl)
theorem dX0_allPeople_5 : decode cX0_allPeople 5 = .ok (.ishl, 1) := dk_120 (dk_at dksX0_allPeople_0 5 rfl rfl)
theorem dX0_allPeople_6 : decode cX0_allPeople 6 = .ok (.iconst 1, 1) := dk_4 (dk_at dksX0_allPeople_0 6 rfl rfl)
theorem dX0_allPeople_7 : decode cX0_allPeople 7 = .ok (.isub, 1) := dk_100 (dk_at dksX0_allPeople_0 7 rfl rfl)
theorem dX0_allPeople_8 : decode cX0_allPeople 8 = .ok (.ireturn, 1) := dk_172 (dk_at dksX0_allPeople_0 8 rfl rfl)
abbrev cX0_isFewer : ByteArray := prog_1_method_32_code
def yX0_isFewer : MethodName := ⟨RX0, "isFewer", "(II)Z"⟩
def dkwX0_isFewer_0 : List UInt8 := [27, 155, 0, 14, 26, 184, 0, 239, 27, 184, 0, 239, 162, 0, 7, 4, 167, 0, 4, 3, 172]
abbrev dktX0_isFewer_0 : List UInt8 := dkwX0_isFewer_0 ++ []
theorem dksX0_isFewer_0 : cX0_isFewer.data.toList.drop 0 = dktX0_isFewer_0 := by decide +kernel
theorem dX0_isFewer_0 : decode cX0_isFewer 0 = .ok (.iload_n 1, 1) := dk_27 (dk_at dksX0_isFewer_0 0 rfl rfl)
theorem dX0_isFewer_1 : decode cX0_isFewer 1 = .ok (.ifCond .lt 14, 3) := dk_155 0 14 (dk_at dksX0_isFewer_0 1 rfl rfl)
theorem dX0_isFewer_4 : decode cX0_isFewer 4 = .ok (.iload_n 0, 1) := dk_26 (dk_at dksX0_isFewer_0 4 rfl rfl)
theorem dX0_isFewer_5 : decode cX0_isFewer 5 = .ok (.invokestatic 239, 3) := dk_184 0 239 (dk_at dksX0_isFewer_0 5 rfl rfl)
theorem dX0_isFewer_8 : decode cX0_isFewer 8 = .ok (.iload_n 1, 1) := dk_27 (dk_at dksX0_isFewer_0 8 rfl rfl)
theorem dX0_isFewer_9 : decode cX0_isFewer 9 = .ok (.invokestatic 239, 3) := dk_184 0 239 (dk_at dksX0_isFewer_0 9 rfl rfl)
theorem dX0_isFewer_12 : decode cX0_isFewer 12 = .ok (.if_icmp .ge 7, 3) := dk_162 0 7 (dk_at dksX0_isFewer_0 12 rfl rfl)
theorem dX0_isFewer_15 : decode cX0_isFewer 15 = .ok (.iconst 1, 1) := dk_4 (dk_at dksX0_isFewer_0 15 rfl rfl)
theorem dX0_isFewer_16 : decode cX0_isFewer 16 = .ok (.goto 4, 3) := dk_167 0 4 (dk_at dksX0_isFewer_0 16 rfl rfl)
theorem dX0_isFewer_19 : decode cX0_isFewer 19 = .ok (.iconst 0, 1) := dk_3 (dk_at dksX0_isFewer_0 19 rfl rfl)
theorem dX0_isFewer_20 : decode cX0_isFewer 20 = .ok (.ireturn, 1) := dk_172 (dk_at dksX0_isFewer_0 20 rfl rfl)
abbrev cX0_outAt : ByteArray := prog_1_method_33_code
def yX0_outAt : MethodName := ⟨RX0, "outAt", "(II)I"⟩
def dkwX0_outAt_0 : List UInt8 := [42, 180, 0, 60, 42, 180, 0, 53, 182, 0, 230, 27, 182, 1, 9, 42, 180, 0, 42, 28, 182, 0, 221, 172]
abbrev dktX0_outAt_0 : List UInt8 := dkwX0_outAt_0 ++ []
theorem dksX0_outAt_0 : cX0_outAt.data.toList.drop 0 = dktX0_outAt_0 := by decide +kernel
theorem dX0_outAt_0 : decode cX0_outAt 0 = .ok (.aload_n 0, 1) := dk_42 (dk_at dksX0_outAt_0 0 rfl rfl)
theorem dX0_outAt_1 : decode cX0_outAt 1 = .ok (.getfield 60, 3) := dk_180 0 60 (dk_at dksX0_outAt_0 1 rfl rfl)
theorem dX0_outAt_4 : decode cX0_outAt 4 = .ok (.aload_n 0, 1) := dk_42 (dk_at dksX0_outAt_0 4 rfl rfl)
theorem dX0_outAt_5 : decode cX0_outAt 5 = .ok (.getfield 53, 3) := dk_180 0 53 (dk_at dksX0_outAt_0 5 rfl rfl)
theorem dX0_outAt_8 : decode cX0_outAt 8 = .ok (.invokevirtual 230, 3) := dk_182 0 230 (dk_at dksX0_outAt_0 8 rfl rfl)
theorem dX0_outAt_11 : decode cX0_outAt 11 = .ok (.iload_n 1, 1) := dk_27 (dk_at dksX0_outAt_0 11 rfl rfl)
theorem dX0_outAt_12 : decode cX0_outAt 12 = .ok (.invokevirtual 265, 3) := dk_182 1 9 (dk_at dksX0_outAt_0 12 rfl rfl)
theorem dX0_outAt_15 : decode cX0_outAt 15 = .ok (.aload_n 0, 1) := dk_42 (dk_at dksX0_outAt_0 15 rfl rfl)
theorem dX0_outAt_16 : decode cX0_outAt 16 = .ok (.getfield 42, 3) := dk_180 0 42 (dk_at dksX0_outAt_0 16 rfl rfl)
theorem dX0_outAt_19 : decode cX0_outAt 19 = .ok (.iload_n 2, 1) := dk_28 (dk_at dksX0_outAt_0 19 rfl rfl)
theorem dX0_outAt_20 : decode cX0_outAt 20 = .ok (.invokevirtual 221, 3) := dk_182 0 221 (dk_at dksX0_outAt_0 20 rfl rfl)
theorem dX0_outAt_23 : decode cX0_outAt 23 = .ok (.ireturn, 1) := dk_172 (dk_at dksX0_outAt_0 23 rfl rfl)
abbrev cX0_mute : ByteArray := prog_1_method_35_code
def yX0_mute : MethodName := ⟨RX0, "mute", "()I"⟩
def dkwX0_mute_2 : List UInt8 := [167, 255, 218, 27, 172]
abbrev dktX0_mute_2 : List UInt8 := dkwX0_mute_2 ++ []
def dkwX0_mute_1 : List UInt8 := [162, 0, 20, 27, 42, 28, 29, 182, 1, 20, 2, 130, 126, 60, 132, 3, 1, 167, 255, 234, 132, 2, 1]
abbrev dktX0_mute_1 : List UInt8 := dkwX0_mute_1 ++ dktX0_mute_2
def dkwX0_mute_0 : List UInt8 := [42, 182, 0, 181, 60, 3, 61, 28, 42, 182, 1, 13, 163, 0, 36, 3, 62, 29, 42, 182, 0, 153]
abbrev dktX0_mute_0 : List UInt8 := dkwX0_mute_0 ++ dktX0_mute_1
theorem dksX0_mute_0 : cX0_mute.data.toList.drop 0 = dktX0_mute_0 := by decide +kernel
theorem dksX0_mute_1 : cX0_mute.data.toList.drop 22 = dktX0_mute_1 := dk_seg dksX0_mute_0 22 rfl rfl
theorem dksX0_mute_2 : cX0_mute.data.toList.drop 45 = dktX0_mute_2 := dk_seg dksX0_mute_1 23 rfl rfl
theorem dX0_mute_0 : decode cX0_mute 0 = .ok (.aload_n 0, 1) := dk_42 (dk_at dksX0_mute_0 0 rfl rfl)
theorem dX0_mute_1 : decode cX0_mute 1 = .ok (.invokevirtual 181, 3) := dk_182 0 181 (dk_at dksX0_mute_0 1 rfl rfl)
theorem dX0_mute_4 : decode cX0_mute 4 = .ok (.istore_n 1, 1) := dk_60 (dk_at dksX0_mute_0 4 rfl rfl)
theorem dX0_mute_5 : decode cX0_mute 5 = .ok (.iconst 0, 1) := dk_3 (dk_at dksX0_mute_0 5 rfl rfl)
theorem dX0_mute_6 : decode cX0_mute 6 = .ok (.istore_n 2, 1) := dk_61 (dk_at dksX0_mute_0 6 rfl rfl)
theorem dX0_mute_7 : decode cX0_mute 7 = .ok (.iload_n 2, 1) := dk_28 (dk_at dksX0_mute_0 7 rfl rfl)
theorem dX0_mute_8 : decode cX0_mute 8 = .ok (.aload_n 0, 1) := dk_42 (dk_at dksX0_mute_0 8 rfl rfl)
theorem dX0_mute_9 : decode cX0_mute 9 = .ok (.invokevirtual 269, 3) := dk_182 1 13 (dk_at dksX0_mute_0 9 rfl rfl)
theorem dX0_mute_12 : decode cX0_mute 12 = .ok (.if_icmp .gt 36, 3) := dk_163 0 36 (dk_at dksX0_mute_0 12 rfl rfl)
theorem dX0_mute_15 : decode cX0_mute 15 = .ok (.iconst 0, 1) := dk_3 (dk_at dksX0_mute_0 15 rfl rfl)
theorem dX0_mute_16 : decode cX0_mute 16 = .ok (.istore_n 3, 1) := dk_62 (dk_at dksX0_mute_0 16 rfl rfl)
theorem dX0_mute_17 : decode cX0_mute 17 = .ok (.iload_n 3, 1) := dk_29 (dk_at dksX0_mute_0 17 rfl rfl)
theorem dX0_mute_18 : decode cX0_mute 18 = .ok (.aload_n 0, 1) := dk_42 (dk_at dksX0_mute_0 18 rfl rfl)
theorem dX0_mute_19 : decode cX0_mute 19 = .ok (.invokevirtual 153, 3) := dk_182 0 153 (dk_at dksX0_mute_0 19 rfl rfl)
theorem dX0_mute_22 : decode cX0_mute 22 = .ok (.if_icmp .ge 20, 3) := dk_162 0 20 (dk_at dksX0_mute_1 0 rfl rfl)
theorem dX0_mute_25 : decode cX0_mute 25 = .ok (.iload_n 1, 1) := dk_27 (dk_at dksX0_mute_1 3 rfl rfl)
theorem dX0_mute_26 : decode cX0_mute 26 = .ok (.aload_n 0, 1) := dk_42 (dk_at dksX0_mute_1 4 rfl rfl)
theorem dX0_mute_27 : decode cX0_mute 27 = .ok (.iload_n 2, 1) := dk_28 (dk_at dksX0_mute_1 5 rfl rfl)
theorem dX0_mute_28 : decode cX0_mute 28 = .ok (.iload_n 3, 1) := dk_29 (dk_at dksX0_mute_1 6 rfl rfl)
theorem dX0_mute_29 : decode cX0_mute 29 = .ok (.invokevirtual 276, 3) := dk_182 1 20 (dk_at dksX0_mute_1 7 rfl rfl)
theorem dX0_mute_32 : decode cX0_mute 32 = .ok (.iconst (-1), 1) := dk_2 (dk_at dksX0_mute_1 10 rfl rfl)
theorem dX0_mute_33 : decode cX0_mute 33 = .ok (.ixor, 1) := dk_130 (dk_at dksX0_mute_1 11 rfl rfl)
theorem dX0_mute_34 : decode cX0_mute 34 = .ok (.iand, 1) := dk_126 (dk_at dksX0_mute_1 12 rfl rfl)
theorem dX0_mute_35 : decode cX0_mute 35 = .ok (.istore_n 1, 1) := dk_60 (dk_at dksX0_mute_1 13 rfl rfl)
theorem dX0_mute_36 : decode cX0_mute 36 = .ok (.iinc 3 1, 3) := dk_132 3 1 (dk_at dksX0_mute_1 14 rfl rfl)
theorem dX0_mute_39 : decode cX0_mute 39 = .ok (.goto (-22), 3) := dk_167 255 234 (dk_at dksX0_mute_1 17 rfl rfl)
theorem dX0_mute_42 : decode cX0_mute 42 = .ok (.iinc 2 1, 3) := dk_132 2 1 (dk_at dksX0_mute_1 20 rfl rfl)
theorem dX0_mute_45 : decode cX0_mute 45 = .ok (.goto (-38), 3) := dk_167 255 218 (dk_at dksX0_mute_2 0 rfl rfl)
theorem dX0_mute_48 : decode cX0_mute 48 = .ok (.iload_n 1, 1) := dk_27 (dk_at dksX0_mute_2 3 rfl rfl)
theorem dX0_mute_49 : decode cX0_mute 49 = .ok (.ireturn, 1) := dk_172 (dk_at dksX0_mute_2 4 rfl rfl)
abbrev cX0_send : ByteArray := prog_1_method_36_code
def yX0_send : MethodName := ⟨RX0, "send", "(II)I"⟩
def dkwX0_send_4 : List UInt8 := [184, 0, 239, 167, 0, 4, 29, 172]
abbrev dktX0_send_4 : List UInt8 := dkwX0_send_4 ++ []
def dkwX0_send_3 : List UInt8 := [126, 27, 182, 1, 20, 154, 0, 6, 21, 4, 62, 132, 4, 1, 167, 255, 194, 28, 154, 0, 10, 29]
abbrev dktX0_send_3 : List UInt8 := dkwX0_send_3 ++ dktX0_send_4
def dkwX0_send_2 : List UInt8 := [154, 0, 35, 21, 4, 29, 184, 1, 16, 153, 0, 26, 42, 42, 180, 0, 53, 180, 0, 237, 21, 4, 2, 130]
abbrev dktX0_send_2 : List UInt8 := dkwX0_send_2 ++ dktX0_send_3
def dkwX0_send_1 : List UInt8 := [21, 4, 42, 180, 0, 53, 180, 0, 237, 163, 0, 56, 21, 4, 42, 180, 0, 53, 180, 0, 237, 2, 130, 126]
abbrev dktX0_send_1 : List UInt8 := dkwX0_send_1 ++ dktX0_send_2
def dkwX0_send_0 : List UInt8 := [42, 27, 182, 0, 212, 153, 0, 12, 28, 3, 4, 184, 0, 155, 154, 0, 5, 2, 172, 2, 62, 3, 54, 4]
abbrev dktX0_send_0 : List UInt8 := dkwX0_send_0 ++ dktX0_send_1
theorem dksX0_send_0 : cX0_send.data.toList.drop 0 = dktX0_send_0 := by decide +kernel
theorem dksX0_send_1 : cX0_send.data.toList.drop 24 = dktX0_send_1 := dk_seg dksX0_send_0 24 rfl rfl
theorem dksX0_send_2 : cX0_send.data.toList.drop 48 = dktX0_send_2 := dk_seg dksX0_send_1 24 rfl rfl
theorem dksX0_send_3 : cX0_send.data.toList.drop 72 = dktX0_send_3 := dk_seg dksX0_send_2 24 rfl rfl
theorem dksX0_send_4 : cX0_send.data.toList.drop 94 = dktX0_send_4 := dk_seg dksX0_send_3 22 rfl rfl
theorem dX0_send_0 : decode cX0_send 0 = .ok (.aload_n 0, 1) := dk_42 (dk_at dksX0_send_0 0 rfl rfl)
theorem dX0_send_1 : decode cX0_send 1 = .ok (.iload_n 1, 1) := dk_27 (dk_at dksX0_send_0 1 rfl rfl)
theorem dX0_send_2 : decode cX0_send 2 = .ok (.invokevirtual 212, 3) := dk_182 0 212 (dk_at dksX0_send_0 2 rfl rfl)
theorem dX0_send_5 : decode cX0_send 5 = .ok (.ifCond .eq 12, 3) := dk_153 0 12 (dk_at dksX0_send_0 5 rfl rfl)
theorem dX0_send_8 : decode cX0_send 8 = .ok (.iload_n 2, 1) := dk_28 (dk_at dksX0_send_0 8 rfl rfl)
theorem dX0_send_9 : decode cX0_send 9 = .ok (.iconst 0, 1) := dk_3 (dk_at dksX0_send_0 9 rfl rfl)
theorem dX0_send_10 : decode cX0_send 10 = .ok (.iconst 1, 1) := dk_4 (dk_at dksX0_send_0 10 rfl rfl)
theorem dX0_send_11 : decode cX0_send 11 = .ok (.invokestatic 155, 3) := dk_184 0 155 (dk_at dksX0_send_0 11 rfl rfl)
theorem dX0_send_14 : decode cX0_send 14 = .ok (.ifCond .ne 5, 3) := dk_154 0 5 (dk_at dksX0_send_0 14 rfl rfl)
theorem dX0_send_17 : decode cX0_send 17 = .ok (.iconst (-1), 1) := dk_2 (dk_at dksX0_send_0 17 rfl rfl)
theorem dX0_send_18 : decode cX0_send 18 = .ok (.ireturn, 1) := dk_172 (dk_at dksX0_send_0 18 rfl rfl)
theorem dX0_send_19 : decode cX0_send 19 = .ok (.iconst (-1), 1) := dk_2 (dk_at dksX0_send_0 19 rfl rfl)
theorem dX0_send_20 : decode cX0_send 20 = .ok (.istore_n 3, 1) := dk_62 (dk_at dksX0_send_0 20 rfl rfl)
theorem dX0_send_21 : decode cX0_send 21 = .ok (.iconst 0, 1) := dk_3 (dk_at dksX0_send_0 21 rfl rfl)
theorem dX0_send_22 : decode cX0_send 22 = .ok (.istore 4, 2) := dk_54 4 (dk_at dksX0_send_0 22 rfl rfl)
theorem dX0_send_24 : decode cX0_send 24 = .ok (.iload 4, 2) := dk_21 4 (dk_at dksX0_send_1 0 rfl rfl)
theorem dX0_send_26 : decode cX0_send 26 = .ok (.aload_n 0, 1) := dk_42 (dk_at dksX0_send_1 2 rfl rfl)
theorem dX0_send_27 : decode cX0_send 27 = .ok (.getfield 53, 3) := dk_180 0 53 (dk_at dksX0_send_1 3 rfl rfl)
theorem dX0_send_30 : decode cX0_send 30 = .ok (.getfield 237, 3) := dk_180 0 237 (dk_at dksX0_send_1 6 rfl rfl)
theorem dX0_send_33 : decode cX0_send 33 = .ok (.if_icmp .gt 56, 3) := dk_163 0 56 (dk_at dksX0_send_1 9 rfl rfl)
theorem dX0_send_36 : decode cX0_send 36 = .ok (.iload 4, 2) := dk_21 4 (dk_at dksX0_send_1 12 rfl rfl)
theorem dX0_send_38 : decode cX0_send 38 = .ok (.aload_n 0, 1) := dk_42 (dk_at dksX0_send_1 14 rfl rfl)
theorem dX0_send_39 : decode cX0_send 39 = .ok (.getfield 53, 3) := dk_180 0 53 (dk_at dksX0_send_1 15 rfl rfl)
theorem dX0_send_42 : decode cX0_send 42 = .ok (.getfield 237, 3) := dk_180 0 237 (dk_at dksX0_send_1 18 rfl rfl)
theorem dX0_send_45 : decode cX0_send 45 = .ok (.iconst (-1), 1) := dk_2 (dk_at dksX0_send_1 21 rfl rfl)
theorem dX0_send_46 : decode cX0_send 46 = .ok (.ixor, 1) := dk_130 (dk_at dksX0_send_1 22 rfl rfl)
theorem dX0_send_47 : decode cX0_send 47 = .ok (.iand, 1) := dk_126 (dk_at dksX0_send_1 23 rfl rfl)
theorem dX0_send_48 : decode cX0_send 48 = .ok (.ifCond .ne 35, 3) := dk_154 0 35 (dk_at dksX0_send_2 0 rfl rfl)
theorem dX0_send_51 : decode cX0_send 51 = .ok (.iload 4, 2) := dk_21 4 (dk_at dksX0_send_2 3 rfl rfl)
theorem dX0_send_53 : decode cX0_send 53 = .ok (.iload_n 3, 1) := dk_29 (dk_at dksX0_send_2 5 rfl rfl)
theorem dX0_send_54 : decode cX0_send 54 = .ok (.invokestatic 272, 3) := dk_184 1 16 (dk_at dksX0_send_2 6 rfl rfl)
theorem dX0_send_57 : decode cX0_send 57 = .ok (.ifCond .eq 26, 3) := dk_153 0 26 (dk_at dksX0_send_2 9 rfl rfl)
theorem dX0_send_60 : decode cX0_send 60 = .ok (.aload_n 0, 1) := dk_42 (dk_at dksX0_send_2 12 rfl rfl)
theorem dX0_send_61 : decode cX0_send 61 = .ok (.aload_n 0, 1) := dk_42 (dk_at dksX0_send_2 13 rfl rfl)
theorem dX0_send_62 : decode cX0_send 62 = .ok (.getfield 53, 3) := dk_180 0 53 (dk_at dksX0_send_2 14 rfl rfl)
theorem dX0_send_65 : decode cX0_send 65 = .ok (.getfield 237, 3) := dk_180 0 237 (dk_at dksX0_send_2 17 rfl rfl)
theorem dX0_send_68 : decode cX0_send 68 = .ok (.iload 4, 2) := dk_21 4 (dk_at dksX0_send_2 20 rfl rfl)
theorem dX0_send_70 : decode cX0_send 70 = .ok (.iconst (-1), 1) := dk_2 (dk_at dksX0_send_2 22 rfl rfl)
theorem dX0_send_71 : decode cX0_send 71 = .ok (.ixor, 1) := dk_130 (dk_at dksX0_send_2 23 rfl rfl)
theorem dX0_send_72 : decode cX0_send 72 = .ok (.iand, 1) := dk_126 (dk_at dksX0_send_3 0 rfl rfl)
theorem dX0_send_73 : decode cX0_send 73 = .ok (.iload_n 1, 1) := dk_27 (dk_at dksX0_send_3 1 rfl rfl)
theorem dX0_send_74 : decode cX0_send 74 = .ok (.invokevirtual 276, 3) := dk_182 1 20 (dk_at dksX0_send_3 2 rfl rfl)
theorem dX0_send_77 : decode cX0_send 77 = .ok (.ifCond .ne 6, 3) := dk_154 0 6 (dk_at dksX0_send_3 5 rfl rfl)
theorem dX0_send_80 : decode cX0_send 80 = .ok (.iload 4, 2) := dk_21 4 (dk_at dksX0_send_3 8 rfl rfl)
theorem dX0_send_82 : decode cX0_send 82 = .ok (.istore_n 3, 1) := dk_62 (dk_at dksX0_send_3 10 rfl rfl)
theorem dX0_send_83 : decode cX0_send 83 = .ok (.iinc 4 1, 3) := dk_132 4 1 (dk_at dksX0_send_3 11 rfl rfl)
theorem dX0_send_86 : decode cX0_send 86 = .ok (.goto (-62), 3) := dk_167 255 194 (dk_at dksX0_send_3 14 rfl rfl)
theorem dX0_send_89 : decode cX0_send 89 = .ok (.iload_n 2, 1) := dk_28 (dk_at dksX0_send_3 17 rfl rfl)
theorem dX0_send_90 : decode cX0_send 90 = .ok (.ifCond .ne 10, 3) := dk_154 0 10 (dk_at dksX0_send_3 18 rfl rfl)
theorem dX0_send_93 : decode cX0_send 93 = .ok (.iload_n 3, 1) := dk_29 (dk_at dksX0_send_3 21 rfl rfl)
theorem dX0_send_94 : decode cX0_send 94 = .ok (.invokestatic 239, 3) := dk_184 0 239 (dk_at dksX0_send_4 0 rfl rfl)
theorem dX0_send_97 : decode cX0_send 97 = .ok (.goto 4, 3) := dk_167 0 4 (dk_at dksX0_send_4 3 rfl rfl)
theorem dX0_send_100 : decode cX0_send 100 = .ok (.iload_n 3, 1) := dk_29 (dk_at dksX0_send_4 6 rfl rfl)
theorem dX0_send_101 : decode cX0_send 101 = .ok (.ireturn, 1) := dk_172 (dk_at dksX0_send_4 7 rfl rfl)
abbrev cX0_spark : ByteArray := prog_1_method_37_code
def yX0_spark : MethodName := ⟨RX0, "spark", "(I)I"⟩
def dkwX0_spark_3 : List UInt8 := [2, 167, 0, 7, 28, 184, 0, 239, 172]
abbrev dktX0_spark_3 : List UInt8 := dkwX0_spark_3 ++ []
def dkwX0_spark_2 : List UInt8 := [180, 0, 237, 29, 128, 27, 182, 1, 20, 153, 0, 5, 29, 61, 132, 3, 1, 167, 255, 206, 28, 156, 0, 7]
abbrev dktX0_spark_2 : List UInt8 := dkwX0_spark_2 ++ dktX0_spark_3
def dkwX0_spark_1 : List UInt8 := [180, 0, 53, 180, 0, 237, 126, 154, 0, 30, 29, 28, 184, 1, 16, 153, 0, 22, 42, 42, 180, 0, 53]
abbrev dktX0_spark_1 : List UInt8 := dkwX0_spark_1 ++ dktX0_spark_2
def dkwX0_spark_0 : List UInt8 := [42, 27, 182, 0, 212, 154, 0, 5, 2, 172, 2, 61, 3, 62, 29, 42, 182, 1, 13, 163, 0, 48, 29, 42]
abbrev dktX0_spark_0 : List UInt8 := dkwX0_spark_0 ++ dktX0_spark_1
theorem dksX0_spark_0 : cX0_spark.data.toList.drop 0 = dktX0_spark_0 := by decide +kernel
theorem dksX0_spark_1 : cX0_spark.data.toList.drop 24 = dktX0_spark_1 := dk_seg dksX0_spark_0 24 rfl rfl
theorem dksX0_spark_2 : cX0_spark.data.toList.drop 47 = dktX0_spark_2 := dk_seg dksX0_spark_1 23 rfl rfl
theorem dksX0_spark_3 : cX0_spark.data.toList.drop 71 = dktX0_spark_3 := dk_seg dksX0_spark_2 24 rfl rfl
theorem dX0_spark_0 : decode cX0_spark 0 = .ok (.aload_n 0, 1) := dk_42 (dk_at dksX0_spark_0 0 rfl rfl)
theorem dX0_spark_1 : decode cX0_spark 1 = .ok (.iload_n 1, 1) := dk_27 (dk_at dksX0_spark_0 1 rfl rfl)
theorem dX0_spark_2 : decode cX0_spark 2 = .ok (.invokevirtual 212, 3) := dk_182 0 212 (dk_at dksX0_spark_0 2 rfl rfl)
theorem dX0_spark_5 : decode cX0_spark 5 = .ok (.ifCond .ne 5, 3) := dk_154 0 5 (dk_at dksX0_spark_0 5 rfl rfl)
theorem dX0_spark_8 : decode cX0_spark 8 = .ok (.iconst (-1), 1) := dk_2 (dk_at dksX0_spark_0 8 rfl rfl)
theorem dX0_spark_9 : decode cX0_spark 9 = .ok (.ireturn, 1) := dk_172 (dk_at dksX0_spark_0 9 rfl rfl)
theorem dX0_spark_10 : decode cX0_spark 10 = .ok (.iconst (-1), 1) := dk_2 (dk_at dksX0_spark_0 10 rfl rfl)
theorem dX0_spark_11 : decode cX0_spark 11 = .ok (.istore_n 2, 1) := dk_61 (dk_at dksX0_spark_0 11 rfl rfl)
theorem dX0_spark_12 : decode cX0_spark 12 = .ok (.iconst 0, 1) := dk_3 (dk_at dksX0_spark_0 12 rfl rfl)
theorem dX0_spark_13 : decode cX0_spark 13 = .ok (.istore_n 3, 1) := dk_62 (dk_at dksX0_spark_0 13 rfl rfl)
theorem dX0_spark_14 : decode cX0_spark 14 = .ok (.iload_n 3, 1) := dk_29 (dk_at dksX0_spark_0 14 rfl rfl)
theorem dX0_spark_15 : decode cX0_spark 15 = .ok (.aload_n 0, 1) := dk_42 (dk_at dksX0_spark_0 15 rfl rfl)
theorem dX0_spark_16 : decode cX0_spark 16 = .ok (.invokevirtual 269, 3) := dk_182 1 13 (dk_at dksX0_spark_0 16 rfl rfl)
theorem dX0_spark_19 : decode cX0_spark 19 = .ok (.if_icmp .gt 48, 3) := dk_163 0 48 (dk_at dksX0_spark_0 19 rfl rfl)
theorem dX0_spark_22 : decode cX0_spark 22 = .ok (.iload_n 3, 1) := dk_29 (dk_at dksX0_spark_0 22 rfl rfl)
theorem dX0_spark_23 : decode cX0_spark 23 = .ok (.aload_n 0, 1) := dk_42 (dk_at dksX0_spark_0 23 rfl rfl)
theorem dX0_spark_24 : decode cX0_spark 24 = .ok (.getfield 53, 3) := dk_180 0 53 (dk_at dksX0_spark_1 0 rfl rfl)
theorem dX0_spark_27 : decode cX0_spark 27 = .ok (.getfield 237, 3) := dk_180 0 237 (dk_at dksX0_spark_1 3 rfl rfl)
theorem dX0_spark_30 : decode cX0_spark 30 = .ok (.iand, 1) := dk_126 (dk_at dksX0_spark_1 6 rfl rfl)
theorem dX0_spark_31 : decode cX0_spark 31 = .ok (.ifCond .ne 30, 3) := dk_154 0 30 (dk_at dksX0_spark_1 7 rfl rfl)
theorem dX0_spark_34 : decode cX0_spark 34 = .ok (.iload_n 3, 1) := dk_29 (dk_at dksX0_spark_1 10 rfl rfl)
theorem dX0_spark_35 : decode cX0_spark 35 = .ok (.iload_n 2, 1) := dk_28 (dk_at dksX0_spark_1 11 rfl rfl)
theorem dX0_spark_36 : decode cX0_spark 36 = .ok (.invokestatic 272, 3) := dk_184 1 16 (dk_at dksX0_spark_1 12 rfl rfl)
theorem dX0_spark_39 : decode cX0_spark 39 = .ok (.ifCond .eq 22, 3) := dk_153 0 22 (dk_at dksX0_spark_1 15 rfl rfl)
theorem dX0_spark_42 : decode cX0_spark 42 = .ok (.aload_n 0, 1) := dk_42 (dk_at dksX0_spark_1 18 rfl rfl)
theorem dX0_spark_43 : decode cX0_spark 43 = .ok (.aload_n 0, 1) := dk_42 (dk_at dksX0_spark_1 19 rfl rfl)
theorem dX0_spark_44 : decode cX0_spark 44 = .ok (.getfield 53, 3) := dk_180 0 53 (dk_at dksX0_spark_1 20 rfl rfl)
theorem dX0_spark_47 : decode cX0_spark 47 = .ok (.getfield 237, 3) := dk_180 0 237 (dk_at dksX0_spark_2 0 rfl rfl)
theorem dX0_spark_50 : decode cX0_spark 50 = .ok (.iload_n 3, 1) := dk_29 (dk_at dksX0_spark_2 3 rfl rfl)
theorem dX0_spark_51 : decode cX0_spark 51 = .ok (.ior, 1) := dk_128 (dk_at dksX0_spark_2 4 rfl rfl)
theorem dX0_spark_52 : decode cX0_spark 52 = .ok (.iload_n 1, 1) := dk_27 (dk_at dksX0_spark_2 5 rfl rfl)
theorem dX0_spark_53 : decode cX0_spark 53 = .ok (.invokevirtual 276, 3) := dk_182 1 20 (dk_at dksX0_spark_2 6 rfl rfl)
theorem dX0_spark_56 : decode cX0_spark 56 = .ok (.ifCond .eq 5, 3) := dk_153 0 5 (dk_at dksX0_spark_2 9 rfl rfl)
theorem dX0_spark_59 : decode cX0_spark 59 = .ok (.iload_n 3, 1) := dk_29 (dk_at dksX0_spark_2 12 rfl rfl)
theorem dX0_spark_60 : decode cX0_spark 60 = .ok (.istore_n 2, 1) := dk_61 (dk_at dksX0_spark_2 13 rfl rfl)
theorem dX0_spark_61 : decode cX0_spark 61 = .ok (.iinc 3 1, 3) := dk_132 3 1 (dk_at dksX0_spark_2 14 rfl rfl)
theorem dX0_spark_64 : decode cX0_spark 64 = .ok (.goto (-50), 3) := dk_167 255 206 (dk_at dksX0_spark_2 17 rfl rfl)
theorem dX0_spark_67 : decode cX0_spark 67 = .ok (.iload_n 2, 1) := dk_28 (dk_at dksX0_spark_2 20 rfl rfl)
theorem dX0_spark_68 : decode cX0_spark 68 = .ok (.ifCond .ge 7, 3) := dk_156 0 7 (dk_at dksX0_spark_2 21 rfl rfl)
theorem dX0_spark_71 : decode cX0_spark 71 = .ok (.iconst (-1), 1) := dk_2 (dk_at dksX0_spark_3 0 rfl rfl)
theorem dX0_spark_72 : decode cX0_spark 72 = .ok (.goto 7, 3) := dk_167 0 7 (dk_at dksX0_spark_3 1 rfl rfl)
theorem dX0_spark_75 : decode cX0_spark 75 = .ok (.iload_n 2, 1) := dk_28 (dk_at dksX0_spark_3 4 rfl rfl)
theorem dX0_spark_76 : decode cX0_spark 76 = .ok (.invokestatic 239, 3) := dk_184 0 239 (dk_at dksX0_spark_3 5 rfl rfl)
theorem dX0_spark_79 : decode cX0_spark 79 = .ok (.ireturn, 1) := dk_172 (dk_at dksX0_spark_3 8 rfl rfl)
abbrev cX0_spine : ByteArray := prog_1_method_38_code
def yX0_spine : MethodName := ⟨RX0, "spine", "(I)I"⟩
def dkwX0_spine_1 : List UInt8 := [27, 182, 1, 20, 153, 0, 7, 28, 29, 126, 61, 132, 3, 1, 167, 255, 232, 28, 172]
abbrev dktX0_spine_1 : List UInt8 := dkwX0_spine_1 ++ []
def dkwX0_spine_0 : List UInt8 := [42, 27, 182, 0, 212, 154, 0, 5, 2, 172, 2, 61, 3, 62, 29, 42, 182, 1, 13, 163, 0, 22, 42, 29]
abbrev dktX0_spine_0 : List UInt8 := dkwX0_spine_0 ++ dktX0_spine_1
theorem dksX0_spine_0 : cX0_spine.data.toList.drop 0 = dktX0_spine_0 := by decide +kernel
theorem dksX0_spine_1 : cX0_spine.data.toList.drop 24 = dktX0_spine_1 := dk_seg dksX0_spine_0 24 rfl rfl
theorem dX0_spine_0 : decode cX0_spine 0 = .ok (.aload_n 0, 1) := dk_42 (dk_at dksX0_spine_0 0 rfl rfl)
theorem dX0_spine_1 : decode cX0_spine 1 = .ok (.iload_n 1, 1) := dk_27 (dk_at dksX0_spine_0 1 rfl rfl)
theorem dX0_spine_2 : decode cX0_spine 2 = .ok (.invokevirtual 212, 3) := dk_182 0 212 (dk_at dksX0_spine_0 2 rfl rfl)
theorem dX0_spine_5 : decode cX0_spine 5 = .ok (.ifCond .ne 5, 3) := dk_154 0 5 (dk_at dksX0_spine_0 5 rfl rfl)
theorem dX0_spine_8 : decode cX0_spine 8 = .ok (.iconst (-1), 1) := dk_2 (dk_at dksX0_spine_0 8 rfl rfl)
theorem dX0_spine_9 : decode cX0_spine 9 = .ok (.ireturn, 1) := dk_172 (dk_at dksX0_spine_0 9 rfl rfl)
theorem dX0_spine_10 : decode cX0_spine 10 = .ok (.iconst (-1), 1) := dk_2 (dk_at dksX0_spine_0 10 rfl rfl)
theorem dX0_spine_11 : decode cX0_spine 11 = .ok (.istore_n 2, 1) := dk_61 (dk_at dksX0_spine_0 11 rfl rfl)
theorem dX0_spine_12 : decode cX0_spine 12 = .ok (.iconst 0, 1) := dk_3 (dk_at dksX0_spine_0 12 rfl rfl)
theorem dX0_spine_13 : decode cX0_spine 13 = .ok (.istore_n 3, 1) := dk_62 (dk_at dksX0_spine_0 13 rfl rfl)
theorem dX0_spine_14 : decode cX0_spine 14 = .ok (.iload_n 3, 1) := dk_29 (dk_at dksX0_spine_0 14 rfl rfl)
theorem dX0_spine_15 : decode cX0_spine 15 = .ok (.aload_n 0, 1) := dk_42 (dk_at dksX0_spine_0 15 rfl rfl)
theorem dX0_spine_16 : decode cX0_spine 16 = .ok (.invokevirtual 269, 3) := dk_182 1 13 (dk_at dksX0_spine_0 16 rfl rfl)
theorem dX0_spine_19 : decode cX0_spine 19 = .ok (.if_icmp .gt 22, 3) := dk_163 0 22 (dk_at dksX0_spine_0 19 rfl rfl)
theorem dX0_spine_22 : decode cX0_spine 22 = .ok (.aload_n 0, 1) := dk_42 (dk_at dksX0_spine_0 22 rfl rfl)
theorem dX0_spine_23 : decode cX0_spine 23 = .ok (.iload_n 3, 1) := dk_29 (dk_at dksX0_spine_0 23 rfl rfl)
theorem dX0_spine_24 : decode cX0_spine 24 = .ok (.iload_n 1, 1) := dk_27 (dk_at dksX0_spine_1 0 rfl rfl)
theorem dX0_spine_25 : decode cX0_spine 25 = .ok (.invokevirtual 276, 3) := dk_182 1 20 (dk_at dksX0_spine_1 1 rfl rfl)
theorem dX0_spine_28 : decode cX0_spine 28 = .ok (.ifCond .eq 7, 3) := dk_153 0 7 (dk_at dksX0_spine_1 4 rfl rfl)
theorem dX0_spine_31 : decode cX0_spine 31 = .ok (.iload_n 2, 1) := dk_28 (dk_at dksX0_spine_1 7 rfl rfl)
theorem dX0_spine_32 : decode cX0_spine 32 = .ok (.iload_n 3, 1) := dk_29 (dk_at dksX0_spine_1 8 rfl rfl)
theorem dX0_spine_33 : decode cX0_spine 33 = .ok (.iand, 1) := dk_126 (dk_at dksX0_spine_1 9 rfl rfl)
theorem dX0_spine_34 : decode cX0_spine 34 = .ok (.istore_n 2, 1) := dk_61 (dk_at dksX0_spine_1 10 rfl rfl)
theorem dX0_spine_35 : decode cX0_spine 35 = .ok (.iinc 3 1, 3) := dk_132 3 1 (dk_at dksX0_spine_1 11 rfl rfl)
theorem dX0_spine_38 : decode cX0_spine 38 = .ok (.goto (-24), 3) := dk_167 255 232 (dk_at dksX0_spine_1 14 rfl rfl)
theorem dX0_spine_41 : decode cX0_spine 41 = .ok (.iload_n 2, 1) := dk_28 (dk_at dksX0_spine_1 17 rfl rfl)
theorem dX0_spine_42 : decode cX0_spine 42 = .ok (.ireturn, 1) := dk_172 (dk_at dksX0_spine_1 18 rfl rfl)
abbrev cX0_idle : ByteArray := prog_1_method_39_code
def yX0_idle : MethodName := ⟨RX0, "idle", "()I"⟩
def dkwX0_idle_1 : List UInt8 := [182, 0, 221, 154, 0, 9, 4, 28, 120, 167, 0, 4, 3, 128, 60, 132, 2, 1, 167, 255, 220, 27, 172]
abbrev dktX0_idle_1 : List UInt8 := dkwX0_idle_1 ++ []
def dkwX0_idle_0 : List UInt8 := [3, 60, 3, 61, 28, 42, 182, 0, 153, 162, 0, 34, 27, 42, 180, 0, 53, 42, 180, 0, 42, 28]
abbrev dktX0_idle_0 : List UInt8 := dkwX0_idle_0 ++ dktX0_idle_1
theorem dksX0_idle_0 : cX0_idle.data.toList.drop 0 = dktX0_idle_0 := by decide +kernel
theorem dksX0_idle_1 : cX0_idle.data.toList.drop 22 = dktX0_idle_1 := dk_seg dksX0_idle_0 22 rfl rfl
theorem dX0_idle_0 : decode cX0_idle 0 = .ok (.iconst 0, 1) := dk_3 (dk_at dksX0_idle_0 0 rfl rfl)
theorem dX0_idle_1 : decode cX0_idle 1 = .ok (.istore_n 1, 1) := dk_60 (dk_at dksX0_idle_0 1 rfl rfl)
theorem dX0_idle_2 : decode cX0_idle 2 = .ok (.iconst 0, 1) := dk_3 (dk_at dksX0_idle_0 2 rfl rfl)
theorem dX0_idle_3 : decode cX0_idle 3 = .ok (.istore_n 2, 1) := dk_61 (dk_at dksX0_idle_0 3 rfl rfl)
theorem dX0_idle_4 : decode cX0_idle 4 = .ok (.iload_n 2, 1) := dk_28 (dk_at dksX0_idle_0 4 rfl rfl)
theorem dX0_idle_5 : decode cX0_idle 5 = .ok (.aload_n 0, 1) := dk_42 (dk_at dksX0_idle_0 5 rfl rfl)
theorem dX0_idle_6 : decode cX0_idle 6 = .ok (.invokevirtual 153, 3) := dk_182 0 153 (dk_at dksX0_idle_0 6 rfl rfl)
theorem dX0_idle_9 : decode cX0_idle 9 = .ok (.if_icmp .ge 34, 3) := dk_162 0 34 (dk_at dksX0_idle_0 9 rfl rfl)
theorem dX0_idle_12 : decode cX0_idle 12 = .ok (.iload_n 1, 1) := dk_27 (dk_at dksX0_idle_0 12 rfl rfl)
theorem dX0_idle_13 : decode cX0_idle 13 = .ok (.aload_n 0, 1) := dk_42 (dk_at dksX0_idle_0 13 rfl rfl)
theorem dX0_idle_14 : decode cX0_idle 14 = .ok (.getfield 53, 3) := dk_180 0 53 (dk_at dksX0_idle_0 14 rfl rfl)
theorem dX0_idle_17 : decode cX0_idle 17 = .ok (.aload_n 0, 1) := dk_42 (dk_at dksX0_idle_0 17 rfl rfl)
theorem dX0_idle_18 : decode cX0_idle 18 = .ok (.getfield 42, 3) := dk_180 0 42 (dk_at dksX0_idle_0 18 rfl rfl)
theorem dX0_idle_21 : decode cX0_idle 21 = .ok (.iload_n 2, 1) := dk_28 (dk_at dksX0_idle_0 21 rfl rfl)
theorem dX0_idle_22 : decode cX0_idle 22 = .ok (.invokevirtual 221, 3) := dk_182 0 221 (dk_at dksX0_idle_1 0 rfl rfl)
theorem dX0_idle_25 : decode cX0_idle 25 = .ok (.ifCond .ne 9, 3) := dk_154 0 9 (dk_at dksX0_idle_1 3 rfl rfl)
theorem dX0_idle_28 : decode cX0_idle 28 = .ok (.iconst 1, 1) := dk_4 (dk_at dksX0_idle_1 6 rfl rfl)
theorem dX0_idle_29 : decode cX0_idle 29 = .ok (.iload_n 2, 1) := dk_28 (dk_at dksX0_idle_1 7 rfl rfl)
theorem dX0_idle_30 : decode cX0_idle 30 = .ok (.ishl, 1) := dk_120 (dk_at dksX0_idle_1 8 rfl rfl)
theorem dX0_idle_31 : decode cX0_idle 31 = .ok (.goto 4, 3) := dk_167 0 4 (dk_at dksX0_idle_1 9 rfl rfl)
theorem dX0_idle_34 : decode cX0_idle 34 = .ok (.iconst 0, 1) := dk_3 (dk_at dksX0_idle_1 12 rfl rfl)
theorem dX0_idle_35 : decode cX0_idle 35 = .ok (.ior, 1) := dk_128 (dk_at dksX0_idle_1 13 rfl rfl)
theorem dX0_idle_36 : decode cX0_idle 36 = .ok (.istore_n 1, 1) := dk_60 (dk_at dksX0_idle_1 14 rfl rfl)
theorem dX0_idle_37 : decode cX0_idle 37 = .ok (.iinc 2 1, 3) := dk_132 2 1 (dk_at dksX0_idle_1 15 rfl rfl)
theorem dX0_idle_40 : decode cX0_idle 40 = .ok (.goto (-36), 3) := dk_167 255 220 (dk_at dksX0_idle_1 18 rfl rfl)
theorem dX0_idle_43 : decode cX0_idle 43 = .ok (.iload_n 1, 1) := dk_27 (dk_at dksX0_idle_1 21 rfl rfl)
theorem dX0_idle_44 : decode cX0_idle 44 = .ok (.ireturn, 1) := dk_172 (dk_at dksX0_idle_1 22 rfl rfl)
abbrev cX0_storm : ByteArray := prog_1_method_40_code
def yX0_storm : MethodName := ⟨RX0, "storm", "()I"⟩
def dkwX0_storm_0 : List UInt8 := [42, 180, 0, 42, 42, 42, 182, 1, 24, 182, 1, 27, 182, 0, 209, 172]
abbrev dktX0_storm_0 : List UInt8 := dkwX0_storm_0 ++ []
theorem dksX0_storm_0 : cX0_storm.data.toList.drop 0 = dktX0_storm_0 := by decide +kernel
theorem dX0_storm_0 : decode cX0_storm 0 = .ok (.aload_n 0, 1) := dk_42 (dk_at dksX0_storm_0 0 rfl rfl)
theorem dX0_storm_1 : decode cX0_storm 1 = .ok (.getfield 42, 3) := dk_180 0 42 (dk_at dksX0_storm_0 1 rfl rfl)
theorem dX0_storm_4 : decode cX0_storm 4 = .ok (.aload_n 0, 1) := dk_42 (dk_at dksX0_storm_0 4 rfl rfl)
theorem dX0_storm_5 : decode cX0_storm 5 = .ok (.aload_n 0, 1) := dk_42 (dk_at dksX0_storm_0 5 rfl rfl)
theorem dX0_storm_6 : decode cX0_storm 6 = .ok (.invokevirtual 280, 3) := dk_182 1 24 (dk_at dksX0_storm_0 6 rfl rfl)
theorem dX0_storm_9 : decode cX0_storm 9 = .ok (.invokevirtual 283, 3) := dk_182 1 27 (dk_at dksX0_storm_0 9 rfl rfl)
theorem dX0_storm_12 : decode cX0_storm 12 = .ok (.invokevirtual 209, 3) := dk_182 0 209 (dk_at dksX0_storm_0 12 rfl rfl)
theorem dX0_storm_15 : decode cX0_storm 15 = .ok (.ireturn, 1) := dk_172 (dk_at dksX0_storm_0 15 rfl rfl)
abbrev cX0_allSacks : ByteArray := prog_1_method_12_code
def yX0_allSacks : MethodName := ⟨RX0, "allSacks", "()I"⟩
def dkwX0_allSacks_0 : List UInt8 := [4, 42, 182, 0, 153, 120, 4, 100, 172]
abbrev dktX0_allSacks_0 : List UInt8 := dkwX0_allSacks_0 ++ []
theorem dksX0_allSacks_0 : cX0_allSacks.data.toList.drop 0 = dktX0_allSacks_0 := by decide +kernel
theorem dX0_allSacks_0 : decode cX0_allSacks 0 = .ok (.iconst 1, 1) := dk_4 (dk_at dksX0_allSacks_0 0 rfl rfl)
theorem dX0_allSacks_1 : decode cX0_allSacks 1 = .ok (.aload_n 0, 1) := dk_42 (dk_at dksX0_allSacks_0 1 rfl rfl)
theorem dX0_allSacks_2 : decode cX0_allSacks 2 = .ok (.invokevirtual 153, 3) := dk_182 0 153 (dk_at dksX0_allSacks_0 2 rfl rfl)
theorem dX0_allSacks_5 : decode cX0_allSacks 5 = .ok (.ishl, 1) := dk_120 (dk_at dksX0_allSacks_0 5 rfl rfl)
theorem dX0_allSacks_6 : decode cX0_allSacks 6 = .ok (.iconst 1, 1) := dk_4 (dk_at dksX0_allSacks_0 6 rfl rfl)
theorem dX0_allSacks_7 : decode cX0_allSacks 7 = .ok (.isub, 1) := dk_100 (dk_at dksX0_allSacks_0 7 rfl rfl)
theorem dX0_allSacks_8 : decode cX0_allSacks 8 = .ok (.ireturn, 1) := dk_172 (dk_at dksX0_allSacks_0 8 rfl rfl)
abbrev cX0_saidBySome : ByteArray := prog_1_method_43_code
def yX0_saidBySome : MethodName := ⟨RX0, "saidBySome", "(I)I"⟩
def dkwX0_saidBySome_0 : List UInt8 := [42, 180, 0, 60, 42, 180, 0, 53, 182, 0, 230, 42, 180, 0, 42, 27, 182, 1, 33, 172]
abbrev dktX0_saidBySome_0 : List UInt8 := dkwX0_saidBySome_0 ++ []
theorem dksX0_saidBySome_0 : cX0_saidBySome.data.toList.drop 0 = dktX0_saidBySome_0 := by decide +kernel
theorem dX0_saidBySome_0 : decode cX0_saidBySome 0 = .ok (.aload_n 0, 1) := dk_42 (dk_at dksX0_saidBySome_0 0 rfl rfl)
theorem dX0_saidBySome_1 : decode cX0_saidBySome 1 = .ok (.getfield 60, 3) := dk_180 0 60 (dk_at dksX0_saidBySome_0 1 rfl rfl)
theorem dX0_saidBySome_4 : decode cX0_saidBySome 4 = .ok (.aload_n 0, 1) := dk_42 (dk_at dksX0_saidBySome_0 4 rfl rfl)
theorem dX0_saidBySome_5 : decode cX0_saidBySome 5 = .ok (.getfield 53, 3) := dk_180 0 53 (dk_at dksX0_saidBySome_0 5 rfl rfl)
theorem dX0_saidBySome_8 : decode cX0_saidBySome 8 = .ok (.invokevirtual 230, 3) := dk_182 0 230 (dk_at dksX0_saidBySome_0 8 rfl rfl)
theorem dX0_saidBySome_11 : decode cX0_saidBySome 11 = .ok (.aload_n 0, 1) := dk_42 (dk_at dksX0_saidBySome_0 11 rfl rfl)
theorem dX0_saidBySome_12 : decode cX0_saidBySome 12 = .ok (.getfield 42, 3) := dk_180 0 42 (dk_at dksX0_saidBySome_0 12 rfl rfl)
theorem dX0_saidBySome_15 : decode cX0_saidBySome 15 = .ok (.iload_n 1, 1) := dk_27 (dk_at dksX0_saidBySome_0 15 rfl rfl)
theorem dX0_saidBySome_16 : decode cX0_saidBySome 16 = .ok (.invokevirtual 289, 3) := dk_182 1 33 (dk_at dksX0_saidBySome_0 16 rfl rfl)
theorem dX0_saidBySome_19 : decode cX0_saidBySome 19 = .ok (.ireturn, 1) := dk_172 (dk_at dksX0_saidBySome_0 19 rfl rfl)
abbrev cX0_round : ByteArray := prog_1_method_42_code
def yX0_round : MethodName := ⟨RX0, "round", "(II)I"⟩
def dkwX0_round_7 : List UInt8 := [21, 4, 167, 0, 5, 21, 5, 172]
abbrev dktX0_round_7 : List UInt8 := dkwX0_round_7 ++ []
def dkwX0_round_6 : List UInt8 := [180, 0, 67, 3, 27, 184, 0, 224, 132, 6, 1, 167, 255, 174, 42, 27, 181, 0, 123, 28, 154, 0, 8]
abbrev dktX0_round_6 : List UInt8 := dkwX0_round_6 ++ dktX0_round_7
def dkwX0_round_5 : List UInt8 := [21, 5, 163, 0, 6, 167, 0, 25, 21, 8, 54, 4, 21, 9, 54, 5, 42, 180, 0, 71, 3, 42]
abbrev dktX0_round_5 : List UInt8 := dkwX0_round_5 ++ dktX0_round_6
def dkwX0_round_4 : List UInt8 := [21, 7, 182, 0, 209, 54, 9, 21, 8, 21, 4, 161, 0, 42, 21, 8, 21, 4, 160, 0, 13, 21, 9]
abbrev dktX0_round_4 : List UInt8 := dkwX0_round_4 ++ dktX0_round_5
def dkwX0_round_3 : List UInt8 := [162, 0, 82, 42, 27, 21, 6, 182, 1, 30, 54, 7, 21, 7, 184, 0, 239, 54, 8, 42, 180, 0, 42]
abbrev dktX0_round_3 : List UInt8 := dkwX0_round_3 ++ dktX0_round_4
def dkwX0_round_2 : List UInt8 := [162, 0, 16, 29, 42, 182, 0, 153, 104, 62, 132, 6, 1, 167, 255, 240, 3, 54, 6, 21, 6, 29]
abbrev dktX0_round_2 : List UInt8 := dkwX0_round_2 ++ dktX0_round_3
def dkwX0_round_1 : List UInt8 := [182, 0, 153, 154, 0, 5, 2, 172, 4, 62, 2, 54, 4, 2, 54, 5, 3, 54, 6, 21, 6, 27]
abbrev dktX0_round_1 : List UInt8 := dkwX0_round_1 ++ dktX0_round_2
def dkwX0_round_0 : List UInt8 := [42, 3, 181, 0, 123, 27, 3, 7, 184, 0, 155, 153, 0, 19, 28, 3, 4, 184, 0, 155, 153, 0, 10, 42]
abbrev dktX0_round_0 : List UInt8 := dkwX0_round_0 ++ dktX0_round_1
theorem dksX0_round_0 : cX0_round.data.toList.drop 0 = dktX0_round_0 := by decide +kernel
theorem dksX0_round_1 : cX0_round.data.toList.drop 24 = dktX0_round_1 := dk_seg dksX0_round_0 24 rfl rfl
theorem dksX0_round_2 : cX0_round.data.toList.drop 46 = dktX0_round_2 := dk_seg dksX0_round_1 22 rfl rfl
theorem dksX0_round_3 : cX0_round.data.toList.drop 68 = dktX0_round_3 := dk_seg dksX0_round_2 22 rfl rfl
theorem dksX0_round_4 : cX0_round.data.toList.drop 91 = dktX0_round_4 := dk_seg dksX0_round_3 23 rfl rfl
theorem dksX0_round_5 : cX0_round.data.toList.drop 114 = dktX0_round_5 := dk_seg dksX0_round_4 23 rfl rfl
theorem dksX0_round_6 : cX0_round.data.toList.drop 136 = dktX0_round_6 := dk_seg dksX0_round_5 22 rfl rfl
theorem dksX0_round_7 : cX0_round.data.toList.drop 159 = dktX0_round_7 := dk_seg dksX0_round_6 23 rfl rfl
theorem dX0_round_0 : decode cX0_round 0 = .ok (.aload_n 0, 1) := dk_42 (dk_at dksX0_round_0 0 rfl rfl)
theorem dX0_round_1 : decode cX0_round 1 = .ok (.iconst 0, 1) := dk_3 (dk_at dksX0_round_0 1 rfl rfl)
theorem dX0_round_2 : decode cX0_round 2 = .ok (.putfield 123, 3) := dk_181 0 123 (dk_at dksX0_round_0 2 rfl rfl)
theorem dX0_round_5 : decode cX0_round 5 = .ok (.iload_n 1, 1) := dk_27 (dk_at dksX0_round_0 5 rfl rfl)
theorem dX0_round_6 : decode cX0_round 6 = .ok (.iconst 0, 1) := dk_3 (dk_at dksX0_round_0 6 rfl rfl)
theorem dX0_round_7 : decode cX0_round 7 = .ok (.iconst 4, 1) := dk_7 (dk_at dksX0_round_0 7 rfl rfl)
theorem dX0_round_8 : decode cX0_round 8 = .ok (.invokestatic 155, 3) := dk_184 0 155 (dk_at dksX0_round_0 8 rfl rfl)
theorem dX0_round_11 : decode cX0_round 11 = .ok (.ifCond .eq 19, 3) := dk_153 0 19 (dk_at dksX0_round_0 11 rfl rfl)
theorem dX0_round_14 : decode cX0_round 14 = .ok (.iload_n 2, 1) := dk_28 (dk_at dksX0_round_0 14 rfl rfl)
theorem dX0_round_15 : decode cX0_round 15 = .ok (.iconst 0, 1) := dk_3 (dk_at dksX0_round_0 15 rfl rfl)
theorem dX0_round_16 : decode cX0_round 16 = .ok (.iconst 1, 1) := dk_4 (dk_at dksX0_round_0 16 rfl rfl)
theorem dX0_round_17 : decode cX0_round 17 = .ok (.invokestatic 155, 3) := dk_184 0 155 (dk_at dksX0_round_0 17 rfl rfl)
theorem dX0_round_20 : decode cX0_round 20 = .ok (.ifCond .eq 10, 3) := dk_153 0 10 (dk_at dksX0_round_0 20 rfl rfl)
theorem dX0_round_23 : decode cX0_round 23 = .ok (.aload_n 0, 1) := dk_42 (dk_at dksX0_round_0 23 rfl rfl)
theorem dX0_round_24 : decode cX0_round 24 = .ok (.invokevirtual 153, 3) := dk_182 0 153 (dk_at dksX0_round_1 0 rfl rfl)
theorem dX0_round_27 : decode cX0_round 27 = .ok (.ifCond .ne 5, 3) := dk_154 0 5 (dk_at dksX0_round_1 3 rfl rfl)
theorem dX0_round_30 : decode cX0_round 30 = .ok (.iconst (-1), 1) := dk_2 (dk_at dksX0_round_1 6 rfl rfl)
theorem dX0_round_31 : decode cX0_round 31 = .ok (.ireturn, 1) := dk_172 (dk_at dksX0_round_1 7 rfl rfl)
theorem dX0_round_32 : decode cX0_round 32 = .ok (.iconst 1, 1) := dk_4 (dk_at dksX0_round_1 8 rfl rfl)
theorem dX0_round_33 : decode cX0_round 33 = .ok (.istore_n 3, 1) := dk_62 (dk_at dksX0_round_1 9 rfl rfl)
theorem dX0_round_34 : decode cX0_round 34 = .ok (.iconst (-1), 1) := dk_2 (dk_at dksX0_round_1 10 rfl rfl)
theorem dX0_round_35 : decode cX0_round 35 = .ok (.istore 4, 2) := dk_54 4 (dk_at dksX0_round_1 11 rfl rfl)
theorem dX0_round_37 : decode cX0_round 37 = .ok (.iconst (-1), 1) := dk_2 (dk_at dksX0_round_1 13 rfl rfl)
theorem dX0_round_38 : decode cX0_round 38 = .ok (.istore 5, 2) := dk_54 5 (dk_at dksX0_round_1 14 rfl rfl)
theorem dX0_round_40 : decode cX0_round 40 = .ok (.iconst 0, 1) := dk_3 (dk_at dksX0_round_1 16 rfl rfl)
theorem dX0_round_41 : decode cX0_round 41 = .ok (.istore 6, 2) := dk_54 6 (dk_at dksX0_round_1 17 rfl rfl)
theorem dX0_round_43 : decode cX0_round 43 = .ok (.iload 6, 2) := dk_21 6 (dk_at dksX0_round_1 19 rfl rfl)
theorem dX0_round_45 : decode cX0_round 45 = .ok (.iload_n 1, 1) := dk_27 (dk_at dksX0_round_1 21 rfl rfl)
theorem dX0_round_46 : decode cX0_round 46 = .ok (.if_icmp .ge 16, 3) := dk_162 0 16 (dk_at dksX0_round_2 0 rfl rfl)
theorem dX0_round_49 : decode cX0_round 49 = .ok (.iload_n 3, 1) := dk_29 (dk_at dksX0_round_2 3 rfl rfl)
theorem dX0_round_50 : decode cX0_round 50 = .ok (.aload_n 0, 1) := dk_42 (dk_at dksX0_round_2 4 rfl rfl)
theorem dX0_round_51 : decode cX0_round 51 = .ok (.invokevirtual 153, 3) := dk_182 0 153 (dk_at dksX0_round_2 5 rfl rfl)
theorem dX0_round_54 : decode cX0_round 54 = .ok (.imul, 1) := dk_104 (dk_at dksX0_round_2 8 rfl rfl)
theorem dX0_round_55 : decode cX0_round 55 = .ok (.istore_n 3, 1) := dk_62 (dk_at dksX0_round_2 9 rfl rfl)
theorem dX0_round_56 : decode cX0_round 56 = .ok (.iinc 6 1, 3) := dk_132 6 1 (dk_at dksX0_round_2 10 rfl rfl)
theorem dX0_round_59 : decode cX0_round 59 = .ok (.goto (-16), 3) := dk_167 255 240 (dk_at dksX0_round_2 13 rfl rfl)
theorem dX0_round_62 : decode cX0_round 62 = .ok (.iconst 0, 1) := dk_3 (dk_at dksX0_round_2 16 rfl rfl)
theorem dX0_round_63 : decode cX0_round 63 = .ok (.istore 6, 2) := dk_54 6 (dk_at dksX0_round_2 17 rfl rfl)
theorem dX0_round_65 : decode cX0_round 65 = .ok (.iload 6, 2) := dk_21 6 (dk_at dksX0_round_2 19 rfl rfl)
theorem dX0_round_67 : decode cX0_round 67 = .ok (.iload_n 3, 1) := dk_29 (dk_at dksX0_round_2 21 rfl rfl)
theorem dX0_round_68 : decode cX0_round 68 = .ok (.if_icmp .ge 82, 3) := dk_162 0 82 (dk_at dksX0_round_3 0 rfl rfl)
theorem dX0_round_71 : decode cX0_round 71 = .ok (.aload_n 0, 1) := dk_42 (dk_at dksX0_round_3 3 rfl rfl)
theorem dX0_round_72 : decode cX0_round 72 = .ok (.iload_n 1, 1) := dk_27 (dk_at dksX0_round_3 4 rfl rfl)
theorem dX0_round_73 : decode cX0_round 73 = .ok (.iload 6, 2) := dk_21 6 (dk_at dksX0_round_3 5 rfl rfl)
theorem dX0_round_75 : decode cX0_round 75 = .ok (.invokevirtual 286, 3) := dk_182 1 30 (dk_at dksX0_round_3 7 rfl rfl)
theorem dX0_round_78 : decode cX0_round 78 = .ok (.istore 7, 2) := dk_54 7 (dk_at dksX0_round_3 10 rfl rfl)
theorem dX0_round_80 : decode cX0_round 80 = .ok (.iload 7, 2) := dk_21 7 (dk_at dksX0_round_3 12 rfl rfl)
theorem dX0_round_82 : decode cX0_round 82 = .ok (.invokestatic 239, 3) := dk_184 0 239 (dk_at dksX0_round_3 14 rfl rfl)
theorem dX0_round_85 : decode cX0_round 85 = .ok (.istore 8, 2) := dk_54 8 (dk_at dksX0_round_3 17 rfl rfl)
theorem dX0_round_87 : decode cX0_round 87 = .ok (.aload_n 0, 1) := dk_42 (dk_at dksX0_round_3 19 rfl rfl)
theorem dX0_round_88 : decode cX0_round 88 = .ok (.getfield 42, 3) := dk_180 0 42 (dk_at dksX0_round_3 20 rfl rfl)
theorem dX0_round_91 : decode cX0_round 91 = .ok (.iload 7, 2) := dk_21 7 (dk_at dksX0_round_4 0 rfl rfl)
theorem dX0_round_93 : decode cX0_round 93 = .ok (.invokevirtual 209, 3) := dk_182 0 209 (dk_at dksX0_round_4 2 rfl rfl)
theorem dX0_round_96 : decode cX0_round 96 = .ok (.istore 9, 2) := dk_54 9 (dk_at dksX0_round_4 5 rfl rfl)
theorem dX0_round_98 : decode cX0_round 98 = .ok (.iload 8, 2) := dk_21 8 (dk_at dksX0_round_4 7 rfl rfl)
theorem dX0_round_100 : decode cX0_round 100 = .ok (.iload 4, 2) := dk_21 4 (dk_at dksX0_round_4 9 rfl rfl)
theorem dX0_round_102 : decode cX0_round 102 = .ok (.if_icmp .lt 42, 3) := dk_161 0 42 (dk_at dksX0_round_4 11 rfl rfl)
theorem dX0_round_105 : decode cX0_round 105 = .ok (.iload 8, 2) := dk_21 8 (dk_at dksX0_round_4 14 rfl rfl)
theorem dX0_round_107 : decode cX0_round 107 = .ok (.iload 4, 2) := dk_21 4 (dk_at dksX0_round_4 16 rfl rfl)
theorem dX0_round_109 : decode cX0_round 109 = .ok (.if_icmp .ne 13, 3) := dk_160 0 13 (dk_at dksX0_round_4 18 rfl rfl)
theorem dX0_round_112 : decode cX0_round 112 = .ok (.iload 9, 2) := dk_21 9 (dk_at dksX0_round_4 21 rfl rfl)
theorem dX0_round_114 : decode cX0_round 114 = .ok (.iload 5, 2) := dk_21 5 (dk_at dksX0_round_5 0 rfl rfl)
theorem dX0_round_116 : decode cX0_round 116 = .ok (.if_icmp .gt 6, 3) := dk_163 0 6 (dk_at dksX0_round_5 2 rfl rfl)
theorem dX0_round_119 : decode cX0_round 119 = .ok (.goto 25, 3) := dk_167 0 25 (dk_at dksX0_round_5 5 rfl rfl)
theorem dX0_round_122 : decode cX0_round 122 = .ok (.iload 8, 2) := dk_21 8 (dk_at dksX0_round_5 8 rfl rfl)
theorem dX0_round_124 : decode cX0_round 124 = .ok (.istore 4, 2) := dk_54 4 (dk_at dksX0_round_5 10 rfl rfl)
theorem dX0_round_126 : decode cX0_round 126 = .ok (.iload 9, 2) := dk_21 9 (dk_at dksX0_round_5 12 rfl rfl)
theorem dX0_round_128 : decode cX0_round 128 = .ok (.istore 5, 2) := dk_54 5 (dk_at dksX0_round_5 14 rfl rfl)
theorem dX0_round_130 : decode cX0_round 130 = .ok (.aload_n 0, 1) := dk_42 (dk_at dksX0_round_5 16 rfl rfl)
theorem dX0_round_131 : decode cX0_round 131 = .ok (.getfield 71, 3) := dk_180 0 71 (dk_at dksX0_round_5 17 rfl rfl)
theorem dX0_round_134 : decode cX0_round 134 = .ok (.iconst 0, 1) := dk_3 (dk_at dksX0_round_5 20 rfl rfl)
theorem dX0_round_135 : decode cX0_round 135 = .ok (.aload_n 0, 1) := dk_42 (dk_at dksX0_round_5 21 rfl rfl)
theorem dX0_round_136 : decode cX0_round 136 = .ok (.getfield 67, 3) := dk_180 0 67 (dk_at dksX0_round_6 0 rfl rfl)
theorem dX0_round_139 : decode cX0_round 139 = .ok (.iconst 0, 1) := dk_3 (dk_at dksX0_round_6 3 rfl rfl)
theorem dX0_round_140 : decode cX0_round 140 = .ok (.iload_n 1, 1) := dk_27 (dk_at dksX0_round_6 4 rfl rfl)
theorem dX0_round_141 : decode cX0_round 141 = .ok (.invokestatic 224, 3) := dk_184 0 224 (dk_at dksX0_round_6 5 rfl rfl)
theorem dX0_round_144 : decode cX0_round 144 = .ok (.iinc 6 1, 3) := dk_132 6 1 (dk_at dksX0_round_6 8 rfl rfl)
theorem dX0_round_147 : decode cX0_round 147 = .ok (.goto (-82), 3) := dk_167 255 174 (dk_at dksX0_round_6 11 rfl rfl)
theorem dX0_round_150 : decode cX0_round 150 = .ok (.aload_n 0, 1) := dk_42 (dk_at dksX0_round_6 14 rfl rfl)
theorem dX0_round_151 : decode cX0_round 151 = .ok (.iload_n 1, 1) := dk_27 (dk_at dksX0_round_6 15 rfl rfl)
theorem dX0_round_152 : decode cX0_round 152 = .ok (.putfield 123, 3) := dk_181 0 123 (dk_at dksX0_round_6 16 rfl rfl)
theorem dX0_round_155 : decode cX0_round 155 = .ok (.iload_n 2, 1) := dk_28 (dk_at dksX0_round_6 19 rfl rfl)
theorem dX0_round_156 : decode cX0_round 156 = .ok (.ifCond .ne 8, 3) := dk_154 0 8 (dk_at dksX0_round_6 20 rfl rfl)
theorem dX0_round_159 : decode cX0_round 159 = .ok (.iload 4, 2) := dk_21 4 (dk_at dksX0_round_7 0 rfl rfl)
theorem dX0_round_161 : decode cX0_round 161 = .ok (.goto 5, 3) := dk_167 0 5 (dk_at dksX0_round_7 2 rfl rfl)
theorem dX0_round_164 : decode cX0_round 164 = .ok (.iload 5, 2) := dk_21 5 (dk_at dksX0_round_7 5 rfl rfl)
theorem dX0_round_166 : decode cX0_round 166 = .ok (.ireturn, 1) := dk_172 (dk_at dksX0_round_7 7 rfl rfl)
abbrev cX0_saidBy : ByteArray := prog_1_method_41_code
def yX0_saidBy : MethodName := ⟨RX0, "saidBy", "(II)I"⟩
def dkwX0_saidBy_4 : List UInt8 := [172]
abbrev dktX0_saidBy_4 : List UInt8 := dkwX0_saidBy_4 ++ []
def dkwX0_saidBy_3 : List UInt8 := [180, 0, 42, 42, 180, 0, 71, 21, 5, 46, 182, 0, 247, 128, 54, 4, 132, 5, 1, 167, 255, 224, 21, 4]
abbrev dktX0_saidBy_3 : List UInt8 := dkwX0_saidBy_3 ++ dktX0_saidBy_4
def dkwX0_saidBy_2 : List UInt8 := [180, 0, 53, 182, 0, 230, 87, 3, 54, 5, 21, 5, 27, 162, 0, 32, 21, 4, 42, 180, 0, 60, 42]
abbrev dktX0_saidBy_2 : List UInt8 := dkwX0_saidBy_2 ++ dktX0_saidBy_3
def dkwX0_saidBy_1 : List UInt8 := [182, 0, 153, 112, 79, 29, 42, 182, 0, 153, 108, 62, 132, 5, 255, 167, 255, 228, 42, 180, 0, 60, 42]
abbrev dktX0_saidBy_1 : List UInt8 := dkwX0_saidBy_1 ++ dktX0_saidBy_2
def dkwX0_saidBy_0 : List UInt8 := [28, 62, 3, 54, 4, 27, 4, 100, 54, 5, 21, 5, 155, 0, 29, 42, 180, 0, 71, 21, 5, 29, 42]
abbrev dktX0_saidBy_0 : List UInt8 := dkwX0_saidBy_0 ++ dktX0_saidBy_1
theorem dksX0_saidBy_0 : cX0_saidBy.data.toList.drop 0 = dktX0_saidBy_0 := by decide +kernel
theorem dksX0_saidBy_1 : cX0_saidBy.data.toList.drop 23 = dktX0_saidBy_1 := dk_seg dksX0_saidBy_0 23 rfl rfl
theorem dksX0_saidBy_2 : cX0_saidBy.data.toList.drop 46 = dktX0_saidBy_2 := dk_seg dksX0_saidBy_1 23 rfl rfl
theorem dksX0_saidBy_3 : cX0_saidBy.data.toList.drop 69 = dktX0_saidBy_3 := dk_seg dksX0_saidBy_2 23 rfl rfl
theorem dksX0_saidBy_4 : cX0_saidBy.data.toList.drop 93 = dktX0_saidBy_4 := dk_seg dksX0_saidBy_3 24 rfl rfl
theorem dX0_saidBy_0 : decode cX0_saidBy 0 = .ok (.iload_n 2, 1) := dk_28 (dk_at dksX0_saidBy_0 0 rfl rfl)
theorem dX0_saidBy_1 : decode cX0_saidBy 1 = .ok (.istore_n 3, 1) := dk_62 (dk_at dksX0_saidBy_0 1 rfl rfl)
theorem dX0_saidBy_2 : decode cX0_saidBy 2 = .ok (.iconst 0, 1) := dk_3 (dk_at dksX0_saidBy_0 2 rfl rfl)
theorem dX0_saidBy_3 : decode cX0_saidBy 3 = .ok (.istore 4, 2) := dk_54 4 (dk_at dksX0_saidBy_0 3 rfl rfl)
theorem dX0_saidBy_5 : decode cX0_saidBy 5 = .ok (.iload_n 1, 1) := dk_27 (dk_at dksX0_saidBy_0 5 rfl rfl)
theorem dX0_saidBy_6 : decode cX0_saidBy 6 = .ok (.iconst 1, 1) := dk_4 (dk_at dksX0_saidBy_0 6 rfl rfl)
theorem dX0_saidBy_7 : decode cX0_saidBy 7 = .ok (.isub, 1) := dk_100 (dk_at dksX0_saidBy_0 7 rfl rfl)
theorem dX0_saidBy_8 : decode cX0_saidBy 8 = .ok (.istore 5, 2) := dk_54 5 (dk_at dksX0_saidBy_0 8 rfl rfl)
theorem dX0_saidBy_10 : decode cX0_saidBy 10 = .ok (.iload 5, 2) := dk_21 5 (dk_at dksX0_saidBy_0 10 rfl rfl)
theorem dX0_saidBy_12 : decode cX0_saidBy 12 = .ok (.ifCond .lt 29, 3) := dk_155 0 29 (dk_at dksX0_saidBy_0 12 rfl rfl)
theorem dX0_saidBy_15 : decode cX0_saidBy 15 = .ok (.aload_n 0, 1) := dk_42 (dk_at dksX0_saidBy_0 15 rfl rfl)
theorem dX0_saidBy_16 : decode cX0_saidBy 16 = .ok (.getfield 71, 3) := dk_180 0 71 (dk_at dksX0_saidBy_0 16 rfl rfl)
theorem dX0_saidBy_19 : decode cX0_saidBy 19 = .ok (.iload 5, 2) := dk_21 5 (dk_at dksX0_saidBy_0 19 rfl rfl)
theorem dX0_saidBy_21 : decode cX0_saidBy 21 = .ok (.iload_n 3, 1) := dk_29 (dk_at dksX0_saidBy_0 21 rfl rfl)
theorem dX0_saidBy_22 : decode cX0_saidBy 22 = .ok (.aload_n 0, 1) := dk_42 (dk_at dksX0_saidBy_0 22 rfl rfl)
theorem dX0_saidBy_23 : decode cX0_saidBy 23 = .ok (.invokevirtual 153, 3) := dk_182 0 153 (dk_at dksX0_saidBy_1 0 rfl rfl)
theorem dX0_saidBy_26 : decode cX0_saidBy 26 = .ok (.irem, 1) := dk_112 (dk_at dksX0_saidBy_1 3 rfl rfl)
theorem dX0_saidBy_27 : decode cX0_saidBy 27 = .ok (.iastore, 1) := dk_79 (dk_at dksX0_saidBy_1 4 rfl rfl)
theorem dX0_saidBy_28 : decode cX0_saidBy 28 = .ok (.iload_n 3, 1) := dk_29 (dk_at dksX0_saidBy_1 5 rfl rfl)
theorem dX0_saidBy_29 : decode cX0_saidBy 29 = .ok (.aload_n 0, 1) := dk_42 (dk_at dksX0_saidBy_1 6 rfl rfl)
theorem dX0_saidBy_30 : decode cX0_saidBy 30 = .ok (.invokevirtual 153, 3) := dk_182 0 153 (dk_at dksX0_saidBy_1 7 rfl rfl)
theorem dX0_saidBy_33 : decode cX0_saidBy 33 = .ok (.idiv, 1) := dk_108 (dk_at dksX0_saidBy_1 10 rfl rfl)
theorem dX0_saidBy_34 : decode cX0_saidBy 34 = .ok (.istore_n 3, 1) := dk_62 (dk_at dksX0_saidBy_1 11 rfl rfl)
theorem dX0_saidBy_35 : decode cX0_saidBy 35 = .ok (.iinc 5 (-1), 3) := dk_132 5 255 (dk_at dksX0_saidBy_1 12 rfl rfl)
theorem dX0_saidBy_38 : decode cX0_saidBy 38 = .ok (.goto (-28), 3) := dk_167 255 228 (dk_at dksX0_saidBy_1 15 rfl rfl)
theorem dX0_saidBy_41 : decode cX0_saidBy 41 = .ok (.aload_n 0, 1) := dk_42 (dk_at dksX0_saidBy_1 18 rfl rfl)
theorem dX0_saidBy_42 : decode cX0_saidBy 42 = .ok (.getfield 60, 3) := dk_180 0 60 (dk_at dksX0_saidBy_1 19 rfl rfl)
theorem dX0_saidBy_45 : decode cX0_saidBy 45 = .ok (.aload_n 0, 1) := dk_42 (dk_at dksX0_saidBy_1 22 rfl rfl)
theorem dX0_saidBy_46 : decode cX0_saidBy 46 = .ok (.getfield 53, 3) := dk_180 0 53 (dk_at dksX0_saidBy_2 0 rfl rfl)
theorem dX0_saidBy_49 : decode cX0_saidBy 49 = .ok (.invokevirtual 230, 3) := dk_182 0 230 (dk_at dksX0_saidBy_2 3 rfl rfl)
theorem dX0_saidBy_52 : decode cX0_saidBy 52 = .ok (.pop, 1) := dk_87 (dk_at dksX0_saidBy_2 6 rfl rfl)
theorem dX0_saidBy_53 : decode cX0_saidBy 53 = .ok (.iconst 0, 1) := dk_3 (dk_at dksX0_saidBy_2 7 rfl rfl)
theorem dX0_saidBy_54 : decode cX0_saidBy 54 = .ok (.istore 5, 2) := dk_54 5 (dk_at dksX0_saidBy_2 8 rfl rfl)
theorem dX0_saidBy_56 : decode cX0_saidBy 56 = .ok (.iload 5, 2) := dk_21 5 (dk_at dksX0_saidBy_2 10 rfl rfl)
theorem dX0_saidBy_58 : decode cX0_saidBy 58 = .ok (.iload_n 1, 1) := dk_27 (dk_at dksX0_saidBy_2 12 rfl rfl)
theorem dX0_saidBy_59 : decode cX0_saidBy 59 = .ok (.if_icmp .ge 32, 3) := dk_162 0 32 (dk_at dksX0_saidBy_2 13 rfl rfl)
theorem dX0_saidBy_62 : decode cX0_saidBy 62 = .ok (.iload 4, 2) := dk_21 4 (dk_at dksX0_saidBy_2 16 rfl rfl)
theorem dX0_saidBy_64 : decode cX0_saidBy 64 = .ok (.aload_n 0, 1) := dk_42 (dk_at dksX0_saidBy_2 18 rfl rfl)
theorem dX0_saidBy_65 : decode cX0_saidBy 65 = .ok (.getfield 60, 3) := dk_180 0 60 (dk_at dksX0_saidBy_2 19 rfl rfl)
theorem dX0_saidBy_68 : decode cX0_saidBy 68 = .ok (.aload_n 0, 1) := dk_42 (dk_at dksX0_saidBy_2 22 rfl rfl)
theorem dX0_saidBy_69 : decode cX0_saidBy 69 = .ok (.getfield 42, 3) := dk_180 0 42 (dk_at dksX0_saidBy_3 0 rfl rfl)
theorem dX0_saidBy_72 : decode cX0_saidBy 72 = .ok (.aload_n 0, 1) := dk_42 (dk_at dksX0_saidBy_3 3 rfl rfl)
theorem dX0_saidBy_73 : decode cX0_saidBy 73 = .ok (.getfield 71, 3) := dk_180 0 71 (dk_at dksX0_saidBy_3 4 rfl rfl)
theorem dX0_saidBy_76 : decode cX0_saidBy 76 = .ok (.iload 5, 2) := dk_21 5 (dk_at dksX0_saidBy_3 7 rfl rfl)
theorem dX0_saidBy_78 : decode cX0_saidBy 78 = .ok (.iaload, 1) := dk_46 (dk_at dksX0_saidBy_3 9 rfl rfl)
theorem dX0_saidBy_79 : decode cX0_saidBy 79 = .ok (.invokevirtual 247, 3) := dk_182 0 247 (dk_at dksX0_saidBy_3 10 rfl rfl)
theorem dX0_saidBy_82 : decode cX0_saidBy 82 = .ok (.ior, 1) := dk_128 (dk_at dksX0_saidBy_3 13 rfl rfl)
theorem dX0_saidBy_83 : decode cX0_saidBy 83 = .ok (.istore 4, 2) := dk_54 4 (dk_at dksX0_saidBy_3 14 rfl rfl)
theorem dX0_saidBy_85 : decode cX0_saidBy 85 = .ok (.iinc 5 1, 3) := dk_132 5 1 (dk_at dksX0_saidBy_3 16 rfl rfl)
theorem dX0_saidBy_88 : decode cX0_saidBy 88 = .ok (.goto (-32), 3) := dk_167 255 224 (dk_at dksX0_saidBy_3 19 rfl rfl)
theorem dX0_saidBy_91 : decode cX0_saidBy 91 = .ok (.iload 4, 2) := dk_21 4 (dk_at dksX0_saidBy_3 22 rfl rfl)
theorem dX0_saidBy_93 : decode cX0_saidBy 93 = .ok (.ireturn, 1) := dk_172 (dk_at dksX0_saidBy_4 0 rfl rfl)
abbrev cX0_fewest : ByteArray := prog_1_method_44_code
def yX0_fewest : MethodName := ⟨RX0, "fewest", "(I)I"⟩
def dkwX0_fewest_3 : List UInt8 := [167, 0, 13, 27, 4, 160, 0, 7, 29, 167, 0, 4, 28, 172]
abbrev dktX0_fewest_3 : List UInt8 := dkwX0_fewest_3 ++ []
def dkwX0_fewest_2 : List UInt8 := [182, 1, 27, 28, 160, 0, 6, 21, 4, 62, 132, 4, 1, 167, 255, 222, 27, 154, 0, 10, 29, 184, 0, 239]
abbrev dktX0_fewest_2 : List UInt8 := dkwX0_fewest_2 ++ dktX0_fewest_3
def dkwX0_fewest_1 : List UInt8 := [54, 4, 21, 4, 42, 182, 1, 24, 163, 0, 31, 21, 4, 29, 184, 1, 16, 153, 0, 16, 42, 21, 4]
abbrev dktX0_fewest_1 : List UInt8 := dkwX0_fewest_1 ++ dktX0_fewest_2
def dkwX0_fewest_0 : List UInt8 := [27, 3, 5, 184, 0, 155, 154, 0, 5, 2, 172, 42, 42, 182, 1, 24, 182, 1, 27, 61, 2, 62, 3]
abbrev dktX0_fewest_0 : List UInt8 := dkwX0_fewest_0 ++ dktX0_fewest_1
theorem dksX0_fewest_0 : cX0_fewest.data.toList.drop 0 = dktX0_fewest_0 := by decide +kernel
theorem dksX0_fewest_1 : cX0_fewest.data.toList.drop 23 = dktX0_fewest_1 := dk_seg dksX0_fewest_0 23 rfl rfl
theorem dksX0_fewest_2 : cX0_fewest.data.toList.drop 46 = dktX0_fewest_2 := dk_seg dksX0_fewest_1 23 rfl rfl
theorem dksX0_fewest_3 : cX0_fewest.data.toList.drop 70 = dktX0_fewest_3 := dk_seg dksX0_fewest_2 24 rfl rfl
theorem dX0_fewest_0 : decode cX0_fewest 0 = .ok (.iload_n 1, 1) := dk_27 (dk_at dksX0_fewest_0 0 rfl rfl)
theorem dX0_fewest_1 : decode cX0_fewest 1 = .ok (.iconst 0, 1) := dk_3 (dk_at dksX0_fewest_0 1 rfl rfl)
theorem dX0_fewest_2 : decode cX0_fewest 2 = .ok (.iconst 2, 1) := dk_5 (dk_at dksX0_fewest_0 2 rfl rfl)
theorem dX0_fewest_3 : decode cX0_fewest 3 = .ok (.invokestatic 155, 3) := dk_184 0 155 (dk_at dksX0_fewest_0 3 rfl rfl)
theorem dX0_fewest_6 : decode cX0_fewest 6 = .ok (.ifCond .ne 5, 3) := dk_154 0 5 (dk_at dksX0_fewest_0 6 rfl rfl)
theorem dX0_fewest_9 : decode cX0_fewest 9 = .ok (.iconst (-1), 1) := dk_2 (dk_at dksX0_fewest_0 9 rfl rfl)
theorem dX0_fewest_10 : decode cX0_fewest 10 = .ok (.ireturn, 1) := dk_172 (dk_at dksX0_fewest_0 10 rfl rfl)
theorem dX0_fewest_11 : decode cX0_fewest 11 = .ok (.aload_n 0, 1) := dk_42 (dk_at dksX0_fewest_0 11 rfl rfl)
theorem dX0_fewest_12 : decode cX0_fewest 12 = .ok (.aload_n 0, 1) := dk_42 (dk_at dksX0_fewest_0 12 rfl rfl)
theorem dX0_fewest_13 : decode cX0_fewest 13 = .ok (.invokevirtual 280, 3) := dk_182 1 24 (dk_at dksX0_fewest_0 13 rfl rfl)
theorem dX0_fewest_16 : decode cX0_fewest 16 = .ok (.invokevirtual 283, 3) := dk_182 1 27 (dk_at dksX0_fewest_0 16 rfl rfl)
theorem dX0_fewest_19 : decode cX0_fewest 19 = .ok (.istore_n 2, 1) := dk_61 (dk_at dksX0_fewest_0 19 rfl rfl)
theorem dX0_fewest_20 : decode cX0_fewest 20 = .ok (.iconst (-1), 1) := dk_2 (dk_at dksX0_fewest_0 20 rfl rfl)
theorem dX0_fewest_21 : decode cX0_fewest 21 = .ok (.istore_n 3, 1) := dk_62 (dk_at dksX0_fewest_0 21 rfl rfl)
theorem dX0_fewest_22 : decode cX0_fewest 22 = .ok (.iconst 0, 1) := dk_3 (dk_at dksX0_fewest_0 22 rfl rfl)
theorem dX0_fewest_23 : decode cX0_fewest 23 = .ok (.istore 4, 2) := dk_54 4 (dk_at dksX0_fewest_1 0 rfl rfl)
theorem dX0_fewest_25 : decode cX0_fewest 25 = .ok (.iload 4, 2) := dk_21 4 (dk_at dksX0_fewest_1 2 rfl rfl)
theorem dX0_fewest_27 : decode cX0_fewest 27 = .ok (.aload_n 0, 1) := dk_42 (dk_at dksX0_fewest_1 4 rfl rfl)
theorem dX0_fewest_28 : decode cX0_fewest 28 = .ok (.invokevirtual 280, 3) := dk_182 1 24 (dk_at dksX0_fewest_1 5 rfl rfl)
theorem dX0_fewest_31 : decode cX0_fewest 31 = .ok (.if_icmp .gt 31, 3) := dk_163 0 31 (dk_at dksX0_fewest_1 8 rfl rfl)
theorem dX0_fewest_34 : decode cX0_fewest 34 = .ok (.iload 4, 2) := dk_21 4 (dk_at dksX0_fewest_1 11 rfl rfl)
theorem dX0_fewest_36 : decode cX0_fewest 36 = .ok (.iload_n 3, 1) := dk_29 (dk_at dksX0_fewest_1 13 rfl rfl)
theorem dX0_fewest_37 : decode cX0_fewest 37 = .ok (.invokestatic 272, 3) := dk_184 1 16 (dk_at dksX0_fewest_1 14 rfl rfl)
theorem dX0_fewest_40 : decode cX0_fewest 40 = .ok (.ifCond .eq 16, 3) := dk_153 0 16 (dk_at dksX0_fewest_1 17 rfl rfl)
theorem dX0_fewest_43 : decode cX0_fewest 43 = .ok (.aload_n 0, 1) := dk_42 (dk_at dksX0_fewest_1 20 rfl rfl)
theorem dX0_fewest_44 : decode cX0_fewest 44 = .ok (.iload 4, 2) := dk_21 4 (dk_at dksX0_fewest_1 21 rfl rfl)
theorem dX0_fewest_46 : decode cX0_fewest 46 = .ok (.invokevirtual 283, 3) := dk_182 1 27 (dk_at dksX0_fewest_2 0 rfl rfl)
theorem dX0_fewest_49 : decode cX0_fewest 49 = .ok (.iload_n 2, 1) := dk_28 (dk_at dksX0_fewest_2 3 rfl rfl)
theorem dX0_fewest_50 : decode cX0_fewest 50 = .ok (.if_icmp .ne 6, 3) := dk_160 0 6 (dk_at dksX0_fewest_2 4 rfl rfl)
theorem dX0_fewest_53 : decode cX0_fewest 53 = .ok (.iload 4, 2) := dk_21 4 (dk_at dksX0_fewest_2 7 rfl rfl)
theorem dX0_fewest_55 : decode cX0_fewest 55 = .ok (.istore_n 3, 1) := dk_62 (dk_at dksX0_fewest_2 9 rfl rfl)
theorem dX0_fewest_56 : decode cX0_fewest 56 = .ok (.iinc 4 1, 3) := dk_132 4 1 (dk_at dksX0_fewest_2 10 rfl rfl)
theorem dX0_fewest_59 : decode cX0_fewest 59 = .ok (.goto (-34), 3) := dk_167 255 222 (dk_at dksX0_fewest_2 13 rfl rfl)
theorem dX0_fewest_62 : decode cX0_fewest 62 = .ok (.iload_n 1, 1) := dk_27 (dk_at dksX0_fewest_2 16 rfl rfl)
theorem dX0_fewest_63 : decode cX0_fewest 63 = .ok (.ifCond .ne 10, 3) := dk_154 0 10 (dk_at dksX0_fewest_2 17 rfl rfl)
theorem dX0_fewest_66 : decode cX0_fewest 66 = .ok (.iload_n 3, 1) := dk_29 (dk_at dksX0_fewest_2 20 rfl rfl)
theorem dX0_fewest_67 : decode cX0_fewest 67 = .ok (.invokestatic 239, 3) := dk_184 0 239 (dk_at dksX0_fewest_2 21 rfl rfl)
theorem dX0_fewest_70 : decode cX0_fewest 70 = .ok (.goto 13, 3) := dk_167 0 13 (dk_at dksX0_fewest_3 0 rfl rfl)
theorem dX0_fewest_73 : decode cX0_fewest 73 = .ok (.iload_n 1, 1) := dk_27 (dk_at dksX0_fewest_3 3 rfl rfl)
theorem dX0_fewest_74 : decode cX0_fewest 74 = .ok (.iconst 1, 1) := dk_4 (dk_at dksX0_fewest_3 4 rfl rfl)
theorem dX0_fewest_75 : decode cX0_fewest 75 = .ok (.if_icmp .ne 7, 3) := dk_160 0 7 (dk_at dksX0_fewest_3 5 rfl rfl)
theorem dX0_fewest_78 : decode cX0_fewest 78 = .ok (.iload_n 3, 1) := dk_29 (dk_at dksX0_fewest_3 8 rfl rfl)
theorem dX0_fewest_79 : decode cX0_fewest 79 = .ok (.goto 4, 3) := dk_167 0 4 (dk_at dksX0_fewest_3 9 rfl rfl)
theorem dX0_fewest_82 : decode cX0_fewest 82 = .ok (.iload_n 2, 1) := dk_28 (dk_at dksX0_fewest_3 12 rfl rfl)
theorem dX0_fewest_83 : decode cX0_fewest 83 = .ok (.ireturn, 1) := dk_172 (dk_at dksX0_fewest_3 13 rfl rfl)
abbrev cX0_hide : ByteArray := prog_1_method_45_code
def yX0_hide : MethodName := ⟨RX0, "hide", "(II)I"⟩
def dkwX0_hide_6 : List UInt8 := [172]
abbrev dktX0_hide_6 : List UInt8 := dkwX0_hide_6 ++ []
def dkwX0_hide_5 : List UInt8 := [132, 5, 1, 167, 255, 178, 29, 156, 0, 7, 2, 167, 0, 13, 28, 154, 0, 7, 29, 167, 0, 5, 21, 4]
abbrev dktX0_hide_5 : List UInt8 := dkwX0_hide_5 ++ dktX0_hide_6
def dkwX0_hide_4 : List UInt8 := [21, 6, 184, 0, 239, 21, 4, 161, 0, 6, 167, 0, 13, 21, 5, 62, 21, 6, 184, 0, 239, 54, 4]
abbrev dktX0_hide_4 : List UInt8 := dkwX0_hide_4 ++ dktX0_hide_5
def dkwX0_hide_3 : List UInt8 := [180, 0, 60, 42, 180, 0, 42, 21, 5, 182, 0, 221, 54, 6, 21, 6, 27, 122, 4, 126, 4, 159, 0, 26]
abbrev dktX0_hide_3 : List UInt8 := dkwX0_hide_3 ++ dktX0_hide_4
def dkwX0_hide_2 : List UInt8 := [162, 0, 75, 42, 180, 0, 60, 42, 180, 0, 53, 182, 0, 230, 180, 0, 199, 27, 21, 5, 79, 42]
abbrev dktX0_hide_2 : List UInt8 := dkwX0_hide_2 ++ dktX0_hide_3
def dkwX0_hide_1 : List UInt8 := [184, 0, 155, 154, 0, 5, 2, 172, 2, 62, 16, 11, 54, 4, 3, 54, 5, 21, 5, 42, 182, 0, 153]
abbrev dktX0_hide_1 : List UInt8 := dkwX0_hide_1 ++ dktX0_hide_2
def dkwX0_hide_0 : List UInt8 := [42, 27, 182, 0, 187, 153, 0, 23, 42, 180, 0, 53, 27, 182, 0, 202, 154, 0, 12, 28, 3, 4]
abbrev dktX0_hide_0 : List UInt8 := dkwX0_hide_0 ++ dktX0_hide_1
theorem dksX0_hide_0 : cX0_hide.data.toList.drop 0 = dktX0_hide_0 := by decide +kernel
theorem dksX0_hide_1 : cX0_hide.data.toList.drop 22 = dktX0_hide_1 := dk_seg dksX0_hide_0 22 rfl rfl
theorem dksX0_hide_2 : cX0_hide.data.toList.drop 45 = dktX0_hide_2 := dk_seg dksX0_hide_1 23 rfl rfl
theorem dksX0_hide_3 : cX0_hide.data.toList.drop 67 = dktX0_hide_3 := dk_seg dksX0_hide_2 22 rfl rfl
theorem dksX0_hide_4 : cX0_hide.data.toList.drop 91 = dktX0_hide_4 := dk_seg dksX0_hide_3 24 rfl rfl
theorem dksX0_hide_5 : cX0_hide.data.toList.drop 114 = dktX0_hide_5 := dk_seg dksX0_hide_4 23 rfl rfl
theorem dksX0_hide_6 : cX0_hide.data.toList.drop 138 = dktX0_hide_6 := dk_seg dksX0_hide_5 24 rfl rfl
theorem dX0_hide_0 : decode cX0_hide 0 = .ok (.aload_n 0, 1) := dk_42 (dk_at dksX0_hide_0 0 rfl rfl)
theorem dX0_hide_1 : decode cX0_hide 1 = .ok (.iload_n 1, 1) := dk_27 (dk_at dksX0_hide_0 1 rfl rfl)
theorem dX0_hide_2 : decode cX0_hide 2 = .ok (.invokevirtual 187, 3) := dk_182 0 187 (dk_at dksX0_hide_0 2 rfl rfl)
theorem dX0_hide_5 : decode cX0_hide 5 = .ok (.ifCond .eq 23, 3) := dk_153 0 23 (dk_at dksX0_hide_0 5 rfl rfl)
theorem dX0_hide_8 : decode cX0_hide 8 = .ok (.aload_n 0, 1) := dk_42 (dk_at dksX0_hide_0 8 rfl rfl)
theorem dX0_hide_9 : decode cX0_hide 9 = .ok (.getfield 53, 3) := dk_180 0 53 (dk_at dksX0_hide_0 9 rfl rfl)
theorem dX0_hide_12 : decode cX0_hide 12 = .ok (.iload_n 1, 1) := dk_27 (dk_at dksX0_hide_0 12 rfl rfl)
theorem dX0_hide_13 : decode cX0_hide 13 = .ok (.invokevirtual 202, 3) := dk_182 0 202 (dk_at dksX0_hide_0 13 rfl rfl)
theorem dX0_hide_16 : decode cX0_hide 16 = .ok (.ifCond .ne 12, 3) := dk_154 0 12 (dk_at dksX0_hide_0 16 rfl rfl)
theorem dX0_hide_19 : decode cX0_hide 19 = .ok (.iload_n 2, 1) := dk_28 (dk_at dksX0_hide_0 19 rfl rfl)
theorem dX0_hide_20 : decode cX0_hide 20 = .ok (.iconst 0, 1) := dk_3 (dk_at dksX0_hide_0 20 rfl rfl)
theorem dX0_hide_21 : decode cX0_hide 21 = .ok (.iconst 1, 1) := dk_4 (dk_at dksX0_hide_0 21 rfl rfl)
theorem dX0_hide_22 : decode cX0_hide 22 = .ok (.invokestatic 155, 3) := dk_184 0 155 (dk_at dksX0_hide_1 0 rfl rfl)
theorem dX0_hide_25 : decode cX0_hide 25 = .ok (.ifCond .ne 5, 3) := dk_154 0 5 (dk_at dksX0_hide_1 3 rfl rfl)
theorem dX0_hide_28 : decode cX0_hide 28 = .ok (.iconst (-1), 1) := dk_2 (dk_at dksX0_hide_1 6 rfl rfl)
theorem dX0_hide_29 : decode cX0_hide 29 = .ok (.ireturn, 1) := dk_172 (dk_at dksX0_hide_1 7 rfl rfl)
theorem dX0_hide_30 : decode cX0_hide 30 = .ok (.iconst (-1), 1) := dk_2 (dk_at dksX0_hide_1 8 rfl rfl)
theorem dX0_hide_31 : decode cX0_hide 31 = .ok (.istore_n 3, 1) := dk_62 (dk_at dksX0_hide_1 9 rfl rfl)
theorem dX0_hide_32 : decode cX0_hide 32 = .ok (.bipush 11, 2) := dk_16 11 (dk_at dksX0_hide_1 10 rfl rfl)
theorem dX0_hide_34 : decode cX0_hide 34 = .ok (.istore 4, 2) := dk_54 4 (dk_at dksX0_hide_1 12 rfl rfl)
theorem dX0_hide_36 : decode cX0_hide 36 = .ok (.iconst 0, 1) := dk_3 (dk_at dksX0_hide_1 14 rfl rfl)
theorem dX0_hide_37 : decode cX0_hide 37 = .ok (.istore 5, 2) := dk_54 5 (dk_at dksX0_hide_1 15 rfl rfl)
theorem dX0_hide_39 : decode cX0_hide 39 = .ok (.iload 5, 2) := dk_21 5 (dk_at dksX0_hide_1 17 rfl rfl)
theorem dX0_hide_41 : decode cX0_hide 41 = .ok (.aload_n 0, 1) := dk_42 (dk_at dksX0_hide_1 19 rfl rfl)
theorem dX0_hide_42 : decode cX0_hide 42 = .ok (.invokevirtual 153, 3) := dk_182 0 153 (dk_at dksX0_hide_1 20 rfl rfl)
theorem dX0_hide_45 : decode cX0_hide 45 = .ok (.if_icmp .ge 75, 3) := dk_162 0 75 (dk_at dksX0_hide_2 0 rfl rfl)
theorem dX0_hide_48 : decode cX0_hide 48 = .ok (.aload_n 0, 1) := dk_42 (dk_at dksX0_hide_2 3 rfl rfl)
theorem dX0_hide_49 : decode cX0_hide 49 = .ok (.getfield 60, 3) := dk_180 0 60 (dk_at dksX0_hide_2 4 rfl rfl)
theorem dX0_hide_52 : decode cX0_hide 52 = .ok (.aload_n 0, 1) := dk_42 (dk_at dksX0_hide_2 7 rfl rfl)
theorem dX0_hide_53 : decode cX0_hide 53 = .ok (.getfield 53, 3) := dk_180 0 53 (dk_at dksX0_hide_2 8 rfl rfl)
theorem dX0_hide_56 : decode cX0_hide 56 = .ok (.invokevirtual 230, 3) := dk_182 0 230 (dk_at dksX0_hide_2 11 rfl rfl)
theorem dX0_hide_59 : decode cX0_hide 59 = .ok (.getfield 199, 3) := dk_180 0 199 (dk_at dksX0_hide_2 14 rfl rfl)
theorem dX0_hide_62 : decode cX0_hide 62 = .ok (.iload_n 1, 1) := dk_27 (dk_at dksX0_hide_2 17 rfl rfl)
theorem dX0_hide_63 : decode cX0_hide 63 = .ok (.iload 5, 2) := dk_21 5 (dk_at dksX0_hide_2 18 rfl rfl)
theorem dX0_hide_65 : decode cX0_hide 65 = .ok (.iastore, 1) := dk_79 (dk_at dksX0_hide_2 20 rfl rfl)
theorem dX0_hide_66 : decode cX0_hide 66 = .ok (.aload_n 0, 1) := dk_42 (dk_at dksX0_hide_2 21 rfl rfl)
theorem dX0_hide_67 : decode cX0_hide 67 = .ok (.getfield 60, 3) := dk_180 0 60 (dk_at dksX0_hide_3 0 rfl rfl)
theorem dX0_hide_70 : decode cX0_hide 70 = .ok (.aload_n 0, 1) := dk_42 (dk_at dksX0_hide_3 3 rfl rfl)
theorem dX0_hide_71 : decode cX0_hide 71 = .ok (.getfield 42, 3) := dk_180 0 42 (dk_at dksX0_hide_3 4 rfl rfl)
theorem dX0_hide_74 : decode cX0_hide 74 = .ok (.iload 5, 2) := dk_21 5 (dk_at dksX0_hide_3 7 rfl rfl)
theorem dX0_hide_76 : decode cX0_hide 76 = .ok (.invokevirtual 221, 3) := dk_182 0 221 (dk_at dksX0_hide_3 9 rfl rfl)
theorem dX0_hide_79 : decode cX0_hide 79 = .ok (.istore 6, 2) := dk_54 6 (dk_at dksX0_hide_3 12 rfl rfl)
theorem dX0_hide_81 : decode cX0_hide 81 = .ok (.iload 6, 2) := dk_21 6 (dk_at dksX0_hide_3 14 rfl rfl)
theorem dX0_hide_83 : decode cX0_hide 83 = .ok (.iload_n 1, 1) := dk_27 (dk_at dksX0_hide_3 16 rfl rfl)
theorem dX0_hide_84 : decode cX0_hide 84 = .ok (.ishr, 1) := dk_122 (dk_at dksX0_hide_3 17 rfl rfl)
theorem dX0_hide_85 : decode cX0_hide 85 = .ok (.iconst 1, 1) := dk_4 (dk_at dksX0_hide_3 18 rfl rfl)
theorem dX0_hide_86 : decode cX0_hide 86 = .ok (.iand, 1) := dk_126 (dk_at dksX0_hide_3 19 rfl rfl)
theorem dX0_hide_87 : decode cX0_hide 87 = .ok (.iconst 1, 1) := dk_4 (dk_at dksX0_hide_3 20 rfl rfl)
theorem dX0_hide_88 : decode cX0_hide 88 = .ok (.if_icmp .eq 26, 3) := dk_159 0 26 (dk_at dksX0_hide_3 21 rfl rfl)
theorem dX0_hide_91 : decode cX0_hide 91 = .ok (.iload 6, 2) := dk_21 6 (dk_at dksX0_hide_4 0 rfl rfl)
theorem dX0_hide_93 : decode cX0_hide 93 = .ok (.invokestatic 239, 3) := dk_184 0 239 (dk_at dksX0_hide_4 2 rfl rfl)
theorem dX0_hide_96 : decode cX0_hide 96 = .ok (.iload 4, 2) := dk_21 4 (dk_at dksX0_hide_4 5 rfl rfl)
theorem dX0_hide_98 : decode cX0_hide 98 = .ok (.if_icmp .lt 6, 3) := dk_161 0 6 (dk_at dksX0_hide_4 7 rfl rfl)
theorem dX0_hide_101 : decode cX0_hide 101 = .ok (.goto 13, 3) := dk_167 0 13 (dk_at dksX0_hide_4 10 rfl rfl)
theorem dX0_hide_104 : decode cX0_hide 104 = .ok (.iload 5, 2) := dk_21 5 (dk_at dksX0_hide_4 13 rfl rfl)
theorem dX0_hide_106 : decode cX0_hide 106 = .ok (.istore_n 3, 1) := dk_62 (dk_at dksX0_hide_4 15 rfl rfl)
theorem dX0_hide_107 : decode cX0_hide 107 = .ok (.iload 6, 2) := dk_21 6 (dk_at dksX0_hide_4 16 rfl rfl)
theorem dX0_hide_109 : decode cX0_hide 109 = .ok (.invokestatic 239, 3) := dk_184 0 239 (dk_at dksX0_hide_4 18 rfl rfl)
theorem dX0_hide_112 : decode cX0_hide 112 = .ok (.istore 4, 2) := dk_54 4 (dk_at dksX0_hide_4 21 rfl rfl)
theorem dX0_hide_114 : decode cX0_hide 114 = .ok (.iinc 5 1, 3) := dk_132 5 1 (dk_at dksX0_hide_5 0 rfl rfl)
theorem dX0_hide_117 : decode cX0_hide 117 = .ok (.goto (-78), 3) := dk_167 255 178 (dk_at dksX0_hide_5 3 rfl rfl)
theorem dX0_hide_120 : decode cX0_hide 120 = .ok (.iload_n 3, 1) := dk_29 (dk_at dksX0_hide_5 6 rfl rfl)
theorem dX0_hide_121 : decode cX0_hide 121 = .ok (.ifCond .ge 7, 3) := dk_156 0 7 (dk_at dksX0_hide_5 7 rfl rfl)
theorem dX0_hide_124 : decode cX0_hide 124 = .ok (.iconst (-1), 1) := dk_2 (dk_at dksX0_hide_5 10 rfl rfl)
theorem dX0_hide_125 : decode cX0_hide 125 = .ok (.goto 13, 3) := dk_167 0 13 (dk_at dksX0_hide_5 11 rfl rfl)
theorem dX0_hide_128 : decode cX0_hide 128 = .ok (.iload_n 2, 1) := dk_28 (dk_at dksX0_hide_5 14 rfl rfl)
theorem dX0_hide_129 : decode cX0_hide 129 = .ok (.ifCond .ne 7, 3) := dk_154 0 7 (dk_at dksX0_hide_5 15 rfl rfl)
theorem dX0_hide_132 : decode cX0_hide 132 = .ok (.iload_n 3, 1) := dk_29 (dk_at dksX0_hide_5 18 rfl rfl)
theorem dX0_hide_133 : decode cX0_hide 133 = .ok (.goto 5, 3) := dk_167 0 5 (dk_at dksX0_hide_5 19 rfl rfl)
theorem dX0_hide_136 : decode cX0_hide 136 = .ok (.iload 4, 2) := dk_21 4 (dk_at dksX0_hide_5 22 rfl rfl)
theorem dX0_hide_138 : decode cX0_hide 138 = .ok (.ireturn, 1) := dk_172 (dk_at dksX0_hide_6 0 rfl rfl)
abbrev cX0_shyest : ByteArray := prog_1_method_46_code
def yX0_shyest : MethodName := ⟨RX0, "shyest", "(I)I"⟩
def dkwX0_shyest_4 : List UInt8 := [28, 172]
abbrev dktX0_shyest_4 : List UInt8 := dkwX0_shyest_4 ++ []
def dkwX0_shyest_3 : List UInt8 := [180, 0, 199, 27, 46, 182, 0, 221, 27, 122, 4, 126, 4, 160, 0, 5, 29, 61, 132, 3, 1, 167, 255, 202]
abbrev dktX0_shyest_3 : List UInt8 := dkwX0_shyest_3 ++ dktX0_shyest_4
def dkwX0_shyest_2 : List UInt8 := [42, 180, 0, 53, 182, 0, 230, 29, 181, 1, 36, 42, 180, 0, 60, 42, 180, 0, 42, 42, 180, 0, 53]
abbrev dktX0_shyest_2 : List UInt8 := dkwX0_shyest_2 ++ dktX0_shyest_3
def dkwX0_shyest_1 : List UInt8 := [180, 0, 199, 27, 46, 156, 0, 5, 2, 172, 2, 61, 3, 62, 29, 16, 9, 163, 0, 54, 42, 180, 0, 60]
abbrev dktX0_shyest_1 : List UInt8 := dkwX0_shyest_1 ++ dktX0_shyest_2
def dkwX0_shyest_0 : List UInt8 := [42, 27, 182, 0, 187, 153, 0, 26, 42, 180, 0, 53, 27, 182, 0, 202, 154, 0, 15, 42, 180, 0, 53]
abbrev dktX0_shyest_0 : List UInt8 := dkwX0_shyest_0 ++ dktX0_shyest_1
theorem dksX0_shyest_0 : cX0_shyest.data.toList.drop 0 = dktX0_shyest_0 := by decide +kernel
theorem dksX0_shyest_1 : cX0_shyest.data.toList.drop 23 = dktX0_shyest_1 := dk_seg dksX0_shyest_0 23 rfl rfl
theorem dksX0_shyest_2 : cX0_shyest.data.toList.drop 47 = dktX0_shyest_2 := dk_seg dksX0_shyest_1 24 rfl rfl
theorem dksX0_shyest_3 : cX0_shyest.data.toList.drop 70 = dktX0_shyest_3 := dk_seg dksX0_shyest_2 23 rfl rfl
theorem dksX0_shyest_4 : cX0_shyest.data.toList.drop 94 = dktX0_shyest_4 := dk_seg dksX0_shyest_3 24 rfl rfl
theorem dX0_shyest_0 : decode cX0_shyest 0 = .ok (.aload_n 0, 1) := dk_42 (dk_at dksX0_shyest_0 0 rfl rfl)
theorem dX0_shyest_1 : decode cX0_shyest 1 = .ok (.iload_n 1, 1) := dk_27 (dk_at dksX0_shyest_0 1 rfl rfl)
theorem dX0_shyest_2 : decode cX0_shyest 2 = .ok (.invokevirtual 187, 3) := dk_182 0 187 (dk_at dksX0_shyest_0 2 rfl rfl)
theorem dX0_shyest_5 : decode cX0_shyest 5 = .ok (.ifCond .eq 26, 3) := dk_153 0 26 (dk_at dksX0_shyest_0 5 rfl rfl)
theorem dX0_shyest_8 : decode cX0_shyest 8 = .ok (.aload_n 0, 1) := dk_42 (dk_at dksX0_shyest_0 8 rfl rfl)
theorem dX0_shyest_9 : decode cX0_shyest 9 = .ok (.getfield 53, 3) := dk_180 0 53 (dk_at dksX0_shyest_0 9 rfl rfl)
theorem dX0_shyest_12 : decode cX0_shyest 12 = .ok (.iload_n 1, 1) := dk_27 (dk_at dksX0_shyest_0 12 rfl rfl)
theorem dX0_shyest_13 : decode cX0_shyest 13 = .ok (.invokevirtual 202, 3) := dk_182 0 202 (dk_at dksX0_shyest_0 13 rfl rfl)
theorem dX0_shyest_16 : decode cX0_shyest 16 = .ok (.ifCond .ne 15, 3) := dk_154 0 15 (dk_at dksX0_shyest_0 16 rfl rfl)
theorem dX0_shyest_19 : decode cX0_shyest 19 = .ok (.aload_n 0, 1) := dk_42 (dk_at dksX0_shyest_0 19 rfl rfl)
theorem dX0_shyest_20 : decode cX0_shyest 20 = .ok (.getfield 53, 3) := dk_180 0 53 (dk_at dksX0_shyest_0 20 rfl rfl)
theorem dX0_shyest_23 : decode cX0_shyest 23 = .ok (.getfield 199, 3) := dk_180 0 199 (dk_at dksX0_shyest_1 0 rfl rfl)
theorem dX0_shyest_26 : decode cX0_shyest 26 = .ok (.iload_n 1, 1) := dk_27 (dk_at dksX0_shyest_1 3 rfl rfl)
theorem dX0_shyest_27 : decode cX0_shyest 27 = .ok (.iaload, 1) := dk_46 (dk_at dksX0_shyest_1 4 rfl rfl)
theorem dX0_shyest_28 : decode cX0_shyest 28 = .ok (.ifCond .ge 5, 3) := dk_156 0 5 (dk_at dksX0_shyest_1 5 rfl rfl)
theorem dX0_shyest_31 : decode cX0_shyest 31 = .ok (.iconst (-1), 1) := dk_2 (dk_at dksX0_shyest_1 8 rfl rfl)
theorem dX0_shyest_32 : decode cX0_shyest 32 = .ok (.ireturn, 1) := dk_172 (dk_at dksX0_shyest_1 9 rfl rfl)
theorem dX0_shyest_33 : decode cX0_shyest 33 = .ok (.iconst (-1), 1) := dk_2 (dk_at dksX0_shyest_1 10 rfl rfl)
theorem dX0_shyest_34 : decode cX0_shyest 34 = .ok (.istore_n 2, 1) := dk_61 (dk_at dksX0_shyest_1 11 rfl rfl)
theorem dX0_shyest_35 : decode cX0_shyest 35 = .ok (.iconst 0, 1) := dk_3 (dk_at dksX0_shyest_1 12 rfl rfl)
theorem dX0_shyest_36 : decode cX0_shyest 36 = .ok (.istore_n 3, 1) := dk_62 (dk_at dksX0_shyest_1 13 rfl rfl)
theorem dX0_shyest_37 : decode cX0_shyest 37 = .ok (.iload_n 3, 1) := dk_29 (dk_at dksX0_shyest_1 14 rfl rfl)
theorem dX0_shyest_38 : decode cX0_shyest 38 = .ok (.bipush 9, 2) := dk_16 9 (dk_at dksX0_shyest_1 15 rfl rfl)
theorem dX0_shyest_40 : decode cX0_shyest 40 = .ok (.if_icmp .gt 54, 3) := dk_163 0 54 (dk_at dksX0_shyest_1 17 rfl rfl)
theorem dX0_shyest_43 : decode cX0_shyest 43 = .ok (.aload_n 0, 1) := dk_42 (dk_at dksX0_shyest_1 20 rfl rfl)
theorem dX0_shyest_44 : decode cX0_shyest 44 = .ok (.getfield 60, 3) := dk_180 0 60 (dk_at dksX0_shyest_1 21 rfl rfl)
theorem dX0_shyest_47 : decode cX0_shyest 47 = .ok (.aload_n 0, 1) := dk_42 (dk_at dksX0_shyest_2 0 rfl rfl)
theorem dX0_shyest_48 : decode cX0_shyest 48 = .ok (.getfield 53, 3) := dk_180 0 53 (dk_at dksX0_shyest_2 1 rfl rfl)
theorem dX0_shyest_51 : decode cX0_shyest 51 = .ok (.invokevirtual 230, 3) := dk_182 0 230 (dk_at dksX0_shyest_2 4 rfl rfl)
theorem dX0_shyest_54 : decode cX0_shyest 54 = .ok (.iload_n 3, 1) := dk_29 (dk_at dksX0_shyest_2 7 rfl rfl)
theorem dX0_shyest_55 : decode cX0_shyest 55 = .ok (.putfield 292, 3) := dk_181 1 36 (dk_at dksX0_shyest_2 8 rfl rfl)
theorem dX0_shyest_58 : decode cX0_shyest 58 = .ok (.aload_n 0, 1) := dk_42 (dk_at dksX0_shyest_2 11 rfl rfl)
theorem dX0_shyest_59 : decode cX0_shyest 59 = .ok (.getfield 60, 3) := dk_180 0 60 (dk_at dksX0_shyest_2 12 rfl rfl)
theorem dX0_shyest_62 : decode cX0_shyest 62 = .ok (.aload_n 0, 1) := dk_42 (dk_at dksX0_shyest_2 15 rfl rfl)
theorem dX0_shyest_63 : decode cX0_shyest 63 = .ok (.getfield 42, 3) := dk_180 0 42 (dk_at dksX0_shyest_2 16 rfl rfl)
theorem dX0_shyest_66 : decode cX0_shyest 66 = .ok (.aload_n 0, 1) := dk_42 (dk_at dksX0_shyest_2 19 rfl rfl)
theorem dX0_shyest_67 : decode cX0_shyest 67 = .ok (.getfield 53, 3) := dk_180 0 53 (dk_at dksX0_shyest_2 20 rfl rfl)
theorem dX0_shyest_70 : decode cX0_shyest 70 = .ok (.getfield 199, 3) := dk_180 0 199 (dk_at dksX0_shyest_3 0 rfl rfl)
theorem dX0_shyest_73 : decode cX0_shyest 73 = .ok (.iload_n 1, 1) := dk_27 (dk_at dksX0_shyest_3 3 rfl rfl)
theorem dX0_shyest_74 : decode cX0_shyest 74 = .ok (.iaload, 1) := dk_46 (dk_at dksX0_shyest_3 4 rfl rfl)
theorem dX0_shyest_75 : decode cX0_shyest 75 = .ok (.invokevirtual 221, 3) := dk_182 0 221 (dk_at dksX0_shyest_3 5 rfl rfl)
theorem dX0_shyest_78 : decode cX0_shyest 78 = .ok (.iload_n 1, 1) := dk_27 (dk_at dksX0_shyest_3 8 rfl rfl)
theorem dX0_shyest_79 : decode cX0_shyest 79 = .ok (.ishr, 1) := dk_122 (dk_at dksX0_shyest_3 9 rfl rfl)
theorem dX0_shyest_80 : decode cX0_shyest 80 = .ok (.iconst 1, 1) := dk_4 (dk_at dksX0_shyest_3 10 rfl rfl)
theorem dX0_shyest_81 : decode cX0_shyest 81 = .ok (.iand, 1) := dk_126 (dk_at dksX0_shyest_3 11 rfl rfl)
theorem dX0_shyest_82 : decode cX0_shyest 82 = .ok (.iconst 1, 1) := dk_4 (dk_at dksX0_shyest_3 12 rfl rfl)
theorem dX0_shyest_83 : decode cX0_shyest 83 = .ok (.if_icmp .ne 5, 3) := dk_160 0 5 (dk_at dksX0_shyest_3 13 rfl rfl)
theorem dX0_shyest_86 : decode cX0_shyest 86 = .ok (.iload_n 3, 1) := dk_29 (dk_at dksX0_shyest_3 16 rfl rfl)
theorem dX0_shyest_87 : decode cX0_shyest 87 = .ok (.istore_n 2, 1) := dk_61 (dk_at dksX0_shyest_3 17 rfl rfl)
theorem dX0_shyest_88 : decode cX0_shyest 88 = .ok (.iinc 3 1, 3) := dk_132 3 1 (dk_at dksX0_shyest_3 18 rfl rfl)
theorem dX0_shyest_91 : decode cX0_shyest 91 = .ok (.goto (-54), 3) := dk_167 255 202 (dk_at dksX0_shyest_3 21 rfl rfl)
theorem dX0_shyest_94 : decode cX0_shyest 94 = .ok (.iload_n 2, 1) := dk_28 (dk_at dksX0_shyest_4 0 rfl rfl)
theorem dX0_shyest_95 : decode cX0_shyest 95 = .ok (.ireturn, 1) := dk_172 (dk_at dksX0_shyest_4 1 rfl rfl)
abbrev cX0_law : ByteArray := prog_1_method_47_code
def yX0_law : MethodName := ⟨RX0, "law", "(II)I"⟩
def dkwX0_law_2 : List UInt8 := [182, 0, 221, 184, 0, 239, 172]
abbrev dktX0_law_2 : List UInt8 := dkwX0_law_2 ++ []
def dkwX0_law_1 : List UInt8 := [42, 180, 0, 53, 182, 0, 230, 180, 0, 218, 27, 28, 79, 42, 180, 0, 60, 42, 180, 0, 42, 27]
abbrev dktX0_law_1 : List UInt8 := dkwX0_law_1 ++ dktX0_law_2
def dkwX0_law_0 : List UInt8 := [42, 27, 182, 0, 212, 153, 0, 13, 28, 3, 16, 99, 184, 0, 155, 154, 0, 5, 2, 172, 42, 180, 0, 60]
abbrev dktX0_law_0 : List UInt8 := dkwX0_law_0 ++ dktX0_law_1
theorem dksX0_law_0 : cX0_law.data.toList.drop 0 = dktX0_law_0 := by decide +kernel
theorem dksX0_law_1 : cX0_law.data.toList.drop 24 = dktX0_law_1 := dk_seg dksX0_law_0 24 rfl rfl
theorem dksX0_law_2 : cX0_law.data.toList.drop 46 = dktX0_law_2 := dk_seg dksX0_law_1 22 rfl rfl
theorem dX0_law_0 : decode cX0_law 0 = .ok (.aload_n 0, 1) := dk_42 (dk_at dksX0_law_0 0 rfl rfl)
theorem dX0_law_1 : decode cX0_law 1 = .ok (.iload_n 1, 1) := dk_27 (dk_at dksX0_law_0 1 rfl rfl)
theorem dX0_law_2 : decode cX0_law 2 = .ok (.invokevirtual 212, 3) := dk_182 0 212 (dk_at dksX0_law_0 2 rfl rfl)
theorem dX0_law_5 : decode cX0_law 5 = .ok (.ifCond .eq 13, 3) := dk_153 0 13 (dk_at dksX0_law_0 5 rfl rfl)
theorem dX0_law_8 : decode cX0_law 8 = .ok (.iload_n 2, 1) := dk_28 (dk_at dksX0_law_0 8 rfl rfl)
theorem dX0_law_9 : decode cX0_law 9 = .ok (.iconst 0, 1) := dk_3 (dk_at dksX0_law_0 9 rfl rfl)
theorem dX0_law_10 : decode cX0_law 10 = .ok (.bipush 99, 2) := dk_16 99 (dk_at dksX0_law_0 10 rfl rfl)
theorem dX0_law_12 : decode cX0_law 12 = .ok (.invokestatic 155, 3) := dk_184 0 155 (dk_at dksX0_law_0 12 rfl rfl)
theorem dX0_law_15 : decode cX0_law 15 = .ok (.ifCond .ne 5, 3) := dk_154 0 5 (dk_at dksX0_law_0 15 rfl rfl)
theorem dX0_law_18 : decode cX0_law 18 = .ok (.iconst (-1), 1) := dk_2 (dk_at dksX0_law_0 18 rfl rfl)
theorem dX0_law_19 : decode cX0_law 19 = .ok (.ireturn, 1) := dk_172 (dk_at dksX0_law_0 19 rfl rfl)
theorem dX0_law_20 : decode cX0_law 20 = .ok (.aload_n 0, 1) := dk_42 (dk_at dksX0_law_0 20 rfl rfl)
theorem dX0_law_21 : decode cX0_law 21 = .ok (.getfield 60, 3) := dk_180 0 60 (dk_at dksX0_law_0 21 rfl rfl)
theorem dX0_law_24 : decode cX0_law 24 = .ok (.aload_n 0, 1) := dk_42 (dk_at dksX0_law_1 0 rfl rfl)
theorem dX0_law_25 : decode cX0_law 25 = .ok (.getfield 53, 3) := dk_180 0 53 (dk_at dksX0_law_1 1 rfl rfl)
theorem dX0_law_28 : decode cX0_law 28 = .ok (.invokevirtual 230, 3) := dk_182 0 230 (dk_at dksX0_law_1 4 rfl rfl)
theorem dX0_law_31 : decode cX0_law 31 = .ok (.getfield 218, 3) := dk_180 0 218 (dk_at dksX0_law_1 7 rfl rfl)
theorem dX0_law_34 : decode cX0_law 34 = .ok (.iload_n 1, 1) := dk_27 (dk_at dksX0_law_1 10 rfl rfl)
theorem dX0_law_35 : decode cX0_law 35 = .ok (.iload_n 2, 1) := dk_28 (dk_at dksX0_law_1 11 rfl rfl)
theorem dX0_law_36 : decode cX0_law 36 = .ok (.iastore, 1) := dk_79 (dk_at dksX0_law_1 12 rfl rfl)
theorem dX0_law_37 : decode cX0_law 37 = .ok (.aload_n 0, 1) := dk_42 (dk_at dksX0_law_1 13 rfl rfl)
theorem dX0_law_38 : decode cX0_law 38 = .ok (.getfield 60, 3) := dk_180 0 60 (dk_at dksX0_law_1 14 rfl rfl)
theorem dX0_law_41 : decode cX0_law 41 = .ok (.aload_n 0, 1) := dk_42 (dk_at dksX0_law_1 17 rfl rfl)
theorem dX0_law_42 : decode cX0_law 42 = .ok (.getfield 42, 3) := dk_180 0 42 (dk_at dksX0_law_1 18 rfl rfl)
theorem dX0_law_45 : decode cX0_law 45 = .ok (.iload_n 1, 1) := dk_27 (dk_at dksX0_law_1 21 rfl rfl)
theorem dX0_law_46 : decode cX0_law 46 = .ok (.invokevirtual 221, 3) := dk_182 0 221 (dk_at dksX0_law_2 0 rfl rfl)
theorem dX0_law_49 : decode cX0_law 49 = .ok (.invokestatic 239, 3) := dk_184 0 239 (dk_at dksX0_law_2 3 rfl rfl)
theorem dX0_law_52 : decode cX0_law 52 = .ok (.ireturn, 1) := dk_172 (dk_at dksX0_law_2 6 rfl rfl)
abbrev cX0_invite : ByteArray := prog_1_method_49_code
def yX0_invite : MethodName := ⟨RX0, "invite", "(I)I"⟩
def dkwX0_invite_3 : List UInt8 := [21, 5, 62, 132, 4, 1, 167, 255, 199, 27, 154, 0, 7, 28, 167, 0, 4, 29, 172]
abbrev dktX0_invite_3 : List UInt8 := dkwX0_invite_3 ++ []
def dkwX0_invite_2 : List UInt8 := [180, 0, 53, 21, 4, 182, 0, 174, 154, 0, 18, 21, 5, 29, 163, 0, 6, 167, 0, 9, 21, 4, 61]
abbrev dktX0_invite_2 : List UInt8 := dkwX0_invite_2 ++ dktX0_invite_3
def dkwX0_invite_1 : List UInt8 := [162, 0, 54, 42, 42, 180, 0, 53, 180, 0, 237, 4, 21, 4, 120, 128, 182, 1, 37, 54, 5, 42]
abbrev dktX0_invite_1 : List UInt8 := dkwX0_invite_1 ++ dktX0_invite_2
def dkwX0_invite_0 : List UInt8 := [27, 3, 4, 184, 0, 155, 154, 0, 5, 2, 172, 2, 61, 2, 62, 3, 54, 4, 21, 4, 42, 182, 0, 151]
abbrev dktX0_invite_0 : List UInt8 := dkwX0_invite_0 ++ dktX0_invite_1
theorem dksX0_invite_0 : cX0_invite.data.toList.drop 0 = dktX0_invite_0 := by decide +kernel
theorem dksX0_invite_1 : cX0_invite.data.toList.drop 24 = dktX0_invite_1 := dk_seg dksX0_invite_0 24 rfl rfl
theorem dksX0_invite_2 : cX0_invite.data.toList.drop 46 = dktX0_invite_2 := dk_seg dksX0_invite_1 22 rfl rfl
theorem dksX0_invite_3 : cX0_invite.data.toList.drop 69 = dktX0_invite_3 := dk_seg dksX0_invite_2 23 rfl rfl
theorem dX0_invite_0 : decode cX0_invite 0 = .ok (.iload_n 1, 1) := dk_27 (dk_at dksX0_invite_0 0 rfl rfl)
theorem dX0_invite_1 : decode cX0_invite 1 = .ok (.iconst 0, 1) := dk_3 (dk_at dksX0_invite_0 1 rfl rfl)
theorem dX0_invite_2 : decode cX0_invite 2 = .ok (.iconst 1, 1) := dk_4 (dk_at dksX0_invite_0 2 rfl rfl)
theorem dX0_invite_3 : decode cX0_invite 3 = .ok (.invokestatic 155, 3) := dk_184 0 155 (dk_at dksX0_invite_0 3 rfl rfl)
theorem dX0_invite_6 : decode cX0_invite 6 = .ok (.ifCond .ne 5, 3) := dk_154 0 5 (dk_at dksX0_invite_0 6 rfl rfl)
theorem dX0_invite_9 : decode cX0_invite 9 = .ok (.iconst (-1), 1) := dk_2 (dk_at dksX0_invite_0 9 rfl rfl)
theorem dX0_invite_10 : decode cX0_invite 10 = .ok (.ireturn, 1) := dk_172 (dk_at dksX0_invite_0 10 rfl rfl)
theorem dX0_invite_11 : decode cX0_invite 11 = .ok (.iconst (-1), 1) := dk_2 (dk_at dksX0_invite_0 11 rfl rfl)
theorem dX0_invite_12 : decode cX0_invite 12 = .ok (.istore_n 2, 1) := dk_61 (dk_at dksX0_invite_0 12 rfl rfl)
theorem dX0_invite_13 : decode cX0_invite 13 = .ok (.iconst (-1), 1) := dk_2 (dk_at dksX0_invite_0 13 rfl rfl)
theorem dX0_invite_14 : decode cX0_invite 14 = .ok (.istore_n 3, 1) := dk_62 (dk_at dksX0_invite_0 14 rfl rfl)
theorem dX0_invite_15 : decode cX0_invite 15 = .ok (.iconst 0, 1) := dk_3 (dk_at dksX0_invite_0 15 rfl rfl)
theorem dX0_invite_16 : decode cX0_invite 16 = .ok (.istore 4, 2) := dk_54 4 (dk_at dksX0_invite_0 16 rfl rfl)
theorem dX0_invite_18 : decode cX0_invite 18 = .ok (.iload 4, 2) := dk_21 4 (dk_at dksX0_invite_0 18 rfl rfl)
theorem dX0_invite_20 : decode cX0_invite 20 = .ok (.aload_n 0, 1) := dk_42 (dk_at dksX0_invite_0 20 rfl rfl)
theorem dX0_invite_21 : decode cX0_invite 21 = .ok (.invokevirtual 151, 3) := dk_182 0 151 (dk_at dksX0_invite_0 21 rfl rfl)
theorem dX0_invite_24 : decode cX0_invite 24 = .ok (.if_icmp .ge 54, 3) := dk_162 0 54 (dk_at dksX0_invite_1 0 rfl rfl)
theorem dX0_invite_27 : decode cX0_invite 27 = .ok (.aload_n 0, 1) := dk_42 (dk_at dksX0_invite_1 3 rfl rfl)
theorem dX0_invite_28 : decode cX0_invite 28 = .ok (.aload_n 0, 1) := dk_42 (dk_at dksX0_invite_1 4 rfl rfl)
theorem dX0_invite_29 : decode cX0_invite 29 = .ok (.getfield 53, 3) := dk_180 0 53 (dk_at dksX0_invite_1 5 rfl rfl)
theorem dX0_invite_32 : decode cX0_invite 32 = .ok (.getfield 237, 3) := dk_180 0 237 (dk_at dksX0_invite_1 8 rfl rfl)
theorem dX0_invite_35 : decode cX0_invite 35 = .ok (.iconst 1, 1) := dk_4 (dk_at dksX0_invite_1 11 rfl rfl)
theorem dX0_invite_36 : decode cX0_invite 36 = .ok (.iload 4, 2) := dk_21 4 (dk_at dksX0_invite_1 12 rfl rfl)
theorem dX0_invite_38 : decode cX0_invite 38 = .ok (.ishl, 1) := dk_120 (dk_at dksX0_invite_1 14 rfl rfl)
theorem dX0_invite_39 : decode cX0_invite 39 = .ok (.ior, 1) := dk_128 (dk_at dksX0_invite_1 15 rfl rfl)
theorem dX0_invite_40 : decode cX0_invite 40 = .ok (.invokevirtual 293, 3) := dk_182 1 37 (dk_at dksX0_invite_1 16 rfl rfl)
theorem dX0_invite_43 : decode cX0_invite 43 = .ok (.istore 5, 2) := dk_54 5 (dk_at dksX0_invite_1 19 rfl rfl)
theorem dX0_invite_45 : decode cX0_invite 45 = .ok (.aload_n 0, 1) := dk_42 (dk_at dksX0_invite_1 21 rfl rfl)
theorem dX0_invite_46 : decode cX0_invite 46 = .ok (.getfield 53, 3) := dk_180 0 53 (dk_at dksX0_invite_2 0 rfl rfl)
theorem dX0_invite_49 : decode cX0_invite 49 = .ok (.iload 4, 2) := dk_21 4 (dk_at dksX0_invite_2 3 rfl rfl)
theorem dX0_invite_51 : decode cX0_invite 51 = .ok (.invokevirtual 174, 3) := dk_182 0 174 (dk_at dksX0_invite_2 5 rfl rfl)
theorem dX0_invite_54 : decode cX0_invite 54 = .ok (.ifCond .ne 18, 3) := dk_154 0 18 (dk_at dksX0_invite_2 8 rfl rfl)
theorem dX0_invite_57 : decode cX0_invite 57 = .ok (.iload 5, 2) := dk_21 5 (dk_at dksX0_invite_2 11 rfl rfl)
theorem dX0_invite_59 : decode cX0_invite 59 = .ok (.iload_n 3, 1) := dk_29 (dk_at dksX0_invite_2 13 rfl rfl)
theorem dX0_invite_60 : decode cX0_invite 60 = .ok (.if_icmp .gt 6, 3) := dk_163 0 6 (dk_at dksX0_invite_2 14 rfl rfl)
theorem dX0_invite_63 : decode cX0_invite 63 = .ok (.goto 9, 3) := dk_167 0 9 (dk_at dksX0_invite_2 17 rfl rfl)
theorem dX0_invite_66 : decode cX0_invite 66 = .ok (.iload 4, 2) := dk_21 4 (dk_at dksX0_invite_2 20 rfl rfl)
theorem dX0_invite_68 : decode cX0_invite 68 = .ok (.istore_n 2, 1) := dk_61 (dk_at dksX0_invite_2 22 rfl rfl)
theorem dX0_invite_69 : decode cX0_invite 69 = .ok (.iload 5, 2) := dk_21 5 (dk_at dksX0_invite_3 0 rfl rfl)
theorem dX0_invite_71 : decode cX0_invite 71 = .ok (.istore_n 3, 1) := dk_62 (dk_at dksX0_invite_3 2 rfl rfl)
theorem dX0_invite_72 : decode cX0_invite 72 = .ok (.iinc 4 1, 3) := dk_132 4 1 (dk_at dksX0_invite_3 3 rfl rfl)
theorem dX0_invite_75 : decode cX0_invite 75 = .ok (.goto (-57), 3) := dk_167 255 199 (dk_at dksX0_invite_3 6 rfl rfl)
theorem dX0_invite_78 : decode cX0_invite 78 = .ok (.iload_n 1, 1) := dk_27 (dk_at dksX0_invite_3 9 rfl rfl)
theorem dX0_invite_79 : decode cX0_invite 79 = .ok (.ifCond .ne 7, 3) := dk_154 0 7 (dk_at dksX0_invite_3 10 rfl rfl)
theorem dX0_invite_82 : decode cX0_invite 82 = .ok (.iload_n 2, 1) := dk_28 (dk_at dksX0_invite_3 13 rfl rfl)
theorem dX0_invite_83 : decode cX0_invite 83 = .ok (.goto 4, 3) := dk_167 0 4 (dk_at dksX0_invite_3 14 rfl rfl)
theorem dX0_invite_86 : decode cX0_invite 86 = .ok (.iload_n 3, 1) := dk_29 (dk_at dksX0_invite_3 17 rfl rfl)
theorem dX0_invite_87 : decode cX0_invite 87 = .ok (.ireturn, 1) := dk_172 (dk_at dksX0_invite_3 18 rfl rfl)
abbrev cX0_allSaidAt : ByteArray := prog_1_method_48_code
def yX0_allSaidAt : MethodName := ⟨RX0, "allSaidAt", "(I)I"⟩
def dkwX0_allSaidAt_1 : List UInt8 := [182, 1, 33, 184, 0, 239, 172]
abbrev dktX0_allSaidAt_1 : List UInt8 := dkwX0_allSaidAt_1 ++ []
def dkwX0_allSaidAt_0 : List UInt8 := [42, 180, 0, 60, 42, 180, 0, 53, 182, 0, 230, 27, 182, 1, 9, 42, 180, 0, 42, 42, 182, 1, 24]
abbrev dktX0_allSaidAt_0 : List UInt8 := dkwX0_allSaidAt_0 ++ dktX0_allSaidAt_1
theorem dksX0_allSaidAt_0 : cX0_allSaidAt.data.toList.drop 0 = dktX0_allSaidAt_0 := by decide +kernel
theorem dksX0_allSaidAt_1 : cX0_allSaidAt.data.toList.drop 23 = dktX0_allSaidAt_1 := dk_seg dksX0_allSaidAt_0 23 rfl rfl
theorem dX0_allSaidAt_0 : decode cX0_allSaidAt 0 = .ok (.aload_n 0, 1) := dk_42 (dk_at dksX0_allSaidAt_0 0 rfl rfl)
theorem dX0_allSaidAt_1 : decode cX0_allSaidAt 1 = .ok (.getfield 60, 3) := dk_180 0 60 (dk_at dksX0_allSaidAt_0 1 rfl rfl)
theorem dX0_allSaidAt_4 : decode cX0_allSaidAt 4 = .ok (.aload_n 0, 1) := dk_42 (dk_at dksX0_allSaidAt_0 4 rfl rfl)
theorem dX0_allSaidAt_5 : decode cX0_allSaidAt 5 = .ok (.getfield 53, 3) := dk_180 0 53 (dk_at dksX0_allSaidAt_0 5 rfl rfl)
theorem dX0_allSaidAt_8 : decode cX0_allSaidAt 8 = .ok (.invokevirtual 230, 3) := dk_182 0 230 (dk_at dksX0_allSaidAt_0 8 rfl rfl)
theorem dX0_allSaidAt_11 : decode cX0_allSaidAt 11 = .ok (.iload_n 1, 1) := dk_27 (dk_at dksX0_allSaidAt_0 11 rfl rfl)
theorem dX0_allSaidAt_12 : decode cX0_allSaidAt 12 = .ok (.invokevirtual 265, 3) := dk_182 1 9 (dk_at dksX0_allSaidAt_0 12 rfl rfl)
theorem dX0_allSaidAt_15 : decode cX0_allSaidAt 15 = .ok (.aload_n 0, 1) := dk_42 (dk_at dksX0_allSaidAt_0 15 rfl rfl)
theorem dX0_allSaidAt_16 : decode cX0_allSaidAt 16 = .ok (.getfield 42, 3) := dk_180 0 42 (dk_at dksX0_allSaidAt_0 16 rfl rfl)
theorem dX0_allSaidAt_19 : decode cX0_allSaidAt 19 = .ok (.aload_n 0, 1) := dk_42 (dk_at dksX0_allSaidAt_0 19 rfl rfl)
theorem dX0_allSaidAt_20 : decode cX0_allSaidAt 20 = .ok (.invokevirtual 280, 3) := dk_182 1 24 (dk_at dksX0_allSaidAt_0 20 rfl rfl)
theorem dX0_allSaidAt_23 : decode cX0_allSaidAt 23 = .ok (.invokevirtual 289, 3) := dk_182 1 33 (dk_at dksX0_allSaidAt_1 0 rfl rfl)
theorem dX0_allSaidAt_26 : decode cX0_allSaidAt 26 = .ok (.invokestatic 239, 3) := dk_184 0 239 (dk_at dksX0_allSaidAt_1 3 rfl rfl)
theorem dX0_allSaidAt_29 : decode cX0_allSaidAt 29 = .ok (.ireturn, 1) := dk_172 (dk_at dksX0_allSaidAt_1 6 rfl rfl)
abbrev cX0_blend : ByteArray := prog_1_method_50_code
def yX0_blend : MethodName := ⟨RX0, "blend", "(II)I"⟩
def dkwX0_blend_4 : List UInt8 := [27, 182, 0, 221, 184, 0, 239, 172]
abbrev dktX0_blend_4 : List UInt8 := dkwX0_blend_4 ++ []
def dkwX0_blend_3 : List UInt8 := [42, 180, 0, 60, 180, 0, 199, 29, 46, 79, 132, 3, 1, 167, 255, 210, 42, 180, 0, 60, 42, 180, 0, 42]
abbrev dktX0_blend_3 : List UInt8 := dkwX0_blend_3 ++ dktX0_blend_4
def dkwX0_blend_2 : List UInt8 := [180, 0, 60, 180, 0, 199, 29, 42, 180, 0, 60, 180, 0, 199, 29, 46, 28, 160, 0, 7, 27, 167, 0, 12]
abbrev dktX0_blend_2 : List UInt8 := dkwX0_blend_2 ++ dktX0_blend_3
def dkwX0_blend_1 : List UInt8 := [180, 0, 60, 42, 180, 0, 53, 182, 0, 230, 87, 3, 62, 29, 42, 182, 0, 140, 162, 0, 44, 42]
abbrev dktX0_blend_1 : List UInt8 := dkwX0_blend_1 ++ dktX0_blend_2
def dkwX0_blend_0 : List UInt8 := [42, 27, 182, 0, 212, 153, 0, 16, 42, 28, 182, 0, 212, 153, 0, 8, 27, 28, 160, 0, 5, 2, 172, 42]
abbrev dktX0_blend_0 : List UInt8 := dkwX0_blend_0 ++ dktX0_blend_1
theorem dksX0_blend_0 : cX0_blend.data.toList.drop 0 = dktX0_blend_0 := by decide +kernel
theorem dksX0_blend_1 : cX0_blend.data.toList.drop 24 = dktX0_blend_1 := dk_seg dksX0_blend_0 24 rfl rfl
theorem dksX0_blend_2 : cX0_blend.data.toList.drop 46 = dktX0_blend_2 := dk_seg dksX0_blend_1 22 rfl rfl
theorem dksX0_blend_3 : cX0_blend.data.toList.drop 70 = dktX0_blend_3 := dk_seg dksX0_blend_2 24 rfl rfl
theorem dksX0_blend_4 : cX0_blend.data.toList.drop 94 = dktX0_blend_4 := dk_seg dksX0_blend_3 24 rfl rfl
theorem dX0_blend_0 : decode cX0_blend 0 = .ok (.aload_n 0, 1) := dk_42 (dk_at dksX0_blend_0 0 rfl rfl)
theorem dX0_blend_1 : decode cX0_blend 1 = .ok (.iload_n 1, 1) := dk_27 (dk_at dksX0_blend_0 1 rfl rfl)
theorem dX0_blend_2 : decode cX0_blend 2 = .ok (.invokevirtual 212, 3) := dk_182 0 212 (dk_at dksX0_blend_0 2 rfl rfl)
theorem dX0_blend_5 : decode cX0_blend 5 = .ok (.ifCond .eq 16, 3) := dk_153 0 16 (dk_at dksX0_blend_0 5 rfl rfl)
theorem dX0_blend_8 : decode cX0_blend 8 = .ok (.aload_n 0, 1) := dk_42 (dk_at dksX0_blend_0 8 rfl rfl)
theorem dX0_blend_9 : decode cX0_blend 9 = .ok (.iload_n 2, 1) := dk_28 (dk_at dksX0_blend_0 9 rfl rfl)
theorem dX0_blend_10 : decode cX0_blend 10 = .ok (.invokevirtual 212, 3) := dk_182 0 212 (dk_at dksX0_blend_0 10 rfl rfl)
theorem dX0_blend_13 : decode cX0_blend 13 = .ok (.ifCond .eq 8, 3) := dk_153 0 8 (dk_at dksX0_blend_0 13 rfl rfl)
theorem dX0_blend_16 : decode cX0_blend 16 = .ok (.iload_n 1, 1) := dk_27 (dk_at dksX0_blend_0 16 rfl rfl)
theorem dX0_blend_17 : decode cX0_blend 17 = .ok (.iload_n 2, 1) := dk_28 (dk_at dksX0_blend_0 17 rfl rfl)
theorem dX0_blend_18 : decode cX0_blend 18 = .ok (.if_icmp .ne 5, 3) := dk_160 0 5 (dk_at dksX0_blend_0 18 rfl rfl)
theorem dX0_blend_21 : decode cX0_blend 21 = .ok (.iconst (-1), 1) := dk_2 (dk_at dksX0_blend_0 21 rfl rfl)
theorem dX0_blend_22 : decode cX0_blend 22 = .ok (.ireturn, 1) := dk_172 (dk_at dksX0_blend_0 22 rfl rfl)
theorem dX0_blend_23 : decode cX0_blend 23 = .ok (.aload_n 0, 1) := dk_42 (dk_at dksX0_blend_0 23 rfl rfl)
theorem dX0_blend_24 : decode cX0_blend 24 = .ok (.getfield 60, 3) := dk_180 0 60 (dk_at dksX0_blend_1 0 rfl rfl)
theorem dX0_blend_27 : decode cX0_blend 27 = .ok (.aload_n 0, 1) := dk_42 (dk_at dksX0_blend_1 3 rfl rfl)
theorem dX0_blend_28 : decode cX0_blend 28 = .ok (.getfield 53, 3) := dk_180 0 53 (dk_at dksX0_blend_1 4 rfl rfl)
theorem dX0_blend_31 : decode cX0_blend 31 = .ok (.invokevirtual 230, 3) := dk_182 0 230 (dk_at dksX0_blend_1 7 rfl rfl)
theorem dX0_blend_34 : decode cX0_blend 34 = .ok (.pop, 1) := dk_87 (dk_at dksX0_blend_1 10 rfl rfl)
theorem dX0_blend_35 : decode cX0_blend 35 = .ok (.iconst 0, 1) := dk_3 (dk_at dksX0_blend_1 11 rfl rfl)
theorem dX0_blend_36 : decode cX0_blend 36 = .ok (.istore_n 3, 1) := dk_62 (dk_at dksX0_blend_1 12 rfl rfl)
theorem dX0_blend_37 : decode cX0_blend 37 = .ok (.iload_n 3, 1) := dk_29 (dk_at dksX0_blend_1 13 rfl rfl)
theorem dX0_blend_38 : decode cX0_blend 38 = .ok (.aload_n 0, 1) := dk_42 (dk_at dksX0_blend_1 14 rfl rfl)
theorem dX0_blend_39 : decode cX0_blend 39 = .ok (.invokevirtual 140, 3) := dk_182 0 140 (dk_at dksX0_blend_1 15 rfl rfl)
theorem dX0_blend_42 : decode cX0_blend 42 = .ok (.if_icmp .ge 44, 3) := dk_162 0 44 (dk_at dksX0_blend_1 18 rfl rfl)
theorem dX0_blend_45 : decode cX0_blend 45 = .ok (.aload_n 0, 1) := dk_42 (dk_at dksX0_blend_1 21 rfl rfl)
theorem dX0_blend_46 : decode cX0_blend 46 = .ok (.getfield 60, 3) := dk_180 0 60 (dk_at dksX0_blend_2 0 rfl rfl)
theorem dX0_blend_49 : decode cX0_blend 49 = .ok (.getfield 199, 3) := dk_180 0 199 (dk_at dksX0_blend_2 3 rfl rfl)
theorem dX0_blend_52 : decode cX0_blend 52 = .ok (.iload_n 3, 1) := dk_29 (dk_at dksX0_blend_2 6 rfl rfl)
theorem dX0_blend_53 : decode cX0_blend 53 = .ok (.aload_n 0, 1) := dk_42 (dk_at dksX0_blend_2 7 rfl rfl)
theorem dX0_blend_54 : decode cX0_blend 54 = .ok (.getfield 60, 3) := dk_180 0 60 (dk_at dksX0_blend_2 8 rfl rfl)
theorem dX0_blend_57 : decode cX0_blend 57 = .ok (.getfield 199, 3) := dk_180 0 199 (dk_at dksX0_blend_2 11 rfl rfl)
theorem dX0_blend_60 : decode cX0_blend 60 = .ok (.iload_n 3, 1) := dk_29 (dk_at dksX0_blend_2 14 rfl rfl)
theorem dX0_blend_61 : decode cX0_blend 61 = .ok (.iaload, 1) := dk_46 (dk_at dksX0_blend_2 15 rfl rfl)
theorem dX0_blend_62 : decode cX0_blend 62 = .ok (.iload_n 2, 1) := dk_28 (dk_at dksX0_blend_2 16 rfl rfl)
theorem dX0_blend_63 : decode cX0_blend 63 = .ok (.if_icmp .ne 7, 3) := dk_160 0 7 (dk_at dksX0_blend_2 17 rfl rfl)
theorem dX0_blend_66 : decode cX0_blend 66 = .ok (.iload_n 1, 1) := dk_27 (dk_at dksX0_blend_2 20 rfl rfl)
theorem dX0_blend_67 : decode cX0_blend 67 = .ok (.goto 12, 3) := dk_167 0 12 (dk_at dksX0_blend_2 21 rfl rfl)
theorem dX0_blend_70 : decode cX0_blend 70 = .ok (.aload_n 0, 1) := dk_42 (dk_at dksX0_blend_3 0 rfl rfl)
theorem dX0_blend_71 : decode cX0_blend 71 = .ok (.getfield 60, 3) := dk_180 0 60 (dk_at dksX0_blend_3 1 rfl rfl)
theorem dX0_blend_74 : decode cX0_blend 74 = .ok (.getfield 199, 3) := dk_180 0 199 (dk_at dksX0_blend_3 4 rfl rfl)
theorem dX0_blend_77 : decode cX0_blend 77 = .ok (.iload_n 3, 1) := dk_29 (dk_at dksX0_blend_3 7 rfl rfl)
theorem dX0_blend_78 : decode cX0_blend 78 = .ok (.iaload, 1) := dk_46 (dk_at dksX0_blend_3 8 rfl rfl)
theorem dX0_blend_79 : decode cX0_blend 79 = .ok (.iastore, 1) := dk_79 (dk_at dksX0_blend_3 9 rfl rfl)
theorem dX0_blend_80 : decode cX0_blend 80 = .ok (.iinc 3 1, 3) := dk_132 3 1 (dk_at dksX0_blend_3 10 rfl rfl)
theorem dX0_blend_83 : decode cX0_blend 83 = .ok (.goto (-46), 3) := dk_167 255 210 (dk_at dksX0_blend_3 13 rfl rfl)
theorem dX0_blend_86 : decode cX0_blend 86 = .ok (.aload_n 0, 1) := dk_42 (dk_at dksX0_blend_3 16 rfl rfl)
theorem dX0_blend_87 : decode cX0_blend 87 = .ok (.getfield 60, 3) := dk_180 0 60 (dk_at dksX0_blend_3 17 rfl rfl)
theorem dX0_blend_90 : decode cX0_blend 90 = .ok (.aload_n 0, 1) := dk_42 (dk_at dksX0_blend_3 20 rfl rfl)
theorem dX0_blend_91 : decode cX0_blend 91 = .ok (.getfield 42, 3) := dk_180 0 42 (dk_at dksX0_blend_3 21 rfl rfl)
theorem dX0_blend_94 : decode cX0_blend 94 = .ok (.iload_n 1, 1) := dk_27 (dk_at dksX0_blend_4 0 rfl rfl)
theorem dX0_blend_95 : decode cX0_blend 95 = .ok (.invokevirtual 221, 3) := dk_182 0 221 (dk_at dksX0_blend_4 1 rfl rfl)
theorem dX0_blend_98 : decode cX0_blend 98 = .ok (.invokestatic 239, 3) := dk_184 0 239 (dk_at dksX0_blend_4 4 rfl rfl)
theorem dX0_blend_101 : decode cX0_blend 101 = .ok (.ireturn, 1) := dk_172 (dk_at dksX0_blend_4 7 rfl rfl)
abbrev cX0_exchange : ByteArray := prog_1_method_52_code
def yX0_exchange : MethodName := ⟨RX0, "exchange", "(I)I"⟩
def dkwX0_exchange_9 : List UInt8 := [29, 167, 0, 14, 27, 5, 160, 0, 8, 21, 4, 167, 0, 4, 2, 172]
abbrev dktX0_exchange_9 : List UInt8 := dkwX0_exchange_9 ++ []
def dkwX0_exchange_8 : List UInt8 := [167, 255, 92, 28, 156, 0, 7, 2, 167, 0, 31, 27, 154, 0, 7, 28, 167, 0, 23, 27, 4, 160, 0, 7]
abbrev dktX0_exchange_8 : List UInt8 := dkwX0_exchange_8 ++ dktX0_exchange_9
def dkwX0_exchange_7 : List UInt8 := [167, 0, 13, 21, 5, 61, 21, 6, 62, 21, 7, 54, 4, 132, 6, 1, 167, 255, 113, 132, 5, 1]
abbrev dktX0_exchange_7 : List UInt8 := dkwX0_exchange_7 ++ dktX0_exchange_8
def dkwX0_exchange_6 : List UInt8 := [180, 0, 42, 42, 182, 1, 24, 182, 1, 33, 184, 0, 239, 54, 7, 21, 7, 21, 4, 163, 0, 6]
abbrev dktX0_exchange_6 : List UInt8 := dkwX0_exchange_6 ++ dktX0_exchange_7
def dkwX0_exchange_5 : List UInt8 := [180, 0, 60, 180, 0, 199, 21, 6, 42, 180, 0, 53, 180, 0, 199, 21, 5, 46, 79, 42, 180, 0, 60, 42]
abbrev dktX0_exchange_5 : List UInt8 := dkwX0_exchange_5 ++ dktX0_exchange_6
def dkwX0_exchange_4 : List UInt8 := [180, 0, 53, 182, 0, 230, 180, 0, 199, 21, 5, 42, 180, 0, 53, 180, 0, 199, 21, 6, 46, 79, 42]
abbrev dktX0_exchange_4 : List UInt8 := dkwX0_exchange_4 ++ dktX0_exchange_5
def dkwX0_exchange_3 : List UInt8 := [46, 42, 180, 0, 53, 180, 0, 199, 21, 6, 46, 160, 0, 6, 167, 0, 90, 42, 180, 0, 60, 42]
abbrev dktX0_exchange_3 : List UInt8 := dkwX0_exchange_3 ++ dktX0_exchange_4
def dkwX0_exchange_2 : List UInt8 := [182, 1, 40, 153, 0, 125, 42, 21, 6, 182, 1, 40, 153, 0, 116, 42, 180, 0, 53, 180, 0, 199, 21, 5]
abbrev dktX0_exchange_2 : List UInt8 := dkwX0_exchange_2 ++ dktX0_exchange_3
def dkwX0_exchange_1 : List UInt8 := [182, 0, 140, 162, 0, 161, 21, 5, 4, 96, 54, 6, 21, 6, 42, 182, 0, 140, 162, 0, 140, 42, 21, 5]
abbrev dktX0_exchange_1 : List UInt8 := dkwX0_exchange_1 ++ dktX0_exchange_2
def dkwX0_exchange_0 : List UInt8 := [2, 61, 2, 62, 42, 42, 180, 0, 53, 180, 0, 237, 182, 1, 37, 54, 4, 3, 54, 5, 21, 5, 42]
abbrev dktX0_exchange_0 : List UInt8 := dkwX0_exchange_0 ++ dktX0_exchange_1
theorem dksX0_exchange_0 : cX0_exchange.data.toList.drop 0 = dktX0_exchange_0 := by decide +kernel
theorem dksX0_exchange_1 : cX0_exchange.data.toList.drop 23 = dktX0_exchange_1 := dk_seg dksX0_exchange_0 23 rfl rfl
theorem dksX0_exchange_2 : cX0_exchange.data.toList.drop 47 = dktX0_exchange_2 := dk_seg dksX0_exchange_1 24 rfl rfl
theorem dksX0_exchange_3 : cX0_exchange.data.toList.drop 71 = dktX0_exchange_3 := dk_seg dksX0_exchange_2 24 rfl rfl
theorem dksX0_exchange_4 : cX0_exchange.data.toList.drop 93 = dktX0_exchange_4 := dk_seg dksX0_exchange_3 22 rfl rfl
theorem dksX0_exchange_5 : cX0_exchange.data.toList.drop 116 = dktX0_exchange_5 := dk_seg dksX0_exchange_4 23 rfl rfl
theorem dksX0_exchange_6 : cX0_exchange.data.toList.drop 140 = dktX0_exchange_6 := dk_seg dksX0_exchange_5 24 rfl rfl
theorem dksX0_exchange_7 : cX0_exchange.data.toList.drop 162 = dktX0_exchange_7 := dk_seg dksX0_exchange_6 22 rfl rfl
theorem dksX0_exchange_8 : cX0_exchange.data.toList.drop 184 = dktX0_exchange_8 := dk_seg dksX0_exchange_7 22 rfl rfl
theorem dksX0_exchange_9 : cX0_exchange.data.toList.drop 208 = dktX0_exchange_9 := dk_seg dksX0_exchange_8 24 rfl rfl
theorem dX0_exchange_0 : decode cX0_exchange 0 = .ok (.iconst (-1), 1) := dk_2 (dk_at dksX0_exchange_0 0 rfl rfl)
theorem dX0_exchange_1 : decode cX0_exchange 1 = .ok (.istore_n 2, 1) := dk_61 (dk_at dksX0_exchange_0 1 rfl rfl)
theorem dX0_exchange_2 : decode cX0_exchange 2 = .ok (.iconst (-1), 1) := dk_2 (dk_at dksX0_exchange_0 2 rfl rfl)
theorem dX0_exchange_3 : decode cX0_exchange 3 = .ok (.istore_n 3, 1) := dk_62 (dk_at dksX0_exchange_0 3 rfl rfl)
theorem dX0_exchange_4 : decode cX0_exchange 4 = .ok (.aload_n 0, 1) := dk_42 (dk_at dksX0_exchange_0 4 rfl rfl)
theorem dX0_exchange_5 : decode cX0_exchange 5 = .ok (.aload_n 0, 1) := dk_42 (dk_at dksX0_exchange_0 5 rfl rfl)
theorem dX0_exchange_6 : decode cX0_exchange 6 = .ok (.getfield 53, 3) := dk_180 0 53 (dk_at dksX0_exchange_0 6 rfl rfl)
theorem dX0_exchange_9 : decode cX0_exchange 9 = .ok (.getfield 237, 3) := dk_180 0 237 (dk_at dksX0_exchange_0 9 rfl rfl)
theorem dX0_exchange_12 : decode cX0_exchange 12 = .ok (.invokevirtual 293, 3) := dk_182 1 37 (dk_at dksX0_exchange_0 12 rfl rfl)
theorem dX0_exchange_15 : decode cX0_exchange 15 = .ok (.istore 4, 2) := dk_54 4 (dk_at dksX0_exchange_0 15 rfl rfl)
theorem dX0_exchange_17 : decode cX0_exchange 17 = .ok (.iconst 0, 1) := dk_3 (dk_at dksX0_exchange_0 17 rfl rfl)
theorem dX0_exchange_18 : decode cX0_exchange 18 = .ok (.istore 5, 2) := dk_54 5 (dk_at dksX0_exchange_0 18 rfl rfl)
theorem dX0_exchange_20 : decode cX0_exchange 20 = .ok (.iload 5, 2) := dk_21 5 (dk_at dksX0_exchange_0 20 rfl rfl)
theorem dX0_exchange_22 : decode cX0_exchange 22 = .ok (.aload_n 0, 1) := dk_42 (dk_at dksX0_exchange_0 22 rfl rfl)
theorem dX0_exchange_23 : decode cX0_exchange 23 = .ok (.invokevirtual 140, 3) := dk_182 0 140 (dk_at dksX0_exchange_1 0 rfl rfl)
theorem dX0_exchange_26 : decode cX0_exchange 26 = .ok (.if_icmp .ge 161, 3) := dk_162 0 161 (dk_at dksX0_exchange_1 3 rfl rfl)
theorem dX0_exchange_29 : decode cX0_exchange 29 = .ok (.iload 5, 2) := dk_21 5 (dk_at dksX0_exchange_1 6 rfl rfl)
theorem dX0_exchange_31 : decode cX0_exchange 31 = .ok (.iconst 1, 1) := dk_4 (dk_at dksX0_exchange_1 8 rfl rfl)
theorem dX0_exchange_32 : decode cX0_exchange 32 = .ok (.iadd, 1) := dk_96 (dk_at dksX0_exchange_1 9 rfl rfl)
theorem dX0_exchange_33 : decode cX0_exchange 33 = .ok (.istore 6, 2) := dk_54 6 (dk_at dksX0_exchange_1 10 rfl rfl)
theorem dX0_exchange_35 : decode cX0_exchange 35 = .ok (.iload 6, 2) := dk_21 6 (dk_at dksX0_exchange_1 12 rfl rfl)
theorem dX0_exchange_37 : decode cX0_exchange 37 = .ok (.aload_n 0, 1) := dk_42 (dk_at dksX0_exchange_1 14 rfl rfl)
theorem dX0_exchange_38 : decode cX0_exchange 38 = .ok (.invokevirtual 140, 3) := dk_182 0 140 (dk_at dksX0_exchange_1 15 rfl rfl)
theorem dX0_exchange_41 : decode cX0_exchange 41 = .ok (.if_icmp .ge 140, 3) := dk_162 0 140 (dk_at dksX0_exchange_1 18 rfl rfl)
theorem dX0_exchange_44 : decode cX0_exchange 44 = .ok (.aload_n 0, 1) := dk_42 (dk_at dksX0_exchange_1 21 rfl rfl)
theorem dX0_exchange_45 : decode cX0_exchange 45 = .ok (.iload 5, 2) := dk_21 5 (dk_at dksX0_exchange_1 22 rfl rfl)
theorem dX0_exchange_47 : decode cX0_exchange 47 = .ok (.invokevirtual 296, 3) := dk_182 1 40 (dk_at dksX0_exchange_2 0 rfl rfl)
theorem dX0_exchange_50 : decode cX0_exchange 50 = .ok (.ifCond .eq 125, 3) := dk_153 0 125 (dk_at dksX0_exchange_2 3 rfl rfl)
theorem dX0_exchange_53 : decode cX0_exchange 53 = .ok (.aload_n 0, 1) := dk_42 (dk_at dksX0_exchange_2 6 rfl rfl)
theorem dX0_exchange_54 : decode cX0_exchange 54 = .ok (.iload 6, 2) := dk_21 6 (dk_at dksX0_exchange_2 7 rfl rfl)
theorem dX0_exchange_56 : decode cX0_exchange 56 = .ok (.invokevirtual 296, 3) := dk_182 1 40 (dk_at dksX0_exchange_2 9 rfl rfl)
theorem dX0_exchange_59 : decode cX0_exchange 59 = .ok (.ifCond .eq 116, 3) := dk_153 0 116 (dk_at dksX0_exchange_2 12 rfl rfl)
theorem dX0_exchange_62 : decode cX0_exchange 62 = .ok (.aload_n 0, 1) := dk_42 (dk_at dksX0_exchange_2 15 rfl rfl)
theorem dX0_exchange_63 : decode cX0_exchange 63 = .ok (.getfield 53, 3) := dk_180 0 53 (dk_at dksX0_exchange_2 16 rfl rfl)
theorem dX0_exchange_66 : decode cX0_exchange 66 = .ok (.getfield 199, 3) := dk_180 0 199 (dk_at dksX0_exchange_2 19 rfl rfl)
theorem dX0_exchange_69 : decode cX0_exchange 69 = .ok (.iload 5, 2) := dk_21 5 (dk_at dksX0_exchange_2 22 rfl rfl)
theorem dX0_exchange_71 : decode cX0_exchange 71 = .ok (.iaload, 1) := dk_46 (dk_at dksX0_exchange_3 0 rfl rfl)
theorem dX0_exchange_72 : decode cX0_exchange 72 = .ok (.aload_n 0, 1) := dk_42 (dk_at dksX0_exchange_3 1 rfl rfl)
theorem dX0_exchange_73 : decode cX0_exchange 73 = .ok (.getfield 53, 3) := dk_180 0 53 (dk_at dksX0_exchange_3 2 rfl rfl)
theorem dX0_exchange_76 : decode cX0_exchange 76 = .ok (.getfield 199, 3) := dk_180 0 199 (dk_at dksX0_exchange_3 5 rfl rfl)
theorem dX0_exchange_79 : decode cX0_exchange 79 = .ok (.iload 6, 2) := dk_21 6 (dk_at dksX0_exchange_3 8 rfl rfl)
theorem dX0_exchange_81 : decode cX0_exchange 81 = .ok (.iaload, 1) := dk_46 (dk_at dksX0_exchange_3 10 rfl rfl)
theorem dX0_exchange_82 : decode cX0_exchange 82 = .ok (.if_icmp .ne 6, 3) := dk_160 0 6 (dk_at dksX0_exchange_3 11 rfl rfl)
theorem dX0_exchange_85 : decode cX0_exchange 85 = .ok (.goto 90, 3) := dk_167 0 90 (dk_at dksX0_exchange_3 14 rfl rfl)
theorem dX0_exchange_88 : decode cX0_exchange 88 = .ok (.aload_n 0, 1) := dk_42 (dk_at dksX0_exchange_3 17 rfl rfl)
theorem dX0_exchange_89 : decode cX0_exchange 89 = .ok (.getfield 60, 3) := dk_180 0 60 (dk_at dksX0_exchange_3 18 rfl rfl)
theorem dX0_exchange_92 : decode cX0_exchange 92 = .ok (.aload_n 0, 1) := dk_42 (dk_at dksX0_exchange_3 21 rfl rfl)
theorem dX0_exchange_93 : decode cX0_exchange 93 = .ok (.getfield 53, 3) := dk_180 0 53 (dk_at dksX0_exchange_4 0 rfl rfl)
theorem dX0_exchange_96 : decode cX0_exchange 96 = .ok (.invokevirtual 230, 3) := dk_182 0 230 (dk_at dksX0_exchange_4 3 rfl rfl)
theorem dX0_exchange_99 : decode cX0_exchange 99 = .ok (.getfield 199, 3) := dk_180 0 199 (dk_at dksX0_exchange_4 6 rfl rfl)
theorem dX0_exchange_102 : decode cX0_exchange 102 = .ok (.iload 5, 2) := dk_21 5 (dk_at dksX0_exchange_4 9 rfl rfl)
theorem dX0_exchange_104 : decode cX0_exchange 104 = .ok (.aload_n 0, 1) := dk_42 (dk_at dksX0_exchange_4 11 rfl rfl)
theorem dX0_exchange_105 : decode cX0_exchange 105 = .ok (.getfield 53, 3) := dk_180 0 53 (dk_at dksX0_exchange_4 12 rfl rfl)
theorem dX0_exchange_108 : decode cX0_exchange 108 = .ok (.getfield 199, 3) := dk_180 0 199 (dk_at dksX0_exchange_4 15 rfl rfl)
theorem dX0_exchange_111 : decode cX0_exchange 111 = .ok (.iload 6, 2) := dk_21 6 (dk_at dksX0_exchange_4 18 rfl rfl)
theorem dX0_exchange_113 : decode cX0_exchange 113 = .ok (.iaload, 1) := dk_46 (dk_at dksX0_exchange_4 20 rfl rfl)
theorem dX0_exchange_114 : decode cX0_exchange 114 = .ok (.iastore, 1) := dk_79 (dk_at dksX0_exchange_4 21 rfl rfl)
theorem dX0_exchange_115 : decode cX0_exchange 115 = .ok (.aload_n 0, 1) := dk_42 (dk_at dksX0_exchange_4 22 rfl rfl)
theorem dX0_exchange_116 : decode cX0_exchange 116 = .ok (.getfield 60, 3) := dk_180 0 60 (dk_at dksX0_exchange_5 0 rfl rfl)
theorem dX0_exchange_119 : decode cX0_exchange 119 = .ok (.getfield 199, 3) := dk_180 0 199 (dk_at dksX0_exchange_5 3 rfl rfl)
theorem dX0_exchange_122 : decode cX0_exchange 122 = .ok (.iload 6, 2) := dk_21 6 (dk_at dksX0_exchange_5 6 rfl rfl)
theorem dX0_exchange_124 : decode cX0_exchange 124 = .ok (.aload_n 0, 1) := dk_42 (dk_at dksX0_exchange_5 8 rfl rfl)
theorem dX0_exchange_125 : decode cX0_exchange 125 = .ok (.getfield 53, 3) := dk_180 0 53 (dk_at dksX0_exchange_5 9 rfl rfl)
theorem dX0_exchange_128 : decode cX0_exchange 128 = .ok (.getfield 199, 3) := dk_180 0 199 (dk_at dksX0_exchange_5 12 rfl rfl)
theorem dX0_exchange_131 : decode cX0_exchange 131 = .ok (.iload 5, 2) := dk_21 5 (dk_at dksX0_exchange_5 15 rfl rfl)
theorem dX0_exchange_133 : decode cX0_exchange 133 = .ok (.iaload, 1) := dk_46 (dk_at dksX0_exchange_5 17 rfl rfl)
theorem dX0_exchange_134 : decode cX0_exchange 134 = .ok (.iastore, 1) := dk_79 (dk_at dksX0_exchange_5 18 rfl rfl)
theorem dX0_exchange_135 : decode cX0_exchange 135 = .ok (.aload_n 0, 1) := dk_42 (dk_at dksX0_exchange_5 19 rfl rfl)
theorem dX0_exchange_136 : decode cX0_exchange 136 = .ok (.getfield 60, 3) := dk_180 0 60 (dk_at dksX0_exchange_5 20 rfl rfl)
theorem dX0_exchange_139 : decode cX0_exchange 139 = .ok (.aload_n 0, 1) := dk_42 (dk_at dksX0_exchange_5 23 rfl rfl)
theorem dX0_exchange_140 : decode cX0_exchange 140 = .ok (.getfield 42, 3) := dk_180 0 42 (dk_at dksX0_exchange_6 0 rfl rfl)
theorem dX0_exchange_143 : decode cX0_exchange 143 = .ok (.aload_n 0, 1) := dk_42 (dk_at dksX0_exchange_6 3 rfl rfl)
theorem dX0_exchange_144 : decode cX0_exchange 144 = .ok (.invokevirtual 280, 3) := dk_182 1 24 (dk_at dksX0_exchange_6 4 rfl rfl)
theorem dX0_exchange_147 : decode cX0_exchange 147 = .ok (.invokevirtual 289, 3) := dk_182 1 33 (dk_at dksX0_exchange_6 7 rfl rfl)
theorem dX0_exchange_150 : decode cX0_exchange 150 = .ok (.invokestatic 239, 3) := dk_184 0 239 (dk_at dksX0_exchange_6 10 rfl rfl)
theorem dX0_exchange_153 : decode cX0_exchange 153 = .ok (.istore 7, 2) := dk_54 7 (dk_at dksX0_exchange_6 13 rfl rfl)
theorem dX0_exchange_155 : decode cX0_exchange 155 = .ok (.iload 7, 2) := dk_21 7 (dk_at dksX0_exchange_6 15 rfl rfl)
theorem dX0_exchange_157 : decode cX0_exchange 157 = .ok (.iload 4, 2) := dk_21 4 (dk_at dksX0_exchange_6 17 rfl rfl)
theorem dX0_exchange_159 : decode cX0_exchange 159 = .ok (.if_icmp .gt 6, 3) := dk_163 0 6 (dk_at dksX0_exchange_6 19 rfl rfl)
theorem dX0_exchange_162 : decode cX0_exchange 162 = .ok (.goto 13, 3) := dk_167 0 13 (dk_at dksX0_exchange_7 0 rfl rfl)
theorem dX0_exchange_165 : decode cX0_exchange 165 = .ok (.iload 5, 2) := dk_21 5 (dk_at dksX0_exchange_7 3 rfl rfl)
theorem dX0_exchange_167 : decode cX0_exchange 167 = .ok (.istore_n 2, 1) := dk_61 (dk_at dksX0_exchange_7 5 rfl rfl)
theorem dX0_exchange_168 : decode cX0_exchange 168 = .ok (.iload 6, 2) := dk_21 6 (dk_at dksX0_exchange_7 6 rfl rfl)
theorem dX0_exchange_170 : decode cX0_exchange 170 = .ok (.istore_n 3, 1) := dk_62 (dk_at dksX0_exchange_7 8 rfl rfl)
theorem dX0_exchange_171 : decode cX0_exchange 171 = .ok (.iload 7, 2) := dk_21 7 (dk_at dksX0_exchange_7 9 rfl rfl)
theorem dX0_exchange_173 : decode cX0_exchange 173 = .ok (.istore 4, 2) := dk_54 4 (dk_at dksX0_exchange_7 11 rfl rfl)
theorem dX0_exchange_175 : decode cX0_exchange 175 = .ok (.iinc 6 1, 3) := dk_132 6 1 (dk_at dksX0_exchange_7 13 rfl rfl)
theorem dX0_exchange_178 : decode cX0_exchange 178 = .ok (.goto (-143), 3) := dk_167 255 113 (dk_at dksX0_exchange_7 16 rfl rfl)
theorem dX0_exchange_181 : decode cX0_exchange 181 = .ok (.iinc 5 1, 3) := dk_132 5 1 (dk_at dksX0_exchange_7 19 rfl rfl)
theorem dX0_exchange_184 : decode cX0_exchange 184 = .ok (.goto (-164), 3) := dk_167 255 92 (dk_at dksX0_exchange_8 0 rfl rfl)
theorem dX0_exchange_187 : decode cX0_exchange 187 = .ok (.iload_n 2, 1) := dk_28 (dk_at dksX0_exchange_8 3 rfl rfl)
theorem dX0_exchange_188 : decode cX0_exchange 188 = .ok (.ifCond .ge 7, 3) := dk_156 0 7 (dk_at dksX0_exchange_8 4 rfl rfl)
theorem dX0_exchange_191 : decode cX0_exchange 191 = .ok (.iconst (-1), 1) := dk_2 (dk_at dksX0_exchange_8 7 rfl rfl)
theorem dX0_exchange_192 : decode cX0_exchange 192 = .ok (.goto 31, 3) := dk_167 0 31 (dk_at dksX0_exchange_8 8 rfl rfl)
theorem dX0_exchange_195 : decode cX0_exchange 195 = .ok (.iload_n 1, 1) := dk_27 (dk_at dksX0_exchange_8 11 rfl rfl)
theorem dX0_exchange_196 : decode cX0_exchange 196 = .ok (.ifCond .ne 7, 3) := dk_154 0 7 (dk_at dksX0_exchange_8 12 rfl rfl)
theorem dX0_exchange_199 : decode cX0_exchange 199 = .ok (.iload_n 2, 1) := dk_28 (dk_at dksX0_exchange_8 15 rfl rfl)
theorem dX0_exchange_200 : decode cX0_exchange 200 = .ok (.goto 23, 3) := dk_167 0 23 (dk_at dksX0_exchange_8 16 rfl rfl)
theorem dX0_exchange_203 : decode cX0_exchange 203 = .ok (.iload_n 1, 1) := dk_27 (dk_at dksX0_exchange_8 19 rfl rfl)
theorem dX0_exchange_204 : decode cX0_exchange 204 = .ok (.iconst 1, 1) := dk_4 (dk_at dksX0_exchange_8 20 rfl rfl)
theorem dX0_exchange_205 : decode cX0_exchange 205 = .ok (.if_icmp .ne 7, 3) := dk_160 0 7 (dk_at dksX0_exchange_8 21 rfl rfl)
theorem dX0_exchange_208 : decode cX0_exchange 208 = .ok (.iload_n 3, 1) := dk_29 (dk_at dksX0_exchange_9 0 rfl rfl)
theorem dX0_exchange_209 : decode cX0_exchange 209 = .ok (.goto 14, 3) := dk_167 0 14 (dk_at dksX0_exchange_9 1 rfl rfl)
theorem dX0_exchange_212 : decode cX0_exchange 212 = .ok (.iload_n 1, 1) := dk_27 (dk_at dksX0_exchange_9 4 rfl rfl)
theorem dX0_exchange_213 : decode cX0_exchange 213 = .ok (.iconst 2, 1) := dk_5 (dk_at dksX0_exchange_9 5 rfl rfl)
theorem dX0_exchange_214 : decode cX0_exchange 214 = .ok (.if_icmp .ne 8, 3) := dk_160 0 8 (dk_at dksX0_exchange_9 6 rfl rfl)
theorem dX0_exchange_217 : decode cX0_exchange 217 = .ok (.iload 4, 2) := dk_21 4 (dk_at dksX0_exchange_9 9 rfl rfl)
theorem dX0_exchange_219 : decode cX0_exchange 219 = .ok (.goto 4, 3) := dk_167 0 4 (dk_at dksX0_exchange_9 11 rfl rfl)
theorem dX0_exchange_222 : decode cX0_exchange 222 = .ok (.iconst (-1), 1) := dk_2 (dk_at dksX0_exchange_9 14 rfl rfl)
theorem dX0_exchange_223 : decode cX0_exchange 223 = .ok (.ireturn, 1) := dk_172 (dk_at dksX0_exchange_9 15 rfl rfl)
abbrev cX0_isInSack : ByteArray := prog_1_method_51_code
def yX0_isInSack : MethodName := ⟨RX0, "isInSack", "(I)Z"⟩
def dkwX0_isInSack_1 : List UInt8 := [167, 0, 4, 3, 172]
abbrev dktX0_isInSack_1 : List UInt8 := dkwX0_isInSack_1 ++ []
def dkwX0_isInSack_0 : List UInt8 := [42, 180, 0, 53, 27, 182, 0, 202, 154, 0, 19, 42, 180, 0, 53, 180, 0, 199, 27, 46, 155, 0, 7, 4]
abbrev dktX0_isInSack_0 : List UInt8 := dkwX0_isInSack_0 ++ dktX0_isInSack_1
theorem dksX0_isInSack_0 : cX0_isInSack.data.toList.drop 0 = dktX0_isInSack_0 := by decide +kernel
theorem dksX0_isInSack_1 : cX0_isInSack.data.toList.drop 24 = dktX0_isInSack_1 := dk_seg dksX0_isInSack_0 24 rfl rfl
theorem dX0_isInSack_0 : decode cX0_isInSack 0 = .ok (.aload_n 0, 1) := dk_42 (dk_at dksX0_isInSack_0 0 rfl rfl)
theorem dX0_isInSack_1 : decode cX0_isInSack 1 = .ok (.getfield 53, 3) := dk_180 0 53 (dk_at dksX0_isInSack_0 1 rfl rfl)
theorem dX0_isInSack_4 : decode cX0_isInSack 4 = .ok (.iload_n 1, 1) := dk_27 (dk_at dksX0_isInSack_0 4 rfl rfl)
theorem dX0_isInSack_5 : decode cX0_isInSack 5 = .ok (.invokevirtual 202, 3) := dk_182 0 202 (dk_at dksX0_isInSack_0 5 rfl rfl)
theorem dX0_isInSack_8 : decode cX0_isInSack 8 = .ok (.ifCond .ne 19, 3) := dk_154 0 19 (dk_at dksX0_isInSack_0 8 rfl rfl)
theorem dX0_isInSack_11 : decode cX0_isInSack 11 = .ok (.aload_n 0, 1) := dk_42 (dk_at dksX0_isInSack_0 11 rfl rfl)
theorem dX0_isInSack_12 : decode cX0_isInSack 12 = .ok (.getfield 53, 3) := dk_180 0 53 (dk_at dksX0_isInSack_0 12 rfl rfl)
theorem dX0_isInSack_15 : decode cX0_isInSack 15 = .ok (.getfield 199, 3) := dk_180 0 199 (dk_at dksX0_isInSack_0 15 rfl rfl)
theorem dX0_isInSack_18 : decode cX0_isInSack 18 = .ok (.iload_n 1, 1) := dk_27 (dk_at dksX0_isInSack_0 18 rfl rfl)
theorem dX0_isInSack_19 : decode cX0_isInSack 19 = .ok (.iaload, 1) := dk_46 (dk_at dksX0_isInSack_0 19 rfl rfl)
theorem dX0_isInSack_20 : decode cX0_isInSack 20 = .ok (.ifCond .lt 7, 3) := dk_155 0 7 (dk_at dksX0_isInSack_0 20 rfl rfl)
theorem dX0_isInSack_23 : decode cX0_isInSack 23 = .ok (.iconst 1, 1) := dk_4 (dk_at dksX0_isInSack_0 23 rfl rfl)
theorem dX0_isInSack_24 : decode cX0_isInSack 24 = .ok (.goto 4, 3) := dk_167 0 4 (dk_at dksX0_isInSack_1 0 rfl rfl)
theorem dX0_isInSack_27 : decode cX0_isInSack 27 = .ok (.iconst 0, 1) := dk_3 (dk_at dksX0_isInSack_1 3 rfl rfl)
theorem dX0_isInSack_28 : decode cX0_isInSack 28 = .ok (.ireturn, 1) := dk_172 (dk_at dksX0_isInSack_1 4 rfl rfl)
abbrev cX0_after : ByteArray := prog_1_method_53_code
def yX0_after : MethodName := ⟨RX0, "after", "(I)I"⟩
def dkwX0_after_3 : List UInt8 := [167, 255, 217, 2, 172]
abbrev dktX0_after_3 : List UInt8 := dkwX0_after_3 ++ []
def dkwX0_after_2 : List UInt8 := [180, 0, 53, 180, 0, 199, 27, 46, 182, 0, 247, 27, 122, 4, 126, 4, 160, 0, 5, 28, 172, 132, 2, 1]
abbrev dktX0_after_2 : List UInt8 := dkwX0_after_2 ++ dktX0_after_3
def dkwX0_after_1 : List UInt8 := [180, 0, 53, 182, 0, 230, 87, 4, 61, 28, 16, 9, 163, 0, 39, 42, 180, 0, 60, 42, 180, 0, 42, 42]
abbrev dktX0_after_1 : List UInt8 := dkwX0_after_1 ++ dktX0_after_2
def dkwX0_after_0 : List UInt8 := [42, 27, 182, 0, 187, 153, 0, 11, 42, 27, 182, 1, 40, 154, 0, 5, 2, 172, 42, 180, 0, 60, 42]
abbrev dktX0_after_0 : List UInt8 := dkwX0_after_0 ++ dktX0_after_1
theorem dksX0_after_0 : cX0_after.data.toList.drop 0 = dktX0_after_0 := by decide +kernel
theorem dksX0_after_1 : cX0_after.data.toList.drop 23 = dktX0_after_1 := dk_seg dksX0_after_0 23 rfl rfl
theorem dksX0_after_2 : cX0_after.data.toList.drop 47 = dktX0_after_2 := dk_seg dksX0_after_1 24 rfl rfl
theorem dksX0_after_3 : cX0_after.data.toList.drop 71 = dktX0_after_3 := dk_seg dksX0_after_2 24 rfl rfl
theorem dX0_after_0 : decode cX0_after 0 = .ok (.aload_n 0, 1) := dk_42 (dk_at dksX0_after_0 0 rfl rfl)
theorem dX0_after_1 : decode cX0_after 1 = .ok (.iload_n 1, 1) := dk_27 (dk_at dksX0_after_0 1 rfl rfl)
theorem dX0_after_2 : decode cX0_after 2 = .ok (.invokevirtual 187, 3) := dk_182 0 187 (dk_at dksX0_after_0 2 rfl rfl)
theorem dX0_after_5 : decode cX0_after 5 = .ok (.ifCond .eq 11, 3) := dk_153 0 11 (dk_at dksX0_after_0 5 rfl rfl)
theorem dX0_after_8 : decode cX0_after 8 = .ok (.aload_n 0, 1) := dk_42 (dk_at dksX0_after_0 8 rfl rfl)
theorem dX0_after_9 : decode cX0_after 9 = .ok (.iload_n 1, 1) := dk_27 (dk_at dksX0_after_0 9 rfl rfl)
theorem dX0_after_10 : decode cX0_after 10 = .ok (.invokevirtual 296, 3) := dk_182 1 40 (dk_at dksX0_after_0 10 rfl rfl)
theorem dX0_after_13 : decode cX0_after 13 = .ok (.ifCond .ne 5, 3) := dk_154 0 5 (dk_at dksX0_after_0 13 rfl rfl)
theorem dX0_after_16 : decode cX0_after 16 = .ok (.iconst (-1), 1) := dk_2 (dk_at dksX0_after_0 16 rfl rfl)
theorem dX0_after_17 : decode cX0_after 17 = .ok (.ireturn, 1) := dk_172 (dk_at dksX0_after_0 17 rfl rfl)
theorem dX0_after_18 : decode cX0_after 18 = .ok (.aload_n 0, 1) := dk_42 (dk_at dksX0_after_0 18 rfl rfl)
theorem dX0_after_19 : decode cX0_after 19 = .ok (.getfield 60, 3) := dk_180 0 60 (dk_at dksX0_after_0 19 rfl rfl)
theorem dX0_after_22 : decode cX0_after 22 = .ok (.aload_n 0, 1) := dk_42 (dk_at dksX0_after_0 22 rfl rfl)
theorem dX0_after_23 : decode cX0_after 23 = .ok (.getfield 53, 3) := dk_180 0 53 (dk_at dksX0_after_1 0 rfl rfl)
theorem dX0_after_26 : decode cX0_after 26 = .ok (.invokevirtual 230, 3) := dk_182 0 230 (dk_at dksX0_after_1 3 rfl rfl)
theorem dX0_after_29 : decode cX0_after 29 = .ok (.pop, 1) := dk_87 (dk_at dksX0_after_1 6 rfl rfl)
theorem dX0_after_30 : decode cX0_after 30 = .ok (.iconst 1, 1) := dk_4 (dk_at dksX0_after_1 7 rfl rfl)
theorem dX0_after_31 : decode cX0_after 31 = .ok (.istore_n 2, 1) := dk_61 (dk_at dksX0_after_1 8 rfl rfl)
theorem dX0_after_32 : decode cX0_after 32 = .ok (.iload_n 2, 1) := dk_28 (dk_at dksX0_after_1 9 rfl rfl)
theorem dX0_after_33 : decode cX0_after 33 = .ok (.bipush 9, 2) := dk_16 9 (dk_at dksX0_after_1 10 rfl rfl)
theorem dX0_after_35 : decode cX0_after 35 = .ok (.if_icmp .gt 39, 3) := dk_163 0 39 (dk_at dksX0_after_1 12 rfl rfl)
theorem dX0_after_38 : decode cX0_after 38 = .ok (.aload_n 0, 1) := dk_42 (dk_at dksX0_after_1 15 rfl rfl)
theorem dX0_after_39 : decode cX0_after 39 = .ok (.getfield 60, 3) := dk_180 0 60 (dk_at dksX0_after_1 16 rfl rfl)
theorem dX0_after_42 : decode cX0_after 42 = .ok (.aload_n 0, 1) := dk_42 (dk_at dksX0_after_1 19 rfl rfl)
theorem dX0_after_43 : decode cX0_after 43 = .ok (.getfield 42, 3) := dk_180 0 42 (dk_at dksX0_after_1 20 rfl rfl)
theorem dX0_after_46 : decode cX0_after 46 = .ok (.aload_n 0, 1) := dk_42 (dk_at dksX0_after_1 23 rfl rfl)
theorem dX0_after_47 : decode cX0_after 47 = .ok (.getfield 53, 3) := dk_180 0 53 (dk_at dksX0_after_2 0 rfl rfl)
theorem dX0_after_50 : decode cX0_after 50 = .ok (.getfield 199, 3) := dk_180 0 199 (dk_at dksX0_after_2 3 rfl rfl)
theorem dX0_after_53 : decode cX0_after 53 = .ok (.iload_n 1, 1) := dk_27 (dk_at dksX0_after_2 6 rfl rfl)
theorem dX0_after_54 : decode cX0_after 54 = .ok (.iaload, 1) := dk_46 (dk_at dksX0_after_2 7 rfl rfl)
theorem dX0_after_55 : decode cX0_after 55 = .ok (.invokevirtual 247, 3) := dk_182 0 247 (dk_at dksX0_after_2 8 rfl rfl)
theorem dX0_after_58 : decode cX0_after 58 = .ok (.iload_n 1, 1) := dk_27 (dk_at dksX0_after_2 11 rfl rfl)
theorem dX0_after_59 : decode cX0_after 59 = .ok (.ishr, 1) := dk_122 (dk_at dksX0_after_2 12 rfl rfl)
theorem dX0_after_60 : decode cX0_after 60 = .ok (.iconst 1, 1) := dk_4 (dk_at dksX0_after_2 13 rfl rfl)
theorem dX0_after_61 : decode cX0_after 61 = .ok (.iand, 1) := dk_126 (dk_at dksX0_after_2 14 rfl rfl)
theorem dX0_after_62 : decode cX0_after 62 = .ok (.iconst 1, 1) := dk_4 (dk_at dksX0_after_2 15 rfl rfl)
theorem dX0_after_63 : decode cX0_after 63 = .ok (.if_icmp .ne 5, 3) := dk_160 0 5 (dk_at dksX0_after_2 16 rfl rfl)
theorem dX0_after_66 : decode cX0_after 66 = .ok (.iload_n 2, 1) := dk_28 (dk_at dksX0_after_2 19 rfl rfl)
theorem dX0_after_67 : decode cX0_after 67 = .ok (.ireturn, 1) := dk_172 (dk_at dksX0_after_2 20 rfl rfl)
theorem dX0_after_68 : decode cX0_after 68 = .ok (.iinc 2 1, 3) := dk_132 2 1 (dk_at dksX0_after_2 21 rfl rfl)
theorem dX0_after_71 : decode cX0_after 71 = .ok (.goto (-39), 3) := dk_167 255 217 (dk_at dksX0_after_3 0 rfl rfl)
theorem dX0_after_74 : decode cX0_after 74 = .ok (.iconst (-1), 1) := dk_2 (dk_at dksX0_after_3 3 rfl rfl)
theorem dX0_after_75 : decode cX0_after 75 = .ok (.ireturn, 1) := dk_172 (dk_at dksX0_after_3 4 rfl rfl)
abbrev cX0_pairs : ByteArray := prog_1_method_55_code
def yX0_pairs : MethodName := ⟨RX0, "pairs", "()I"⟩
def dkwX0_pairs_2 : List UInt8 := [132, 3, 1, 167, 255, 222, 132, 2, 1, 167, 255, 206, 27, 172]
abbrev dktX0_pairs_2 : List UInt8 := dkwX0_pairs_2 ++ []
def dkwX0_pairs_1 : List UInt8 := [182, 1, 43, 153, 0, 16, 42, 29, 28, 182, 1, 43, 153, 0, 7, 4, 167, 0, 4, 3, 96, 60]
abbrev dktX0_pairs_1 : List UInt8 := dkwX0_pairs_1 ++ dktX0_pairs_2
def dkwX0_pairs_0 : List UInt8 := [3, 60, 3, 61, 28, 42, 182, 0, 151, 162, 0, 48, 3, 62, 29, 28, 162, 0, 35, 27, 42, 28, 29]
abbrev dktX0_pairs_0 : List UInt8 := dkwX0_pairs_0 ++ dktX0_pairs_1
theorem dksX0_pairs_0 : cX0_pairs.data.toList.drop 0 = dktX0_pairs_0 := by decide +kernel
theorem dksX0_pairs_1 : cX0_pairs.data.toList.drop 23 = dktX0_pairs_1 := dk_seg dksX0_pairs_0 23 rfl rfl
theorem dksX0_pairs_2 : cX0_pairs.data.toList.drop 45 = dktX0_pairs_2 := dk_seg dksX0_pairs_1 22 rfl rfl
theorem dX0_pairs_0 : decode cX0_pairs 0 = .ok (.iconst 0, 1) := dk_3 (dk_at dksX0_pairs_0 0 rfl rfl)
theorem dX0_pairs_1 : decode cX0_pairs 1 = .ok (.istore_n 1, 1) := dk_60 (dk_at dksX0_pairs_0 1 rfl rfl)
theorem dX0_pairs_2 : decode cX0_pairs 2 = .ok (.iconst 0, 1) := dk_3 (dk_at dksX0_pairs_0 2 rfl rfl)
theorem dX0_pairs_3 : decode cX0_pairs 3 = .ok (.istore_n 2, 1) := dk_61 (dk_at dksX0_pairs_0 3 rfl rfl)
theorem dX0_pairs_4 : decode cX0_pairs 4 = .ok (.iload_n 2, 1) := dk_28 (dk_at dksX0_pairs_0 4 rfl rfl)
theorem dX0_pairs_5 : decode cX0_pairs 5 = .ok (.aload_n 0, 1) := dk_42 (dk_at dksX0_pairs_0 5 rfl rfl)
theorem dX0_pairs_6 : decode cX0_pairs 6 = .ok (.invokevirtual 151, 3) := dk_182 0 151 (dk_at dksX0_pairs_0 6 rfl rfl)
theorem dX0_pairs_9 : decode cX0_pairs 9 = .ok (.if_icmp .ge 48, 3) := dk_162 0 48 (dk_at dksX0_pairs_0 9 rfl rfl)
theorem dX0_pairs_12 : decode cX0_pairs 12 = .ok (.iconst 0, 1) := dk_3 (dk_at dksX0_pairs_0 12 rfl rfl)
theorem dX0_pairs_13 : decode cX0_pairs 13 = .ok (.istore_n 3, 1) := dk_62 (dk_at dksX0_pairs_0 13 rfl rfl)
theorem dX0_pairs_14 : decode cX0_pairs 14 = .ok (.iload_n 3, 1) := dk_29 (dk_at dksX0_pairs_0 14 rfl rfl)
theorem dX0_pairs_15 : decode cX0_pairs 15 = .ok (.iload_n 2, 1) := dk_28 (dk_at dksX0_pairs_0 15 rfl rfl)
theorem dX0_pairs_16 : decode cX0_pairs 16 = .ok (.if_icmp .ge 35, 3) := dk_162 0 35 (dk_at dksX0_pairs_0 16 rfl rfl)
theorem dX0_pairs_19 : decode cX0_pairs 19 = .ok (.iload_n 1, 1) := dk_27 (dk_at dksX0_pairs_0 19 rfl rfl)
theorem dX0_pairs_20 : decode cX0_pairs 20 = .ok (.aload_n 0, 1) := dk_42 (dk_at dksX0_pairs_0 20 rfl rfl)
theorem dX0_pairs_21 : decode cX0_pairs 21 = .ok (.iload_n 2, 1) := dk_28 (dk_at dksX0_pairs_0 21 rfl rfl)
theorem dX0_pairs_22 : decode cX0_pairs 22 = .ok (.iload_n 3, 1) := dk_29 (dk_at dksX0_pairs_0 22 rfl rfl)
theorem dX0_pairs_23 : decode cX0_pairs 23 = .ok (.invokevirtual 299, 3) := dk_182 1 43 (dk_at dksX0_pairs_1 0 rfl rfl)
theorem dX0_pairs_26 : decode cX0_pairs 26 = .ok (.ifCond .eq 16, 3) := dk_153 0 16 (dk_at dksX0_pairs_1 3 rfl rfl)
theorem dX0_pairs_29 : decode cX0_pairs 29 = .ok (.aload_n 0, 1) := dk_42 (dk_at dksX0_pairs_1 6 rfl rfl)
theorem dX0_pairs_30 : decode cX0_pairs 30 = .ok (.iload_n 3, 1) := dk_29 (dk_at dksX0_pairs_1 7 rfl rfl)
theorem dX0_pairs_31 : decode cX0_pairs 31 = .ok (.iload_n 2, 1) := dk_28 (dk_at dksX0_pairs_1 8 rfl rfl)
theorem dX0_pairs_32 : decode cX0_pairs 32 = .ok (.invokevirtual 299, 3) := dk_182 1 43 (dk_at dksX0_pairs_1 9 rfl rfl)
theorem dX0_pairs_35 : decode cX0_pairs 35 = .ok (.ifCond .eq 7, 3) := dk_153 0 7 (dk_at dksX0_pairs_1 12 rfl rfl)
theorem dX0_pairs_38 : decode cX0_pairs 38 = .ok (.iconst 1, 1) := dk_4 (dk_at dksX0_pairs_1 15 rfl rfl)
theorem dX0_pairs_39 : decode cX0_pairs 39 = .ok (.goto 4, 3) := dk_167 0 4 (dk_at dksX0_pairs_1 16 rfl rfl)
theorem dX0_pairs_42 : decode cX0_pairs 42 = .ok (.iconst 0, 1) := dk_3 (dk_at dksX0_pairs_1 19 rfl rfl)
theorem dX0_pairs_43 : decode cX0_pairs 43 = .ok (.iadd, 1) := dk_96 (dk_at dksX0_pairs_1 20 rfl rfl)
theorem dX0_pairs_44 : decode cX0_pairs 44 = .ok (.istore_n 1, 1) := dk_60 (dk_at dksX0_pairs_1 21 rfl rfl)
theorem dX0_pairs_45 : decode cX0_pairs 45 = .ok (.iinc 3 1, 3) := dk_132 3 1 (dk_at dksX0_pairs_2 0 rfl rfl)
theorem dX0_pairs_48 : decode cX0_pairs 48 = .ok (.goto (-34), 3) := dk_167 255 222 (dk_at dksX0_pairs_2 3 rfl rfl)
theorem dX0_pairs_51 : decode cX0_pairs 51 = .ok (.iinc 2 1, 3) := dk_132 2 1 (dk_at dksX0_pairs_2 6 rfl rfl)
theorem dX0_pairs_54 : decode cX0_pairs 54 = .ok (.goto (-50), 3) := dk_167 255 206 (dk_at dksX0_pairs_2 9 rfl rfl)
theorem dX0_pairs_57 : decode cX0_pairs 57 = .ok (.iload_n 1, 1) := dk_27 (dk_at dksX0_pairs_2 12 rfl rfl)
theorem dX0_pairs_58 : decode cX0_pairs 58 = .ok (.ireturn, 1) := dk_172 (dk_at dksX0_pairs_2 13 rfl rfl)
abbrev cX0_hasTold : ByteArray := prog_1_method_54_code
def yX0_hasTold : MethodName := ⟨RX0, "hasTold", "(II)Z"⟩
def dkwX0_hasTold_1 : List UInt8 := [126, 153, 0, 7, 4, 167, 0, 4, 3, 172]
abbrev dktX0_hasTold_1 : List UInt8 := dkwX0_hasTold_1 ++ []
def dkwX0_hasTold_0 : List UInt8 := [42, 180, 0, 42, 27, 182, 0, 177, 42, 180, 0, 42, 28, 182, 0, 184, 126, 42, 180, 0, 53, 180, 0, 162]
abbrev dktX0_hasTold_0 : List UInt8 := dkwX0_hasTold_0 ++ dktX0_hasTold_1
theorem dksX0_hasTold_0 : cX0_hasTold.data.toList.drop 0 = dktX0_hasTold_0 := by decide +kernel
theorem dksX0_hasTold_1 : cX0_hasTold.data.toList.drop 24 = dktX0_hasTold_1 := dk_seg dksX0_hasTold_0 24 rfl rfl
theorem dX0_hasTold_0 : decode cX0_hasTold 0 = .ok (.aload_n 0, 1) := dk_42 (dk_at dksX0_hasTold_0 0 rfl rfl)
theorem dX0_hasTold_1 : decode cX0_hasTold 1 = .ok (.getfield 42, 3) := dk_180 0 42 (dk_at dksX0_hasTold_0 1 rfl rfl)
theorem dX0_hasTold_4 : decode cX0_hasTold 4 = .ok (.iload_n 1, 1) := dk_27 (dk_at dksX0_hasTold_0 4 rfl rfl)
theorem dX0_hasTold_5 : decode cX0_hasTold 5 = .ok (.invokevirtual 177, 3) := dk_182 0 177 (dk_at dksX0_hasTold_0 5 rfl rfl)
theorem dX0_hasTold_8 : decode cX0_hasTold 8 = .ok (.aload_n 0, 1) := dk_42 (dk_at dksX0_hasTold_0 8 rfl rfl)
theorem dX0_hasTold_9 : decode cX0_hasTold 9 = .ok (.getfield 42, 3) := dk_180 0 42 (dk_at dksX0_hasTold_0 9 rfl rfl)
theorem dX0_hasTold_12 : decode cX0_hasTold 12 = .ok (.iload_n 2, 1) := dk_28 (dk_at dksX0_hasTold_0 12 rfl rfl)
theorem dX0_hasTold_13 : decode cX0_hasTold 13 = .ok (.invokevirtual 184, 3) := dk_182 0 184 (dk_at dksX0_hasTold_0 13 rfl rfl)
theorem dX0_hasTold_16 : decode cX0_hasTold 16 = .ok (.iand, 1) := dk_126 (dk_at dksX0_hasTold_0 16 rfl rfl)
theorem dX0_hasTold_17 : decode cX0_hasTold 17 = .ok (.aload_n 0, 1) := dk_42 (dk_at dksX0_hasTold_0 17 rfl rfl)
theorem dX0_hasTold_18 : decode cX0_hasTold 18 = .ok (.getfield 53, 3) := dk_180 0 53 (dk_at dksX0_hasTold_0 18 rfl rfl)
theorem dX0_hasTold_21 : decode cX0_hasTold 21 = .ok (.getfield 162, 3) := dk_180 0 162 (dk_at dksX0_hasTold_0 21 rfl rfl)
theorem dX0_hasTold_24 : decode cX0_hasTold 24 = .ok (.iand, 1) := dk_126 (dk_at dksX0_hasTold_1 0 rfl rfl)
theorem dX0_hasTold_25 : decode cX0_hasTold 25 = .ok (.ifCond .eq 7, 3) := dk_153 0 7 (dk_at dksX0_hasTold_1 1 rfl rfl)
theorem dX0_hasTold_28 : decode cX0_hasTold 28 = .ok (.iconst 1, 1) := dk_4 (dk_at dksX0_hasTold_1 4 rfl rfl)
theorem dX0_hasTold_29 : decode cX0_hasTold 29 = .ok (.goto 4, 3) := dk_167 0 4 (dk_at dksX0_hasTold_1 5 rfl rfl)
theorem dX0_hasTold_32 : decode cX0_hasTold 32 = .ok (.iconst 0, 1) := dk_3 (dk_at dksX0_hasTold_1 8 rfl rfl)
theorem dX0_hasTold_33 : decode cX0_hasTold 33 = .ok (.ireturn, 1) := dk_172 (dk_at dksX0_hasTold_1 9 rfl rfl)
abbrev cX0_rumour : ByteArray := prog_1_method_56_code
def yX0_rumour : MethodName := ⟨RX0, "rumour", "(II)I"⟩
def dkwX0_rumour_5 : List UInt8 := [2, 172]
abbrev dktX0_rumour_5 : List UInt8 := dkwX0_rumour_5 ++ []
def dkwX0_rumour_4 : List UInt8 := [21, 6, 182, 0, 193, 120, 128, 54, 5, 132, 6, 1, 167, 255, 199, 21, 5, 62, 132, 4, 1, 167, 255, 165]
abbrev dktX0_rumour_4 : List UInt8 := dkwX0_rumour_4 ++ dktX0_rumour_5
def dkwX0_rumour_3 : List UInt8 := [29, 42, 180, 0, 42, 21, 6, 182, 0, 190, 122, 4, 126, 4, 160, 0, 19, 21, 5, 4, 42, 180, 0, 42]
abbrev dktX0_rumour_3 : List UInt8 := dkwX0_rumour_3 ++ dktX0_rumour_4
def dkwX0_rumour_2 : List UInt8 := [3, 54, 6, 21, 6, 42, 182, 0, 140, 162, 0, 54, 42, 180, 0, 53, 21, 6, 182, 0, 202, 153, 0, 36]
abbrev dktX0_rumour_2 : List UInt8 := dkwX0_rumour_2 ++ dktX0_rumour_3
def dkwX0_rumour_1 : List UInt8 := [54, 4, 21, 4, 16, 6, 163, 0, 90, 29, 28, 122, 4, 126, 4, 160, 0, 6, 21, 4, 172, 29, 54, 5]
abbrev dktX0_rumour_1 : List UInt8 := dkwX0_rumour_1 ++ dktX0_rumour_2
def dkwX0_rumour_0 : List UInt8 := [42, 27, 182, 0, 165, 153, 0, 11, 42, 28, 182, 0, 165, 154, 0, 5, 2, 172, 4, 27, 120, 62, 3]
abbrev dktX0_rumour_0 : List UInt8 := dkwX0_rumour_0 ++ dktX0_rumour_1
theorem dksX0_rumour_0 : cX0_rumour.data.toList.drop 0 = dktX0_rumour_0 := by decide +kernel
theorem dksX0_rumour_1 : cX0_rumour.data.toList.drop 23 = dktX0_rumour_1 := dk_seg dksX0_rumour_0 23 rfl rfl
theorem dksX0_rumour_2 : cX0_rumour.data.toList.drop 47 = dktX0_rumour_2 := dk_seg dksX0_rumour_1 24 rfl rfl
theorem dksX0_rumour_3 : cX0_rumour.data.toList.drop 71 = dktX0_rumour_3 := dk_seg dksX0_rumour_2 24 rfl rfl
theorem dksX0_rumour_4 : cX0_rumour.data.toList.drop 95 = dktX0_rumour_4 := dk_seg dksX0_rumour_3 24 rfl rfl
theorem dksX0_rumour_5 : cX0_rumour.data.toList.drop 119 = dktX0_rumour_5 := dk_seg dksX0_rumour_4 24 rfl rfl
theorem dX0_rumour_0 : decode cX0_rumour 0 = .ok (.aload_n 0, 1) := dk_42 (dk_at dksX0_rumour_0 0 rfl rfl)
theorem dX0_rumour_1 : decode cX0_rumour 1 = .ok (.iload_n 1, 1) := dk_27 (dk_at dksX0_rumour_0 1 rfl rfl)
theorem dX0_rumour_2 : decode cX0_rumour 2 = .ok (.invokevirtual 165, 3) := dk_182 0 165 (dk_at dksX0_rumour_0 2 rfl rfl)
theorem dX0_rumour_5 : decode cX0_rumour 5 = .ok (.ifCond .eq 11, 3) := dk_153 0 11 (dk_at dksX0_rumour_0 5 rfl rfl)
theorem dX0_rumour_8 : decode cX0_rumour 8 = .ok (.aload_n 0, 1) := dk_42 (dk_at dksX0_rumour_0 8 rfl rfl)
theorem dX0_rumour_9 : decode cX0_rumour 9 = .ok (.iload_n 2, 1) := dk_28 (dk_at dksX0_rumour_0 9 rfl rfl)
theorem dX0_rumour_10 : decode cX0_rumour 10 = .ok (.invokevirtual 165, 3) := dk_182 0 165 (dk_at dksX0_rumour_0 10 rfl rfl)
theorem dX0_rumour_13 : decode cX0_rumour 13 = .ok (.ifCond .ne 5, 3) := dk_154 0 5 (dk_at dksX0_rumour_0 13 rfl rfl)
theorem dX0_rumour_16 : decode cX0_rumour 16 = .ok (.iconst (-1), 1) := dk_2 (dk_at dksX0_rumour_0 16 rfl rfl)
theorem dX0_rumour_17 : decode cX0_rumour 17 = .ok (.ireturn, 1) := dk_172 (dk_at dksX0_rumour_0 17 rfl rfl)
theorem dX0_rumour_18 : decode cX0_rumour 18 = .ok (.iconst 1, 1) := dk_4 (dk_at dksX0_rumour_0 18 rfl rfl)
theorem dX0_rumour_19 : decode cX0_rumour 19 = .ok (.iload_n 1, 1) := dk_27 (dk_at dksX0_rumour_0 19 rfl rfl)
theorem dX0_rumour_20 : decode cX0_rumour 20 = .ok (.ishl, 1) := dk_120 (dk_at dksX0_rumour_0 20 rfl rfl)
theorem dX0_rumour_21 : decode cX0_rumour 21 = .ok (.istore_n 3, 1) := dk_62 (dk_at dksX0_rumour_0 21 rfl rfl)
theorem dX0_rumour_22 : decode cX0_rumour 22 = .ok (.iconst 0, 1) := dk_3 (dk_at dksX0_rumour_0 22 rfl rfl)
theorem dX0_rumour_23 : decode cX0_rumour 23 = .ok (.istore 4, 2) := dk_54 4 (dk_at dksX0_rumour_1 0 rfl rfl)
theorem dX0_rumour_25 : decode cX0_rumour 25 = .ok (.iload 4, 2) := dk_21 4 (dk_at dksX0_rumour_1 2 rfl rfl)
theorem dX0_rumour_27 : decode cX0_rumour 27 = .ok (.bipush 6, 2) := dk_16 6 (dk_at dksX0_rumour_1 4 rfl rfl)
theorem dX0_rumour_29 : decode cX0_rumour 29 = .ok (.if_icmp .gt 90, 3) := dk_163 0 90 (dk_at dksX0_rumour_1 6 rfl rfl)
theorem dX0_rumour_32 : decode cX0_rumour 32 = .ok (.iload_n 3, 1) := dk_29 (dk_at dksX0_rumour_1 9 rfl rfl)
theorem dX0_rumour_33 : decode cX0_rumour 33 = .ok (.iload_n 2, 1) := dk_28 (dk_at dksX0_rumour_1 10 rfl rfl)
theorem dX0_rumour_34 : decode cX0_rumour 34 = .ok (.ishr, 1) := dk_122 (dk_at dksX0_rumour_1 11 rfl rfl)
theorem dX0_rumour_35 : decode cX0_rumour 35 = .ok (.iconst 1, 1) := dk_4 (dk_at dksX0_rumour_1 12 rfl rfl)
theorem dX0_rumour_36 : decode cX0_rumour 36 = .ok (.iand, 1) := dk_126 (dk_at dksX0_rumour_1 13 rfl rfl)
theorem dX0_rumour_37 : decode cX0_rumour 37 = .ok (.iconst 1, 1) := dk_4 (dk_at dksX0_rumour_1 14 rfl rfl)
theorem dX0_rumour_38 : decode cX0_rumour 38 = .ok (.if_icmp .ne 6, 3) := dk_160 0 6 (dk_at dksX0_rumour_1 15 rfl rfl)
theorem dX0_rumour_41 : decode cX0_rumour 41 = .ok (.iload 4, 2) := dk_21 4 (dk_at dksX0_rumour_1 18 rfl rfl)
theorem dX0_rumour_43 : decode cX0_rumour 43 = .ok (.ireturn, 1) := dk_172 (dk_at dksX0_rumour_1 20 rfl rfl)
theorem dX0_rumour_44 : decode cX0_rumour 44 = .ok (.iload_n 3, 1) := dk_29 (dk_at dksX0_rumour_1 21 rfl rfl)
theorem dX0_rumour_45 : decode cX0_rumour 45 = .ok (.istore 5, 2) := dk_54 5 (dk_at dksX0_rumour_1 22 rfl rfl)
theorem dX0_rumour_47 : decode cX0_rumour 47 = .ok (.iconst 0, 1) := dk_3 (dk_at dksX0_rumour_2 0 rfl rfl)
theorem dX0_rumour_48 : decode cX0_rumour 48 = .ok (.istore 6, 2) := dk_54 6 (dk_at dksX0_rumour_2 1 rfl rfl)
theorem dX0_rumour_50 : decode cX0_rumour 50 = .ok (.iload 6, 2) := dk_21 6 (dk_at dksX0_rumour_2 3 rfl rfl)
theorem dX0_rumour_52 : decode cX0_rumour 52 = .ok (.aload_n 0, 1) := dk_42 (dk_at dksX0_rumour_2 5 rfl rfl)
theorem dX0_rumour_53 : decode cX0_rumour 53 = .ok (.invokevirtual 140, 3) := dk_182 0 140 (dk_at dksX0_rumour_2 6 rfl rfl)
theorem dX0_rumour_56 : decode cX0_rumour 56 = .ok (.if_icmp .ge 54, 3) := dk_162 0 54 (dk_at dksX0_rumour_2 9 rfl rfl)
theorem dX0_rumour_59 : decode cX0_rumour 59 = .ok (.aload_n 0, 1) := dk_42 (dk_at dksX0_rumour_2 12 rfl rfl)
theorem dX0_rumour_60 : decode cX0_rumour 60 = .ok (.getfield 53, 3) := dk_180 0 53 (dk_at dksX0_rumour_2 13 rfl rfl)
theorem dX0_rumour_63 : decode cX0_rumour 63 = .ok (.iload 6, 2) := dk_21 6 (dk_at dksX0_rumour_2 16 rfl rfl)
theorem dX0_rumour_65 : decode cX0_rumour 65 = .ok (.invokevirtual 202, 3) := dk_182 0 202 (dk_at dksX0_rumour_2 18 rfl rfl)
theorem dX0_rumour_68 : decode cX0_rumour 68 = .ok (.ifCond .eq 36, 3) := dk_153 0 36 (dk_at dksX0_rumour_2 21 rfl rfl)
theorem dX0_rumour_71 : decode cX0_rumour 71 = .ok (.iload_n 3, 1) := dk_29 (dk_at dksX0_rumour_3 0 rfl rfl)
theorem dX0_rumour_72 : decode cX0_rumour 72 = .ok (.aload_n 0, 1) := dk_42 (dk_at dksX0_rumour_3 1 rfl rfl)
theorem dX0_rumour_73 : decode cX0_rumour 73 = .ok (.getfield 42, 3) := dk_180 0 42 (dk_at dksX0_rumour_3 2 rfl rfl)
theorem dX0_rumour_76 : decode cX0_rumour 76 = .ok (.iload 6, 2) := dk_21 6 (dk_at dksX0_rumour_3 5 rfl rfl)
theorem dX0_rumour_78 : decode cX0_rumour 78 = .ok (.invokevirtual 190, 3) := dk_182 0 190 (dk_at dksX0_rumour_3 7 rfl rfl)
theorem dX0_rumour_81 : decode cX0_rumour 81 = .ok (.ishr, 1) := dk_122 (dk_at dksX0_rumour_3 10 rfl rfl)
theorem dX0_rumour_82 : decode cX0_rumour 82 = .ok (.iconst 1, 1) := dk_4 (dk_at dksX0_rumour_3 11 rfl rfl)
theorem dX0_rumour_83 : decode cX0_rumour 83 = .ok (.iand, 1) := dk_126 (dk_at dksX0_rumour_3 12 rfl rfl)
theorem dX0_rumour_84 : decode cX0_rumour 84 = .ok (.iconst 1, 1) := dk_4 (dk_at dksX0_rumour_3 13 rfl rfl)
theorem dX0_rumour_85 : decode cX0_rumour 85 = .ok (.if_icmp .ne 19, 3) := dk_160 0 19 (dk_at dksX0_rumour_3 14 rfl rfl)
theorem dX0_rumour_88 : decode cX0_rumour 88 = .ok (.iload 5, 2) := dk_21 5 (dk_at dksX0_rumour_3 17 rfl rfl)
theorem dX0_rumour_90 : decode cX0_rumour 90 = .ok (.iconst 1, 1) := dk_4 (dk_at dksX0_rumour_3 19 rfl rfl)
theorem dX0_rumour_91 : decode cX0_rumour 91 = .ok (.aload_n 0, 1) := dk_42 (dk_at dksX0_rumour_3 20 rfl rfl)
theorem dX0_rumour_92 : decode cX0_rumour 92 = .ok (.getfield 42, 3) := dk_180 0 42 (dk_at dksX0_rumour_3 21 rfl rfl)
theorem dX0_rumour_95 : decode cX0_rumour 95 = .ok (.iload 6, 2) := dk_21 6 (dk_at dksX0_rumour_4 0 rfl rfl)
theorem dX0_rumour_97 : decode cX0_rumour 97 = .ok (.invokevirtual 193, 3) := dk_182 0 193 (dk_at dksX0_rumour_4 2 rfl rfl)
theorem dX0_rumour_100 : decode cX0_rumour 100 = .ok (.ishl, 1) := dk_120 (dk_at dksX0_rumour_4 5 rfl rfl)
theorem dX0_rumour_101 : decode cX0_rumour 101 = .ok (.ior, 1) := dk_128 (dk_at dksX0_rumour_4 6 rfl rfl)
theorem dX0_rumour_102 : decode cX0_rumour 102 = .ok (.istore 5, 2) := dk_54 5 (dk_at dksX0_rumour_4 7 rfl rfl)
theorem dX0_rumour_104 : decode cX0_rumour 104 = .ok (.iinc 6 1, 3) := dk_132 6 1 (dk_at dksX0_rumour_4 9 rfl rfl)
theorem dX0_rumour_107 : decode cX0_rumour 107 = .ok (.goto (-57), 3) := dk_167 255 199 (dk_at dksX0_rumour_4 12 rfl rfl)
theorem dX0_rumour_110 : decode cX0_rumour 110 = .ok (.iload 5, 2) := dk_21 5 (dk_at dksX0_rumour_4 15 rfl rfl)
theorem dX0_rumour_112 : decode cX0_rumour 112 = .ok (.istore_n 3, 1) := dk_62 (dk_at dksX0_rumour_4 17 rfl rfl)
theorem dX0_rumour_113 : decode cX0_rumour 113 = .ok (.iinc 4 1, 3) := dk_132 4 1 (dk_at dksX0_rumour_4 18 rfl rfl)
theorem dX0_rumour_116 : decode cX0_rumour 116 = .ok (.goto (-91), 3) := dk_167 255 165 (dk_at dksX0_rumour_4 21 rfl rfl)
theorem dX0_rumour_119 : decode cX0_rumour 119 = .ok (.iconst (-1), 1) := dk_2 (dk_at dksX0_rumour_5 0 rfl rfl)
theorem dX0_rumour_120 : decode cX0_rumour 120 = .ok (.ireturn, 1) := dk_172 (dk_at dksX0_rumour_5 1 rfl rfl)
abbrev cX0_keeps : ByteArray := prog_1_method_57_code
def yX0_keeps : MethodName := ⟨RX0, "keeps", "(II)I"⟩
def dkwX0_keeps_2 : List UInt8 := [2, 172]
abbrev dktX0_keeps_2 : List UInt8 := dkwX0_keeps_2 ++ []
def dkwX0_keeps_1 : List UInt8 := [27, 182, 0, 177, 42, 180, 0, 42, 28, 182, 0, 184, 126, 42, 182, 0, 181, 126, 182, 0, 209, 167, 0, 4]
abbrev dktX0_keeps_1 : List UInt8 := dkwX0_keeps_1 ++ dktX0_keeps_2
def dkwX0_keeps_0 : List UInt8 := [42, 27, 182, 0, 165, 153, 0, 43, 42, 28, 182, 0, 165, 153, 0, 35, 42, 180, 0, 42, 42, 180, 0, 42]
abbrev dktX0_keeps_0 : List UInt8 := dkwX0_keeps_0 ++ dktX0_keeps_1
theorem dksX0_keeps_0 : cX0_keeps.data.toList.drop 0 = dktX0_keeps_0 := by decide +kernel
theorem dksX0_keeps_1 : cX0_keeps.data.toList.drop 24 = dktX0_keeps_1 := dk_seg dksX0_keeps_0 24 rfl rfl
theorem dksX0_keeps_2 : cX0_keeps.data.toList.drop 48 = dktX0_keeps_2 := dk_seg dksX0_keeps_1 24 rfl rfl
theorem dX0_keeps_0 : decode cX0_keeps 0 = .ok (.aload_n 0, 1) := dk_42 (dk_at dksX0_keeps_0 0 rfl rfl)
theorem dX0_keeps_1 : decode cX0_keeps 1 = .ok (.iload_n 1, 1) := dk_27 (dk_at dksX0_keeps_0 1 rfl rfl)
theorem dX0_keeps_2 : decode cX0_keeps 2 = .ok (.invokevirtual 165, 3) := dk_182 0 165 (dk_at dksX0_keeps_0 2 rfl rfl)
theorem dX0_keeps_5 : decode cX0_keeps 5 = .ok (.ifCond .eq 43, 3) := dk_153 0 43 (dk_at dksX0_keeps_0 5 rfl rfl)
theorem dX0_keeps_8 : decode cX0_keeps 8 = .ok (.aload_n 0, 1) := dk_42 (dk_at dksX0_keeps_0 8 rfl rfl)
theorem dX0_keeps_9 : decode cX0_keeps 9 = .ok (.iload_n 2, 1) := dk_28 (dk_at dksX0_keeps_0 9 rfl rfl)
theorem dX0_keeps_10 : decode cX0_keeps 10 = .ok (.invokevirtual 165, 3) := dk_182 0 165 (dk_at dksX0_keeps_0 10 rfl rfl)
theorem dX0_keeps_13 : decode cX0_keeps 13 = .ok (.ifCond .eq 35, 3) := dk_153 0 35 (dk_at dksX0_keeps_0 13 rfl rfl)
theorem dX0_keeps_16 : decode cX0_keeps 16 = .ok (.aload_n 0, 1) := dk_42 (dk_at dksX0_keeps_0 16 rfl rfl)
theorem dX0_keeps_17 : decode cX0_keeps 17 = .ok (.getfield 42, 3) := dk_180 0 42 (dk_at dksX0_keeps_0 17 rfl rfl)
theorem dX0_keeps_20 : decode cX0_keeps 20 = .ok (.aload_n 0, 1) := dk_42 (dk_at dksX0_keeps_0 20 rfl rfl)
theorem dX0_keeps_21 : decode cX0_keeps 21 = .ok (.getfield 42, 3) := dk_180 0 42 (dk_at dksX0_keeps_0 21 rfl rfl)
theorem dX0_keeps_24 : decode cX0_keeps 24 = .ok (.iload_n 1, 1) := dk_27 (dk_at dksX0_keeps_1 0 rfl rfl)
theorem dX0_keeps_25 : decode cX0_keeps 25 = .ok (.invokevirtual 177, 3) := dk_182 0 177 (dk_at dksX0_keeps_1 1 rfl rfl)
theorem dX0_keeps_28 : decode cX0_keeps 28 = .ok (.aload_n 0, 1) := dk_42 (dk_at dksX0_keeps_1 4 rfl rfl)
theorem dX0_keeps_29 : decode cX0_keeps 29 = .ok (.getfield 42, 3) := dk_180 0 42 (dk_at dksX0_keeps_1 5 rfl rfl)
theorem dX0_keeps_32 : decode cX0_keeps 32 = .ok (.iload_n 2, 1) := dk_28 (dk_at dksX0_keeps_1 8 rfl rfl)
theorem dX0_keeps_33 : decode cX0_keeps 33 = .ok (.invokevirtual 184, 3) := dk_182 0 184 (dk_at dksX0_keeps_1 9 rfl rfl)
theorem dX0_keeps_36 : decode cX0_keeps 36 = .ok (.iand, 1) := dk_126 (dk_at dksX0_keeps_1 12 rfl rfl)
theorem dX0_keeps_37 : decode cX0_keeps 37 = .ok (.aload_n 0, 1) := dk_42 (dk_at dksX0_keeps_1 13 rfl rfl)
theorem dX0_keeps_38 : decode cX0_keeps 38 = .ok (.invokevirtual 181, 3) := dk_182 0 181 (dk_at dksX0_keeps_1 14 rfl rfl)
theorem dX0_keeps_41 : decode cX0_keeps 41 = .ok (.iand, 1) := dk_126 (dk_at dksX0_keeps_1 17 rfl rfl)
theorem dX0_keeps_42 : decode cX0_keeps 42 = .ok (.invokevirtual 209, 3) := dk_182 0 209 (dk_at dksX0_keeps_1 18 rfl rfl)
theorem dX0_keeps_45 : decode cX0_keeps 45 = .ok (.goto 4, 3) := dk_167 0 4 (dk_at dksX0_keeps_1 21 rfl rfl)
theorem dX0_keeps_48 : decode cX0_keeps 48 = .ok (.iconst (-1), 1) := dk_2 (dk_at dksX0_keeps_2 0 rfl rfl)
theorem dX0_keeps_49 : decode cX0_keeps 49 = .ok (.ireturn, 1) := dk_172 (dk_at dksX0_keeps_2 1 rfl rfl)
abbrev cX0_dupe : ByteArray := prog_1_method_59_code
def yX0_dupe : MethodName := ⟨RX0, "dupe", "()I"⟩
def dkwX0_dupe_1 : List UInt8 := [182, 1, 46, 164, 0, 7, 28, 167, 0, 4, 27, 60, 132, 2, 1, 167, 255, 222, 27, 172]
abbrev dktX0_dupe_1 : List UInt8 := dkwX0_dupe_1 ++ []
def dkwX0_dupe_0 : List UInt8 := [2, 60, 3, 61, 28, 42, 182, 0, 151, 162, 0, 32, 27, 155, 0, 16, 42, 28, 182, 1, 46, 42, 27]
abbrev dktX0_dupe_0 : List UInt8 := dkwX0_dupe_0 ++ dktX0_dupe_1
theorem dksX0_dupe_0 : cX0_dupe.data.toList.drop 0 = dktX0_dupe_0 := by decide +kernel
theorem dksX0_dupe_1 : cX0_dupe.data.toList.drop 23 = dktX0_dupe_1 := dk_seg dksX0_dupe_0 23 rfl rfl
theorem dX0_dupe_0 : decode cX0_dupe 0 = .ok (.iconst (-1), 1) := dk_2 (dk_at dksX0_dupe_0 0 rfl rfl)
theorem dX0_dupe_1 : decode cX0_dupe 1 = .ok (.istore_n 1, 1) := dk_60 (dk_at dksX0_dupe_0 1 rfl rfl)
theorem dX0_dupe_2 : decode cX0_dupe 2 = .ok (.iconst 0, 1) := dk_3 (dk_at dksX0_dupe_0 2 rfl rfl)
theorem dX0_dupe_3 : decode cX0_dupe 3 = .ok (.istore_n 2, 1) := dk_61 (dk_at dksX0_dupe_0 3 rfl rfl)
theorem dX0_dupe_4 : decode cX0_dupe 4 = .ok (.iload_n 2, 1) := dk_28 (dk_at dksX0_dupe_0 4 rfl rfl)
theorem dX0_dupe_5 : decode cX0_dupe 5 = .ok (.aload_n 0, 1) := dk_42 (dk_at dksX0_dupe_0 5 rfl rfl)
theorem dX0_dupe_6 : decode cX0_dupe 6 = .ok (.invokevirtual 151, 3) := dk_182 0 151 (dk_at dksX0_dupe_0 6 rfl rfl)
theorem dX0_dupe_9 : decode cX0_dupe 9 = .ok (.if_icmp .ge 32, 3) := dk_162 0 32 (dk_at dksX0_dupe_0 9 rfl rfl)
theorem dX0_dupe_12 : decode cX0_dupe 12 = .ok (.iload_n 1, 1) := dk_27 (dk_at dksX0_dupe_0 12 rfl rfl)
theorem dX0_dupe_13 : decode cX0_dupe 13 = .ok (.ifCond .lt 16, 3) := dk_155 0 16 (dk_at dksX0_dupe_0 13 rfl rfl)
theorem dX0_dupe_16 : decode cX0_dupe 16 = .ok (.aload_n 0, 1) := dk_42 (dk_at dksX0_dupe_0 16 rfl rfl)
theorem dX0_dupe_17 : decode cX0_dupe 17 = .ok (.iload_n 2, 1) := dk_28 (dk_at dksX0_dupe_0 17 rfl rfl)
theorem dX0_dupe_18 : decode cX0_dupe 18 = .ok (.invokevirtual 302, 3) := dk_182 1 46 (dk_at dksX0_dupe_0 18 rfl rfl)
theorem dX0_dupe_21 : decode cX0_dupe 21 = .ok (.aload_n 0, 1) := dk_42 (dk_at dksX0_dupe_0 21 rfl rfl)
theorem dX0_dupe_22 : decode cX0_dupe 22 = .ok (.iload_n 1, 1) := dk_27 (dk_at dksX0_dupe_0 22 rfl rfl)
theorem dX0_dupe_23 : decode cX0_dupe 23 = .ok (.invokevirtual 302, 3) := dk_182 1 46 (dk_at dksX0_dupe_1 0 rfl rfl)
theorem dX0_dupe_26 : decode cX0_dupe 26 = .ok (.if_icmp .le 7, 3) := dk_164 0 7 (dk_at dksX0_dupe_1 3 rfl rfl)
theorem dX0_dupe_29 : decode cX0_dupe 29 = .ok (.iload_n 2, 1) := dk_28 (dk_at dksX0_dupe_1 6 rfl rfl)
theorem dX0_dupe_30 : decode cX0_dupe 30 = .ok (.goto 4, 3) := dk_167 0 4 (dk_at dksX0_dupe_1 7 rfl rfl)
theorem dX0_dupe_33 : decode cX0_dupe 33 = .ok (.iload_n 1, 1) := dk_27 (dk_at dksX0_dupe_1 10 rfl rfl)
theorem dX0_dupe_34 : decode cX0_dupe 34 = .ok (.istore_n 1, 1) := dk_60 (dk_at dksX0_dupe_1 11 rfl rfl)
theorem dX0_dupe_35 : decode cX0_dupe 35 = .ok (.iinc 2 1, 3) := dk_132 2 1 (dk_at dksX0_dupe_1 12 rfl rfl)
theorem dX0_dupe_38 : decode cX0_dupe 38 = .ok (.goto (-34), 3) := dk_167 255 222 (dk_at dksX0_dupe_1 15 rfl rfl)
theorem dX0_dupe_41 : decode cX0_dupe 41 = .ok (.iload_n 1, 1) := dk_27 (dk_at dksX0_dupe_1 18 rfl rfl)
theorem dX0_dupe_42 : decode cX0_dupe 42 = .ok (.ireturn, 1) := dk_172 (dk_at dksX0_dupe_1 19 rfl rfl)
abbrev cX0_keptTo : ByteArray := prog_1_method_58_code
def yX0_keptTo : MethodName := ⟨RX0, "keptTo", "(I)I"⟩
def dkwX0_keptTo_0 : List UInt8 := [42, 180, 0, 42, 42, 180, 0, 42, 27, 182, 0, 184, 42, 182, 0, 181, 126, 182, 0, 209, 172]
abbrev dktX0_keptTo_0 : List UInt8 := dkwX0_keptTo_0 ++ []
theorem dksX0_keptTo_0 : cX0_keptTo.data.toList.drop 0 = dktX0_keptTo_0 := by decide +kernel
theorem dX0_keptTo_0 : decode cX0_keptTo 0 = .ok (.aload_n 0, 1) := dk_42 (dk_at dksX0_keptTo_0 0 rfl rfl)
theorem dX0_keptTo_1 : decode cX0_keptTo 1 = .ok (.getfield 42, 3) := dk_180 0 42 (dk_at dksX0_keptTo_0 1 rfl rfl)
theorem dX0_keptTo_4 : decode cX0_keptTo 4 = .ok (.aload_n 0, 1) := dk_42 (dk_at dksX0_keptTo_0 4 rfl rfl)
theorem dX0_keptTo_5 : decode cX0_keptTo 5 = .ok (.getfield 42, 3) := dk_180 0 42 (dk_at dksX0_keptTo_0 5 rfl rfl)
theorem dX0_keptTo_8 : decode cX0_keptTo 8 = .ok (.iload_n 1, 1) := dk_27 (dk_at dksX0_keptTo_0 8 rfl rfl)
theorem dX0_keptTo_9 : decode cX0_keptTo 9 = .ok (.invokevirtual 184, 3) := dk_182 0 184 (dk_at dksX0_keptTo_0 9 rfl rfl)
theorem dX0_keptTo_12 : decode cX0_keptTo 12 = .ok (.aload_n 0, 1) := dk_42 (dk_at dksX0_keptTo_0 12 rfl rfl)
theorem dX0_keptTo_13 : decode cX0_keptTo 13 = .ok (.invokevirtual 181, 3) := dk_182 0 181 (dk_at dksX0_keptTo_0 13 rfl rfl)
theorem dX0_keptTo_16 : decode cX0_keptTo 16 = .ok (.iand, 1) := dk_126 (dk_at dksX0_keptTo_0 16 rfl rfl)
theorem dX0_keptTo_17 : decode cX0_keptTo 17 = .ok (.invokevirtual 209, 3) := dk_182 0 209 (dk_at dksX0_keptTo_0 17 rfl rfl)
theorem dX0_keptTo_20 : decode cX0_keptTo 20 = .ok (.ireturn, 1) := dk_172 (dk_at dksX0_keptTo_0 20 rfl rfl)
abbrev cX0_gain : ByteArray := prog_1_method_60_code
def yX0_gain : MethodName := ⟨RX0, "gain", "(I)I"⟩
def dkwX0_gain_2 : List UInt8 := [42, 180, 0, 42, 27, 182, 0, 184, 126, 182, 0, 209, 167, 0, 4, 2, 172]
abbrev dktX0_gain_2 : List UInt8 := dkwX0_gain_2 ++ []
def dkwX0_gain_1 : List UInt8 := [180, 0, 53, 180, 0, 237, 4, 27, 120, 128, 182, 1, 9, 42, 180, 0, 42, 42, 182, 1, 24, 182, 1, 33]
abbrev dktX0_gain_1 : List UInt8 := dkwX0_gain_1 ++ dktX0_gain_2
def dkwX0_gain_0 : List UInt8 := [42, 27, 182, 0, 165, 153, 0, 58, 42, 180, 0, 42, 42, 180, 0, 60, 42, 180, 0, 53, 182, 0, 230, 42]
abbrev dktX0_gain_0 : List UInt8 := dkwX0_gain_0 ++ dktX0_gain_1
theorem dksX0_gain_0 : cX0_gain.data.toList.drop 0 = dktX0_gain_0 := by decide +kernel
theorem dksX0_gain_1 : cX0_gain.data.toList.drop 24 = dktX0_gain_1 := dk_seg dksX0_gain_0 24 rfl rfl
theorem dksX0_gain_2 : cX0_gain.data.toList.drop 48 = dktX0_gain_2 := dk_seg dksX0_gain_1 24 rfl rfl
theorem dX0_gain_0 : decode cX0_gain 0 = .ok (.aload_n 0, 1) := dk_42 (dk_at dksX0_gain_0 0 rfl rfl)
theorem dX0_gain_1 : decode cX0_gain 1 = .ok (.iload_n 1, 1) := dk_27 (dk_at dksX0_gain_0 1 rfl rfl)
theorem dX0_gain_2 : decode cX0_gain 2 = .ok (.invokevirtual 165, 3) := dk_182 0 165 (dk_at dksX0_gain_0 2 rfl rfl)
theorem dX0_gain_5 : decode cX0_gain 5 = .ok (.ifCond .eq 58, 3) := dk_153 0 58 (dk_at dksX0_gain_0 5 rfl rfl)
theorem dX0_gain_8 : decode cX0_gain 8 = .ok (.aload_n 0, 1) := dk_42 (dk_at dksX0_gain_0 8 rfl rfl)
theorem dX0_gain_9 : decode cX0_gain 9 = .ok (.getfield 42, 3) := dk_180 0 42 (dk_at dksX0_gain_0 9 rfl rfl)
theorem dX0_gain_12 : decode cX0_gain 12 = .ok (.aload_n 0, 1) := dk_42 (dk_at dksX0_gain_0 12 rfl rfl)
theorem dX0_gain_13 : decode cX0_gain 13 = .ok (.getfield 60, 3) := dk_180 0 60 (dk_at dksX0_gain_0 13 rfl rfl)
theorem dX0_gain_16 : decode cX0_gain 16 = .ok (.aload_n 0, 1) := dk_42 (dk_at dksX0_gain_0 16 rfl rfl)
theorem dX0_gain_17 : decode cX0_gain 17 = .ok (.getfield 53, 3) := dk_180 0 53 (dk_at dksX0_gain_0 17 rfl rfl)
theorem dX0_gain_20 : decode cX0_gain 20 = .ok (.invokevirtual 230, 3) := dk_182 0 230 (dk_at dksX0_gain_0 20 rfl rfl)
theorem dX0_gain_23 : decode cX0_gain 23 = .ok (.aload_n 0, 1) := dk_42 (dk_at dksX0_gain_0 23 rfl rfl)
theorem dX0_gain_24 : decode cX0_gain 24 = .ok (.getfield 53, 3) := dk_180 0 53 (dk_at dksX0_gain_1 0 rfl rfl)
theorem dX0_gain_27 : decode cX0_gain 27 = .ok (.getfield 237, 3) := dk_180 0 237 (dk_at dksX0_gain_1 3 rfl rfl)
theorem dX0_gain_30 : decode cX0_gain 30 = .ok (.iconst 1, 1) := dk_4 (dk_at dksX0_gain_1 6 rfl rfl)
theorem dX0_gain_31 : decode cX0_gain 31 = .ok (.iload_n 1, 1) := dk_27 (dk_at dksX0_gain_1 7 rfl rfl)
theorem dX0_gain_32 : decode cX0_gain 32 = .ok (.ishl, 1) := dk_120 (dk_at dksX0_gain_1 8 rfl rfl)
theorem dX0_gain_33 : decode cX0_gain 33 = .ok (.ior, 1) := dk_128 (dk_at dksX0_gain_1 9 rfl rfl)
theorem dX0_gain_34 : decode cX0_gain 34 = .ok (.invokevirtual 265, 3) := dk_182 1 9 (dk_at dksX0_gain_1 10 rfl rfl)
theorem dX0_gain_37 : decode cX0_gain 37 = .ok (.aload_n 0, 1) := dk_42 (dk_at dksX0_gain_1 13 rfl rfl)
theorem dX0_gain_38 : decode cX0_gain 38 = .ok (.getfield 42, 3) := dk_180 0 42 (dk_at dksX0_gain_1 14 rfl rfl)
theorem dX0_gain_41 : decode cX0_gain 41 = .ok (.aload_n 0, 1) := dk_42 (dk_at dksX0_gain_1 17 rfl rfl)
theorem dX0_gain_42 : decode cX0_gain 42 = .ok (.invokevirtual 280, 3) := dk_182 1 24 (dk_at dksX0_gain_1 18 rfl rfl)
theorem dX0_gain_45 : decode cX0_gain 45 = .ok (.invokevirtual 289, 3) := dk_182 1 33 (dk_at dksX0_gain_1 21 rfl rfl)
theorem dX0_gain_48 : decode cX0_gain 48 = .ok (.aload_n 0, 1) := dk_42 (dk_at dksX0_gain_2 0 rfl rfl)
theorem dX0_gain_49 : decode cX0_gain 49 = .ok (.getfield 42, 3) := dk_180 0 42 (dk_at dksX0_gain_2 1 rfl rfl)
theorem dX0_gain_52 : decode cX0_gain 52 = .ok (.iload_n 1, 1) := dk_27 (dk_at dksX0_gain_2 4 rfl rfl)
theorem dX0_gain_53 : decode cX0_gain 53 = .ok (.invokevirtual 184, 3) := dk_182 0 184 (dk_at dksX0_gain_2 5 rfl rfl)
theorem dX0_gain_56 : decode cX0_gain 56 = .ok (.iand, 1) := dk_126 (dk_at dksX0_gain_2 8 rfl rfl)
theorem dX0_gain_57 : decode cX0_gain 57 = .ok (.invokevirtual 209, 3) := dk_182 0 209 (dk_at dksX0_gain_2 9 rfl rfl)
theorem dX0_gain_60 : decode cX0_gain 60 = .ok (.goto 4, 3) := dk_167 0 4 (dk_at dksX0_gain_2 12 rfl rfl)
theorem dX0_gain_63 : decode cX0_gain 63 = .ok (.iconst (-1), 1) := dk_2 (dk_at dksX0_gain_2 15 rfl rfl)
theorem dX0_gain_64 : decode cX0_gain 64 = .ok (.ireturn, 1) := dk_172 (dk_at dksX0_gain_2 16 rfl rfl)
abbrev cX0_feast : ByteArray := prog_1_method_63_code
def yX0_feast : MethodName := ⟨RX0, "feast", "(II)I"⟩
def dkwX0_feast_9 : List UInt8 := [167, 255, 201, 42, 21, 4, 154, 0, 7, 3, 167, 0, 4, 5, 181, 0, 123, 21, 4, 172]
abbrev dktX0_feast_9 : List UInt8 := dkwX0_feast_9 ++ []
def dkwX0_feast_8 : List UInt8 := [180, 0, 67, 3, 21, 5, 79, 42, 180, 0, 67, 4, 21, 6, 79, 132, 6, 255, 167, 255, 215, 132, 5, 255]
abbrev dktX0_feast_8 : List UInt8 := dkwX0_feast_8 ++ dktX0_feast_9
def dkwX0_feast_7 : List UInt8 := [21, 6, 155, 0, 42, 42, 21, 5, 21, 6, 182, 1, 52, 154, 0, 6, 167, 0, 22, 132, 4, 1, 42]
abbrev dktX0_feast_7 : List UInt8 := dkwX0_feast_7 ++ dktX0_feast_8
def dkwX0_feast_6 : List UInt8 := [167, 255, 175, 132, 4, 1, 167, 255, 160, 3, 54, 4, 4, 54, 5, 21, 5, 155, 0, 56, 4, 54, 6]
abbrev dktX0_feast_6 : List UInt8 := dkwX0_feast_6 ++ dktX0_feast_7
def dkwX0_feast_5 : List UInt8 := [182, 1, 49, 79, 42, 180, 0, 82, 21, 4, 50, 21, 5, 42, 28, 21, 6, 182, 1, 49, 79, 132, 5, 1]
abbrev dktX0_feast_5 : List UInt8 := dkwX0_feast_5 ++ dktX0_feast_6
def dkwX0_feast_4 : List UInt8 := [42, 182, 1, 24, 182, 1, 33, 54, 6, 42, 180, 0, 79, 21, 4, 50, 21, 5, 42, 27, 21, 6]
abbrev dktX0_feast_4 : List UInt8 := dkwX0_feast_4 ++ dktX0_feast_5
def dkwX0_feast_3 : List UInt8 := [180, 0, 53, 182, 0, 230, 29, 21, 4, 27, 120, 128, 21, 5, 28, 120, 128, 182, 1, 9, 42, 180, 0, 42]
abbrev dktX0_feast_3 : List UInt8 := dkwX0_feast_3 ++ dktX0_feast_4
def dkwX0_feast_2 : List UInt8 := [54, 4, 21, 4, 5, 162, 0, 96, 3, 54, 5, 21, 5, 5, 162, 0, 81, 42, 180, 0, 60, 42]
abbrev dktX0_feast_2 : List UInt8 := dkwX0_feast_2 ++ dktX0_feast_3
def dkwX0_feast_1 : List UInt8 := [160, 0, 5, 2, 172, 42, 180, 0, 53, 180, 0, 237, 4, 27, 120, 4, 28, 120, 128, 2, 130, 126, 62, 3]
abbrev dktX0_feast_1 : List UInt8 := dkwX0_feast_1 ++ dktX0_feast_2
def dkwX0_feast_0 : List UInt8 := [42, 3, 181, 0, 123, 42, 27, 182, 0, 165, 153, 0, 16, 42, 28, 182, 0, 165, 153, 0, 8, 27, 28]
abbrev dktX0_feast_0 : List UInt8 := dkwX0_feast_0 ++ dktX0_feast_1
theorem dksX0_feast_0 : cX0_feast.data.toList.drop 0 = dktX0_feast_0 := by decide +kernel
theorem dksX0_feast_1 : cX0_feast.data.toList.drop 23 = dktX0_feast_1 := dk_seg dksX0_feast_0 23 rfl rfl
theorem dksX0_feast_2 : cX0_feast.data.toList.drop 47 = dktX0_feast_2 := dk_seg dksX0_feast_1 24 rfl rfl
theorem dksX0_feast_3 : cX0_feast.data.toList.drop 69 = dktX0_feast_3 := dk_seg dksX0_feast_2 22 rfl rfl
theorem dksX0_feast_4 : cX0_feast.data.toList.drop 93 = dktX0_feast_4 := dk_seg dksX0_feast_3 24 rfl rfl
theorem dksX0_feast_5 : cX0_feast.data.toList.drop 115 = dktX0_feast_5 := dk_seg dksX0_feast_4 22 rfl rfl
theorem dksX0_feast_6 : cX0_feast.data.toList.drop 139 = dktX0_feast_6 := dk_seg dksX0_feast_5 24 rfl rfl
theorem dksX0_feast_7 : cX0_feast.data.toList.drop 162 = dktX0_feast_7 := dk_seg dksX0_feast_6 23 rfl rfl
theorem dksX0_feast_8 : cX0_feast.data.toList.drop 185 = dktX0_feast_8 := dk_seg dksX0_feast_7 23 rfl rfl
theorem dksX0_feast_9 : cX0_feast.data.toList.drop 209 = dktX0_feast_9 := dk_seg dksX0_feast_8 24 rfl rfl
theorem dX0_feast_0 : decode cX0_feast 0 = .ok (.aload_n 0, 1) := dk_42 (dk_at dksX0_feast_0 0 rfl rfl)
theorem dX0_feast_1 : decode cX0_feast 1 = .ok (.iconst 0, 1) := dk_3 (dk_at dksX0_feast_0 1 rfl rfl)
theorem dX0_feast_2 : decode cX0_feast 2 = .ok (.putfield 123, 3) := dk_181 0 123 (dk_at dksX0_feast_0 2 rfl rfl)
theorem dX0_feast_5 : decode cX0_feast 5 = .ok (.aload_n 0, 1) := dk_42 (dk_at dksX0_feast_0 5 rfl rfl)
theorem dX0_feast_6 : decode cX0_feast 6 = .ok (.iload_n 1, 1) := dk_27 (dk_at dksX0_feast_0 6 rfl rfl)
theorem dX0_feast_7 : decode cX0_feast 7 = .ok (.invokevirtual 165, 3) := dk_182 0 165 (dk_at dksX0_feast_0 7 rfl rfl)
theorem dX0_feast_10 : decode cX0_feast 10 = .ok (.ifCond .eq 16, 3) := dk_153 0 16 (dk_at dksX0_feast_0 10 rfl rfl)
theorem dX0_feast_13 : decode cX0_feast 13 = .ok (.aload_n 0, 1) := dk_42 (dk_at dksX0_feast_0 13 rfl rfl)
theorem dX0_feast_14 : decode cX0_feast 14 = .ok (.iload_n 2, 1) := dk_28 (dk_at dksX0_feast_0 14 rfl rfl)
theorem dX0_feast_15 : decode cX0_feast 15 = .ok (.invokevirtual 165, 3) := dk_182 0 165 (dk_at dksX0_feast_0 15 rfl rfl)
theorem dX0_feast_18 : decode cX0_feast 18 = .ok (.ifCond .eq 8, 3) := dk_153 0 8 (dk_at dksX0_feast_0 18 rfl rfl)
theorem dX0_feast_21 : decode cX0_feast 21 = .ok (.iload_n 1, 1) := dk_27 (dk_at dksX0_feast_0 21 rfl rfl)
theorem dX0_feast_22 : decode cX0_feast 22 = .ok (.iload_n 2, 1) := dk_28 (dk_at dksX0_feast_0 22 rfl rfl)
theorem dX0_feast_23 : decode cX0_feast 23 = .ok (.if_icmp .ne 5, 3) := dk_160 0 5 (dk_at dksX0_feast_1 0 rfl rfl)
theorem dX0_feast_26 : decode cX0_feast 26 = .ok (.iconst (-1), 1) := dk_2 (dk_at dksX0_feast_1 3 rfl rfl)
theorem dX0_feast_27 : decode cX0_feast 27 = .ok (.ireturn, 1) := dk_172 (dk_at dksX0_feast_1 4 rfl rfl)
theorem dX0_feast_28 : decode cX0_feast 28 = .ok (.aload_n 0, 1) := dk_42 (dk_at dksX0_feast_1 5 rfl rfl)
theorem dX0_feast_29 : decode cX0_feast 29 = .ok (.getfield 53, 3) := dk_180 0 53 (dk_at dksX0_feast_1 6 rfl rfl)
theorem dX0_feast_32 : decode cX0_feast 32 = .ok (.getfield 237, 3) := dk_180 0 237 (dk_at dksX0_feast_1 9 rfl rfl)
theorem dX0_feast_35 : decode cX0_feast 35 = .ok (.iconst 1, 1) := dk_4 (dk_at dksX0_feast_1 12 rfl rfl)
theorem dX0_feast_36 : decode cX0_feast 36 = .ok (.iload_n 1, 1) := dk_27 (dk_at dksX0_feast_1 13 rfl rfl)
theorem dX0_feast_37 : decode cX0_feast 37 = .ok (.ishl, 1) := dk_120 (dk_at dksX0_feast_1 14 rfl rfl)
theorem dX0_feast_38 : decode cX0_feast 38 = .ok (.iconst 1, 1) := dk_4 (dk_at dksX0_feast_1 15 rfl rfl)
theorem dX0_feast_39 : decode cX0_feast 39 = .ok (.iload_n 2, 1) := dk_28 (dk_at dksX0_feast_1 16 rfl rfl)
theorem dX0_feast_40 : decode cX0_feast 40 = .ok (.ishl, 1) := dk_120 (dk_at dksX0_feast_1 17 rfl rfl)
theorem dX0_feast_41 : decode cX0_feast 41 = .ok (.ior, 1) := dk_128 (dk_at dksX0_feast_1 18 rfl rfl)
theorem dX0_feast_42 : decode cX0_feast 42 = .ok (.iconst (-1), 1) := dk_2 (dk_at dksX0_feast_1 19 rfl rfl)
theorem dX0_feast_43 : decode cX0_feast 43 = .ok (.ixor, 1) := dk_130 (dk_at dksX0_feast_1 20 rfl rfl)
theorem dX0_feast_44 : decode cX0_feast 44 = .ok (.iand, 1) := dk_126 (dk_at dksX0_feast_1 21 rfl rfl)
theorem dX0_feast_45 : decode cX0_feast 45 = .ok (.istore_n 3, 1) := dk_62 (dk_at dksX0_feast_1 22 rfl rfl)
theorem dX0_feast_46 : decode cX0_feast 46 = .ok (.iconst 0, 1) := dk_3 (dk_at dksX0_feast_1 23 rfl rfl)
theorem dX0_feast_47 : decode cX0_feast 47 = .ok (.istore 4, 2) := dk_54 4 (dk_at dksX0_feast_2 0 rfl rfl)
theorem dX0_feast_49 : decode cX0_feast 49 = .ok (.iload 4, 2) := dk_21 4 (dk_at dksX0_feast_2 2 rfl rfl)
theorem dX0_feast_51 : decode cX0_feast 51 = .ok (.iconst 2, 1) := dk_5 (dk_at dksX0_feast_2 4 rfl rfl)
theorem dX0_feast_52 : decode cX0_feast 52 = .ok (.if_icmp .ge 96, 3) := dk_162 0 96 (dk_at dksX0_feast_2 5 rfl rfl)
theorem dX0_feast_55 : decode cX0_feast 55 = .ok (.iconst 0, 1) := dk_3 (dk_at dksX0_feast_2 8 rfl rfl)
theorem dX0_feast_56 : decode cX0_feast 56 = .ok (.istore 5, 2) := dk_54 5 (dk_at dksX0_feast_2 9 rfl rfl)
theorem dX0_feast_58 : decode cX0_feast 58 = .ok (.iload 5, 2) := dk_21 5 (dk_at dksX0_feast_2 11 rfl rfl)
theorem dX0_feast_60 : decode cX0_feast 60 = .ok (.iconst 2, 1) := dk_5 (dk_at dksX0_feast_2 13 rfl rfl)
theorem dX0_feast_61 : decode cX0_feast 61 = .ok (.if_icmp .ge 81, 3) := dk_162 0 81 (dk_at dksX0_feast_2 14 rfl rfl)
theorem dX0_feast_64 : decode cX0_feast 64 = .ok (.aload_n 0, 1) := dk_42 (dk_at dksX0_feast_2 17 rfl rfl)
theorem dX0_feast_65 : decode cX0_feast 65 = .ok (.getfield 60, 3) := dk_180 0 60 (dk_at dksX0_feast_2 18 rfl rfl)
theorem dX0_feast_68 : decode cX0_feast 68 = .ok (.aload_n 0, 1) := dk_42 (dk_at dksX0_feast_2 21 rfl rfl)
theorem dX0_feast_69 : decode cX0_feast 69 = .ok (.getfield 53, 3) := dk_180 0 53 (dk_at dksX0_feast_3 0 rfl rfl)
theorem dX0_feast_72 : decode cX0_feast 72 = .ok (.invokevirtual 230, 3) := dk_182 0 230 (dk_at dksX0_feast_3 3 rfl rfl)
theorem dX0_feast_75 : decode cX0_feast 75 = .ok (.iload_n 3, 1) := dk_29 (dk_at dksX0_feast_3 6 rfl rfl)
theorem dX0_feast_76 : decode cX0_feast 76 = .ok (.iload 4, 2) := dk_21 4 (dk_at dksX0_feast_3 7 rfl rfl)
theorem dX0_feast_78 : decode cX0_feast 78 = .ok (.iload_n 1, 1) := dk_27 (dk_at dksX0_feast_3 9 rfl rfl)
theorem dX0_feast_79 : decode cX0_feast 79 = .ok (.ishl, 1) := dk_120 (dk_at dksX0_feast_3 10 rfl rfl)
theorem dX0_feast_80 : decode cX0_feast 80 = .ok (.ior, 1) := dk_128 (dk_at dksX0_feast_3 11 rfl rfl)
theorem dX0_feast_81 : decode cX0_feast 81 = .ok (.iload 5, 2) := dk_21 5 (dk_at dksX0_feast_3 12 rfl rfl)
theorem dX0_feast_83 : decode cX0_feast 83 = .ok (.iload_n 2, 1) := dk_28 (dk_at dksX0_feast_3 14 rfl rfl)
theorem dX0_feast_84 : decode cX0_feast 84 = .ok (.ishl, 1) := dk_120 (dk_at dksX0_feast_3 15 rfl rfl)
theorem dX0_feast_85 : decode cX0_feast 85 = .ok (.ior, 1) := dk_128 (dk_at dksX0_feast_3 16 rfl rfl)
theorem dX0_feast_86 : decode cX0_feast 86 = .ok (.invokevirtual 265, 3) := dk_182 1 9 (dk_at dksX0_feast_3 17 rfl rfl)
theorem dX0_feast_89 : decode cX0_feast 89 = .ok (.aload_n 0, 1) := dk_42 (dk_at dksX0_feast_3 20 rfl rfl)
theorem dX0_feast_90 : decode cX0_feast 90 = .ok (.getfield 42, 3) := dk_180 0 42 (dk_at dksX0_feast_3 21 rfl rfl)
theorem dX0_feast_93 : decode cX0_feast 93 = .ok (.aload_n 0, 1) := dk_42 (dk_at dksX0_feast_4 0 rfl rfl)
theorem dX0_feast_94 : decode cX0_feast 94 = .ok (.invokevirtual 280, 3) := dk_182 1 24 (dk_at dksX0_feast_4 1 rfl rfl)
theorem dX0_feast_97 : decode cX0_feast 97 = .ok (.invokevirtual 289, 3) := dk_182 1 33 (dk_at dksX0_feast_4 4 rfl rfl)
theorem dX0_feast_100 : decode cX0_feast 100 = .ok (.istore 6, 2) := dk_54 6 (dk_at dksX0_feast_4 7 rfl rfl)
theorem dX0_feast_102 : decode cX0_feast 102 = .ok (.aload_n 0, 1) := dk_42 (dk_at dksX0_feast_4 9 rfl rfl)
theorem dX0_feast_103 : decode cX0_feast 103 = .ok (.getfield 79, 3) := dk_180 0 79 (dk_at dksX0_feast_4 10 rfl rfl)
theorem dX0_feast_106 : decode cX0_feast 106 = .ok (.iload 4, 2) := dk_21 4 (dk_at dksX0_feast_4 13 rfl rfl)
theorem dX0_feast_108 : decode cX0_feast 108 = .ok (.aaload, 1) := dk_50 (dk_at dksX0_feast_4 15 rfl rfl)
theorem dX0_feast_109 : decode cX0_feast 109 = .ok (.iload 5, 2) := dk_21 5 (dk_at dksX0_feast_4 16 rfl rfl)
theorem dX0_feast_111 : decode cX0_feast 111 = .ok (.aload_n 0, 1) := dk_42 (dk_at dksX0_feast_4 18 rfl rfl)
theorem dX0_feast_112 : decode cX0_feast 112 = .ok (.iload_n 1, 1) := dk_27 (dk_at dksX0_feast_4 19 rfl rfl)
theorem dX0_feast_113 : decode cX0_feast 113 = .ok (.iload 6, 2) := dk_21 6 (dk_at dksX0_feast_4 20 rfl rfl)
theorem dX0_feast_115 : decode cX0_feast 115 = .ok (.invokevirtual 305, 3) := dk_182 1 49 (dk_at dksX0_feast_5 0 rfl rfl)
theorem dX0_feast_118 : decode cX0_feast 118 = .ok (.iastore, 1) := dk_79 (dk_at dksX0_feast_5 3 rfl rfl)
theorem dX0_feast_119 : decode cX0_feast 119 = .ok (.aload_n 0, 1) := dk_42 (dk_at dksX0_feast_5 4 rfl rfl)
theorem dX0_feast_120 : decode cX0_feast 120 = .ok (.getfield 82, 3) := dk_180 0 82 (dk_at dksX0_feast_5 5 rfl rfl)
theorem dX0_feast_123 : decode cX0_feast 123 = .ok (.iload 4, 2) := dk_21 4 (dk_at dksX0_feast_5 8 rfl rfl)
theorem dX0_feast_125 : decode cX0_feast 125 = .ok (.aaload, 1) := dk_50 (dk_at dksX0_feast_5 10 rfl rfl)
theorem dX0_feast_126 : decode cX0_feast 126 = .ok (.iload 5, 2) := dk_21 5 (dk_at dksX0_feast_5 11 rfl rfl)
theorem dX0_feast_128 : decode cX0_feast 128 = .ok (.aload_n 0, 1) := dk_42 (dk_at dksX0_feast_5 13 rfl rfl)
theorem dX0_feast_129 : decode cX0_feast 129 = .ok (.iload_n 2, 1) := dk_28 (dk_at dksX0_feast_5 14 rfl rfl)
theorem dX0_feast_130 : decode cX0_feast 130 = .ok (.iload 6, 2) := dk_21 6 (dk_at dksX0_feast_5 15 rfl rfl)
theorem dX0_feast_132 : decode cX0_feast 132 = .ok (.invokevirtual 305, 3) := dk_182 1 49 (dk_at dksX0_feast_5 17 rfl rfl)
theorem dX0_feast_135 : decode cX0_feast 135 = .ok (.iastore, 1) := dk_79 (dk_at dksX0_feast_5 20 rfl rfl)
theorem dX0_feast_136 : decode cX0_feast 136 = .ok (.iinc 5 1, 3) := dk_132 5 1 (dk_at dksX0_feast_5 21 rfl rfl)
theorem dX0_feast_139 : decode cX0_feast 139 = .ok (.goto (-81), 3) := dk_167 255 175 (dk_at dksX0_feast_6 0 rfl rfl)
theorem dX0_feast_142 : decode cX0_feast 142 = .ok (.iinc 4 1, 3) := dk_132 4 1 (dk_at dksX0_feast_6 3 rfl rfl)
theorem dX0_feast_145 : decode cX0_feast 145 = .ok (.goto (-96), 3) := dk_167 255 160 (dk_at dksX0_feast_6 6 rfl rfl)
theorem dX0_feast_148 : decode cX0_feast 148 = .ok (.iconst 0, 1) := dk_3 (dk_at dksX0_feast_6 9 rfl rfl)
theorem dX0_feast_149 : decode cX0_feast 149 = .ok (.istore 4, 2) := dk_54 4 (dk_at dksX0_feast_6 10 rfl rfl)
theorem dX0_feast_151 : decode cX0_feast 151 = .ok (.iconst 1, 1) := dk_4 (dk_at dksX0_feast_6 12 rfl rfl)
theorem dX0_feast_152 : decode cX0_feast 152 = .ok (.istore 5, 2) := dk_54 5 (dk_at dksX0_feast_6 13 rfl rfl)
theorem dX0_feast_154 : decode cX0_feast 154 = .ok (.iload 5, 2) := dk_21 5 (dk_at dksX0_feast_6 15 rfl rfl)
theorem dX0_feast_156 : decode cX0_feast 156 = .ok (.ifCond .lt 56, 3) := dk_155 0 56 (dk_at dksX0_feast_6 17 rfl rfl)
theorem dX0_feast_159 : decode cX0_feast 159 = .ok (.iconst 1, 1) := dk_4 (dk_at dksX0_feast_6 20 rfl rfl)
theorem dX0_feast_160 : decode cX0_feast 160 = .ok (.istore 6, 2) := dk_54 6 (dk_at dksX0_feast_6 21 rfl rfl)
theorem dX0_feast_162 : decode cX0_feast 162 = .ok (.iload 6, 2) := dk_21 6 (dk_at dksX0_feast_7 0 rfl rfl)
theorem dX0_feast_164 : decode cX0_feast 164 = .ok (.ifCond .lt 42, 3) := dk_155 0 42 (dk_at dksX0_feast_7 2 rfl rfl)
theorem dX0_feast_167 : decode cX0_feast 167 = .ok (.aload_n 0, 1) := dk_42 (dk_at dksX0_feast_7 5 rfl rfl)
theorem dX0_feast_168 : decode cX0_feast 168 = .ok (.iload 5, 2) := dk_21 5 (dk_at dksX0_feast_7 6 rfl rfl)
theorem dX0_feast_170 : decode cX0_feast 170 = .ok (.iload 6, 2) := dk_21 6 (dk_at dksX0_feast_7 8 rfl rfl)
theorem dX0_feast_172 : decode cX0_feast 172 = .ok (.invokevirtual 308, 3) := dk_182 1 52 (dk_at dksX0_feast_7 10 rfl rfl)
theorem dX0_feast_175 : decode cX0_feast 175 = .ok (.ifCond .ne 6, 3) := dk_154 0 6 (dk_at dksX0_feast_7 13 rfl rfl)
theorem dX0_feast_178 : decode cX0_feast 178 = .ok (.goto 22, 3) := dk_167 0 22 (dk_at dksX0_feast_7 16 rfl rfl)
theorem dX0_feast_181 : decode cX0_feast 181 = .ok (.iinc 4 1, 3) := dk_132 4 1 (dk_at dksX0_feast_7 19 rfl rfl)
theorem dX0_feast_184 : decode cX0_feast 184 = .ok (.aload_n 0, 1) := dk_42 (dk_at dksX0_feast_7 22 rfl rfl)
theorem dX0_feast_185 : decode cX0_feast 185 = .ok (.getfield 67, 3) := dk_180 0 67 (dk_at dksX0_feast_8 0 rfl rfl)
theorem dX0_feast_188 : decode cX0_feast 188 = .ok (.iconst 0, 1) := dk_3 (dk_at dksX0_feast_8 3 rfl rfl)
theorem dX0_feast_189 : decode cX0_feast 189 = .ok (.iload 5, 2) := dk_21 5 (dk_at dksX0_feast_8 4 rfl rfl)
theorem dX0_feast_191 : decode cX0_feast 191 = .ok (.iastore, 1) := dk_79 (dk_at dksX0_feast_8 6 rfl rfl)
theorem dX0_feast_192 : decode cX0_feast 192 = .ok (.aload_n 0, 1) := dk_42 (dk_at dksX0_feast_8 7 rfl rfl)
theorem dX0_feast_193 : decode cX0_feast 193 = .ok (.getfield 67, 3) := dk_180 0 67 (dk_at dksX0_feast_8 8 rfl rfl)
theorem dX0_feast_196 : decode cX0_feast 196 = .ok (.iconst 1, 1) := dk_4 (dk_at dksX0_feast_8 11 rfl rfl)
theorem dX0_feast_197 : decode cX0_feast 197 = .ok (.iload 6, 2) := dk_21 6 (dk_at dksX0_feast_8 12 rfl rfl)
theorem dX0_feast_199 : decode cX0_feast 199 = .ok (.iastore, 1) := dk_79 (dk_at dksX0_feast_8 14 rfl rfl)
theorem dX0_feast_200 : decode cX0_feast 200 = .ok (.iinc 6 (-1), 3) := dk_132 6 255 (dk_at dksX0_feast_8 15 rfl rfl)
theorem dX0_feast_203 : decode cX0_feast 203 = .ok (.goto (-41), 3) := dk_167 255 215 (dk_at dksX0_feast_8 18 rfl rfl)
theorem dX0_feast_206 : decode cX0_feast 206 = .ok (.iinc 5 (-1), 3) := dk_132 5 255 (dk_at dksX0_feast_8 21 rfl rfl)
theorem dX0_feast_209 : decode cX0_feast 209 = .ok (.goto (-55), 3) := dk_167 255 201 (dk_at dksX0_feast_9 0 rfl rfl)
theorem dX0_feast_212 : decode cX0_feast 212 = .ok (.aload_n 0, 1) := dk_42 (dk_at dksX0_feast_9 3 rfl rfl)
theorem dX0_feast_213 : decode cX0_feast 213 = .ok (.iload 4, 2) := dk_21 4 (dk_at dksX0_feast_9 4 rfl rfl)
theorem dX0_feast_215 : decode cX0_feast 215 = .ok (.ifCond .ne 7, 3) := dk_154 0 7 (dk_at dksX0_feast_9 6 rfl rfl)
theorem dX0_feast_218 : decode cX0_feast 218 = .ok (.iconst 0, 1) := dk_3 (dk_at dksX0_feast_9 9 rfl rfl)
theorem dX0_feast_219 : decode cX0_feast 219 = .ok (.goto 4, 3) := dk_167 0 4 (dk_at dksX0_feast_9 10 rfl rfl)
theorem dX0_feast_222 : decode cX0_feast 222 = .ok (.iconst 2, 1) := dk_5 (dk_at dksX0_feast_9 13 rfl rfl)
theorem dX0_feast_223 : decode cX0_feast 223 = .ok (.putfield 123, 3) := dk_181 0 123 (dk_at dksX0_feast_9 14 rfl rfl)
theorem dX0_feast_226 : decode cX0_feast 226 = .ok (.iload 4, 2) := dk_21 4 (dk_at dksX0_feast_9 17 rfl rfl)
theorem dX0_feast_228 : decode cX0_feast 228 = .ok (.ireturn, 1) := dk_172 (dk_at dksX0_feast_9 19 rfl rfl)
abbrev cX0_has : ByteArray := prog_1_method_61_code
def yX0_has : MethodName := ⟨RX0, "has", "(II)I"⟩
def dkwX0_has_1 : List UInt8 := [180, 0, 42, 27, 182, 0, 177, 126, 182, 0, 209, 100, 172]
abbrev dktX0_has_1 : List UInt8 := dkwX0_has_1 ++ []
def dkwX0_has_0 : List UInt8 := [42, 180, 0, 42, 28, 42, 180, 0, 42, 27, 182, 0, 184, 126, 182, 0, 209, 42, 180, 0, 42, 28, 42]
abbrev dktX0_has_0 : List UInt8 := dkwX0_has_0 ++ dktX0_has_1
theorem dksX0_has_0 : cX0_has.data.toList.drop 0 = dktX0_has_0 := by decide +kernel
theorem dksX0_has_1 : cX0_has.data.toList.drop 23 = dktX0_has_1 := dk_seg dksX0_has_0 23 rfl rfl
theorem dX0_has_0 : decode cX0_has 0 = .ok (.aload_n 0, 1) := dk_42 (dk_at dksX0_has_0 0 rfl rfl)
theorem dX0_has_1 : decode cX0_has 1 = .ok (.getfield 42, 3) := dk_180 0 42 (dk_at dksX0_has_0 1 rfl rfl)
theorem dX0_has_4 : decode cX0_has 4 = .ok (.iload_n 2, 1) := dk_28 (dk_at dksX0_has_0 4 rfl rfl)
theorem dX0_has_5 : decode cX0_has 5 = .ok (.aload_n 0, 1) := dk_42 (dk_at dksX0_has_0 5 rfl rfl)
theorem dX0_has_6 : decode cX0_has 6 = .ok (.getfield 42, 3) := dk_180 0 42 (dk_at dksX0_has_0 6 rfl rfl)
theorem dX0_has_9 : decode cX0_has 9 = .ok (.iload_n 1, 1) := dk_27 (dk_at dksX0_has_0 9 rfl rfl)
theorem dX0_has_10 : decode cX0_has 10 = .ok (.invokevirtual 184, 3) := dk_182 0 184 (dk_at dksX0_has_0 10 rfl rfl)
theorem dX0_has_13 : decode cX0_has 13 = .ok (.iand, 1) := dk_126 (dk_at dksX0_has_0 13 rfl rfl)
theorem dX0_has_14 : decode cX0_has 14 = .ok (.invokevirtual 209, 3) := dk_182 0 209 (dk_at dksX0_has_0 14 rfl rfl)
theorem dX0_has_17 : decode cX0_has 17 = .ok (.aload_n 0, 1) := dk_42 (dk_at dksX0_has_0 17 rfl rfl)
theorem dX0_has_18 : decode cX0_has 18 = .ok (.getfield 42, 3) := dk_180 0 42 (dk_at dksX0_has_0 18 rfl rfl)
theorem dX0_has_21 : decode cX0_has 21 = .ok (.iload_n 2, 1) := dk_28 (dk_at dksX0_has_0 21 rfl rfl)
theorem dX0_has_22 : decode cX0_has 22 = .ok (.aload_n 0, 1) := dk_42 (dk_at dksX0_has_0 22 rfl rfl)
theorem dX0_has_23 : decode cX0_has 23 = .ok (.getfield 42, 3) := dk_180 0 42 (dk_at dksX0_has_1 0 rfl rfl)
theorem dX0_has_26 : decode cX0_has 26 = .ok (.iload_n 1, 1) := dk_27 (dk_at dksX0_has_1 3 rfl rfl)
theorem dX0_has_27 : decode cX0_has 27 = .ok (.invokevirtual 177, 3) := dk_182 0 177 (dk_at dksX0_has_1 4 rfl rfl)
theorem dX0_has_30 : decode cX0_has 30 = .ok (.iand, 1) := dk_126 (dk_at dksX0_has_1 7 rfl rfl)
theorem dX0_has_31 : decode cX0_has 31 = .ok (.invokevirtual 209, 3) := dk_182 0 209 (dk_at dksX0_has_1 8 rfl rfl)
theorem dX0_has_34 : decode cX0_has 34 = .ok (.isub, 1) := dk_100 (dk_at dksX0_has_1 11 rfl rfl)
theorem dX0_has_35 : decode cX0_has 35 = .ok (.ireturn, 1) := dk_172 (dk_at dksX0_has_1 12 rfl rfl)
abbrev cX0_rests : ByteArray := prog_1_method_62_code
def yX0_rests : MethodName := ⟨RX0, "rests", "(II)Z"⟩
def dkwX0_rests_2 : List UInt8 := [3, 172]
abbrev dktX0_rests_2 : List UInt8 := dkwX0_rests_2 ++ []
def dkwX0_rests_1 : List UInt8 := [180, 0, 82, 27, 50, 4, 28, 100, 46, 42, 180, 0, 82, 27, 50, 28, 46, 163, 0, 7, 4, 167, 0, 4]
abbrev dktX0_rests_1 : List UInt8 := dkwX0_rests_1 ++ dktX0_rests_2
def dkwX0_rests_0 : List UInt8 := [42, 180, 0, 79, 4, 27, 100, 50, 28, 46, 42, 180, 0, 79, 27, 50, 28, 46, 163, 0, 28, 42]
abbrev dktX0_rests_0 : List UInt8 := dkwX0_rests_0 ++ dktX0_rests_1
theorem dksX0_rests_0 : cX0_rests.data.toList.drop 0 = dktX0_rests_0 := by decide +kernel
theorem dksX0_rests_1 : cX0_rests.data.toList.drop 22 = dktX0_rests_1 := dk_seg dksX0_rests_0 22 rfl rfl
theorem dksX0_rests_2 : cX0_rests.data.toList.drop 46 = dktX0_rests_2 := dk_seg dksX0_rests_1 24 rfl rfl
theorem dX0_rests_0 : decode cX0_rests 0 = .ok (.aload_n 0, 1) := dk_42 (dk_at dksX0_rests_0 0 rfl rfl)
theorem dX0_rests_1 : decode cX0_rests 1 = .ok (.getfield 79, 3) := dk_180 0 79 (dk_at dksX0_rests_0 1 rfl rfl)
theorem dX0_rests_4 : decode cX0_rests 4 = .ok (.iconst 1, 1) := dk_4 (dk_at dksX0_rests_0 4 rfl rfl)
theorem dX0_rests_5 : decode cX0_rests 5 = .ok (.iload_n 1, 1) := dk_27 (dk_at dksX0_rests_0 5 rfl rfl)
theorem dX0_rests_6 : decode cX0_rests 6 = .ok (.isub, 1) := dk_100 (dk_at dksX0_rests_0 6 rfl rfl)
theorem dX0_rests_7 : decode cX0_rests 7 = .ok (.aaload, 1) := dk_50 (dk_at dksX0_rests_0 7 rfl rfl)
theorem dX0_rests_8 : decode cX0_rests 8 = .ok (.iload_n 2, 1) := dk_28 (dk_at dksX0_rests_0 8 rfl rfl)
theorem dX0_rests_9 : decode cX0_rests 9 = .ok (.iaload, 1) := dk_46 (dk_at dksX0_rests_0 9 rfl rfl)
theorem dX0_rests_10 : decode cX0_rests 10 = .ok (.aload_n 0, 1) := dk_42 (dk_at dksX0_rests_0 10 rfl rfl)
theorem dX0_rests_11 : decode cX0_rests 11 = .ok (.getfield 79, 3) := dk_180 0 79 (dk_at dksX0_rests_0 11 rfl rfl)
theorem dX0_rests_14 : decode cX0_rests 14 = .ok (.iload_n 1, 1) := dk_27 (dk_at dksX0_rests_0 14 rfl rfl)
theorem dX0_rests_15 : decode cX0_rests 15 = .ok (.aaload, 1) := dk_50 (dk_at dksX0_rests_0 15 rfl rfl)
theorem dX0_rests_16 : decode cX0_rests 16 = .ok (.iload_n 2, 1) := dk_28 (dk_at dksX0_rests_0 16 rfl rfl)
theorem dX0_rests_17 : decode cX0_rests 17 = .ok (.iaload, 1) := dk_46 (dk_at dksX0_rests_0 17 rfl rfl)
theorem dX0_rests_18 : decode cX0_rests 18 = .ok (.if_icmp .gt 28, 3) := dk_163 0 28 (dk_at dksX0_rests_0 18 rfl rfl)
theorem dX0_rests_21 : decode cX0_rests 21 = .ok (.aload_n 0, 1) := dk_42 (dk_at dksX0_rests_0 21 rfl rfl)
theorem dX0_rests_22 : decode cX0_rests 22 = .ok (.getfield 82, 3) := dk_180 0 82 (dk_at dksX0_rests_1 0 rfl rfl)
theorem dX0_rests_25 : decode cX0_rests 25 = .ok (.iload_n 1, 1) := dk_27 (dk_at dksX0_rests_1 3 rfl rfl)
theorem dX0_rests_26 : decode cX0_rests 26 = .ok (.aaload, 1) := dk_50 (dk_at dksX0_rests_1 4 rfl rfl)
theorem dX0_rests_27 : decode cX0_rests 27 = .ok (.iconst 1, 1) := dk_4 (dk_at dksX0_rests_1 5 rfl rfl)
theorem dX0_rests_28 : decode cX0_rests 28 = .ok (.iload_n 2, 1) := dk_28 (dk_at dksX0_rests_1 6 rfl rfl)
theorem dX0_rests_29 : decode cX0_rests 29 = .ok (.isub, 1) := dk_100 (dk_at dksX0_rests_1 7 rfl rfl)
theorem dX0_rests_30 : decode cX0_rests 30 = .ok (.iaload, 1) := dk_46 (dk_at dksX0_rests_1 8 rfl rfl)
theorem dX0_rests_31 : decode cX0_rests 31 = .ok (.aload_n 0, 1) := dk_42 (dk_at dksX0_rests_1 9 rfl rfl)
theorem dX0_rests_32 : decode cX0_rests 32 = .ok (.getfield 82, 3) := dk_180 0 82 (dk_at dksX0_rests_1 10 rfl rfl)
theorem dX0_rests_35 : decode cX0_rests 35 = .ok (.iload_n 1, 1) := dk_27 (dk_at dksX0_rests_1 13 rfl rfl)
theorem dX0_rests_36 : decode cX0_rests 36 = .ok (.aaload, 1) := dk_50 (dk_at dksX0_rests_1 14 rfl rfl)
theorem dX0_rests_37 : decode cX0_rests 37 = .ok (.iload_n 2, 1) := dk_28 (dk_at dksX0_rests_1 15 rfl rfl)
theorem dX0_rests_38 : decode cX0_rests 38 = .ok (.iaload, 1) := dk_46 (dk_at dksX0_rests_1 16 rfl rfl)
theorem dX0_rests_39 : decode cX0_rests 39 = .ok (.if_icmp .gt 7, 3) := dk_163 0 7 (dk_at dksX0_rests_1 17 rfl rfl)
theorem dX0_rests_42 : decode cX0_rests 42 = .ok (.iconst 1, 1) := dk_4 (dk_at dksX0_rests_1 20 rfl rfl)
theorem dX0_rests_43 : decode cX0_rests 43 = .ok (.goto 4, 3) := dk_167 0 4 (dk_at dksX0_rests_1 21 rfl rfl)
theorem dX0_rests_46 : decode cX0_rests 46 = .ok (.iconst 0, 1) := dk_3 (dk_at dksX0_rests_2 0 rfl rfl)
theorem dX0_rests_47 : decode cX0_rests 47 = .ok (.ireturn, 1) := dk_172 (dk_at dksX0_rests_2 1 rfl rfl)
abbrev cX0_line : ByteArray := prog_1_method_66_code
def yX0_line : MethodName := ⟨RX0, "line", "()I"⟩
def dkwX0_line_1 : List UInt8 := [180, 1, 55, 184, 0, 224, 42, 42, 180, 1, 55, 181, 0, 123, 42, 180, 1, 55, 172]
abbrev dktX0_line_1 : List UInt8 := dkwX0_line_1 ++ []
def dkwX0_line_0 : List UInt8 := [42, 3, 181, 1, 55, 42, 3, 3, 182, 1, 61, 42, 180, 0, 74, 3, 42, 180, 0, 67, 3, 42]
abbrev dktX0_line_0 : List UInt8 := dkwX0_line_0 ++ dktX0_line_1
theorem dksX0_line_0 : cX0_line.data.toList.drop 0 = dktX0_line_0 := by decide +kernel
theorem dksX0_line_1 : cX0_line.data.toList.drop 22 = dktX0_line_1 := dk_seg dksX0_line_0 22 rfl rfl
theorem dX0_line_0 : decode cX0_line 0 = .ok (.aload_n 0, 1) := dk_42 (dk_at dksX0_line_0 0 rfl rfl)
theorem dX0_line_1 : decode cX0_line 1 = .ok (.iconst 0, 1) := dk_3 (dk_at dksX0_line_0 1 rfl rfl)
theorem dX0_line_2 : decode cX0_line 2 = .ok (.putfield 311, 3) := dk_181 1 55 (dk_at dksX0_line_0 2 rfl rfl)
theorem dX0_line_5 : decode cX0_line 5 = .ok (.aload_n 0, 1) := dk_42 (dk_at dksX0_line_0 5 rfl rfl)
theorem dX0_line_6 : decode cX0_line 6 = .ok (.iconst 0, 1) := dk_3 (dk_at dksX0_line_0 6 rfl rfl)
theorem dX0_line_7 : decode cX0_line 7 = .ok (.iconst 0, 1) := dk_3 (dk_at dksX0_line_0 7 rfl rfl)
theorem dX0_line_8 : decode cX0_line 8 = .ok (.invokevirtual 317, 3) := dk_182 1 61 (dk_at dksX0_line_0 8 rfl rfl)
theorem dX0_line_11 : decode cX0_line 11 = .ok (.aload_n 0, 1) := dk_42 (dk_at dksX0_line_0 11 rfl rfl)
theorem dX0_line_12 : decode cX0_line 12 = .ok (.getfield 74, 3) := dk_180 0 74 (dk_at dksX0_line_0 12 rfl rfl)
theorem dX0_line_15 : decode cX0_line 15 = .ok (.iconst 0, 1) := dk_3 (dk_at dksX0_line_0 15 rfl rfl)
theorem dX0_line_16 : decode cX0_line 16 = .ok (.aload_n 0, 1) := dk_42 (dk_at dksX0_line_0 16 rfl rfl)
theorem dX0_line_17 : decode cX0_line 17 = .ok (.getfield 67, 3) := dk_180 0 67 (dk_at dksX0_line_0 17 rfl rfl)
theorem dX0_line_20 : decode cX0_line 20 = .ok (.iconst 0, 1) := dk_3 (dk_at dksX0_line_0 20 rfl rfl)
theorem dX0_line_21 : decode cX0_line 21 = .ok (.aload_n 0, 1) := dk_42 (dk_at dksX0_line_0 21 rfl rfl)
theorem dX0_line_22 : decode cX0_line 22 = .ok (.getfield 311, 3) := dk_180 1 55 (dk_at dksX0_line_1 0 rfl rfl)
theorem dX0_line_25 : decode cX0_line 25 = .ok (.invokestatic 224, 3) := dk_184 0 224 (dk_at dksX0_line_1 3 rfl rfl)
theorem dX0_line_28 : decode cX0_line 28 = .ok (.aload_n 0, 1) := dk_42 (dk_at dksX0_line_1 6 rfl rfl)
theorem dX0_line_29 : decode cX0_line 29 = .ok (.aload_n 0, 1) := dk_42 (dk_at dksX0_line_1 7 rfl rfl)
theorem dX0_line_30 : decode cX0_line 30 = .ok (.getfield 311, 3) := dk_180 1 55 (dk_at dksX0_line_1 8 rfl rfl)
theorem dX0_line_33 : decode cX0_line 33 = .ok (.putfield 123, 3) := dk_181 0 123 (dk_at dksX0_line_1 11 rfl rfl)
theorem dX0_line_36 : decode cX0_line 36 = .ok (.aload_n 0, 1) := dk_42 (dk_at dksX0_line_1 14 rfl rfl)
theorem dX0_line_37 : decode cX0_line 37 = .ok (.getfield 311, 3) := dk_180 1 55 (dk_at dksX0_line_1 15 rfl rfl)
theorem dX0_line_40 : decode cX0_line 40 = .ok (.ireturn, 1) := dk_172 (dk_at dksX0_line_1 18 rfl rfl)
abbrev cX0_lineUp : ByteArray := prog_1_method_65_code
def yX0_lineUp : MethodName := ⟨RX0, "lineUp", "(II)V"⟩
def dkwX0_lineUp_4 : List UInt8 := [177]
abbrev dktX0_lineUp_4 : List UInt8 := dkwX0_lineUp_4 ++ []
def dkwX0_lineUp_3 : List UInt8 := [180, 0, 71, 27, 29, 79, 42, 27, 4, 96, 28, 4, 29, 120, 128, 182, 1, 61, 132, 3, 1, 167, 255, 194]
abbrev dktX0_lineUp_3 : List UInt8 := dkwX0_lineUp_3 ++ dktX0_lineUp_4
def dkwX0_lineUp_2 : List UInt8 := [158, 0, 22, 42, 42, 180, 0, 71, 27, 4, 100, 46, 29, 182, 1, 58, 154, 0, 6, 167, 0, 22, 42]
abbrev dktX0_lineUp_2 : List UInt8 := dkwX0_lineUp_2 ++ dktX0_lineUp_3
def dkwX0_lineUp_1 : List UInt8 := [184, 0, 224, 3, 62, 29, 42, 182, 0, 151, 162, 0, 60, 28, 29, 122, 4, 126, 4, 159, 0, 45, 27]
abbrev dktX0_lineUp_1 : List UInt8 := dkwX0_lineUp_1 ++ dktX0_lineUp_2
def dkwX0_lineUp_0 : List UInt8 := [27, 42, 180, 1, 55, 164, 0, 22, 42, 27, 181, 1, 55, 42, 180, 0, 71, 3, 42, 180, 0, 74, 3, 27]
abbrev dktX0_lineUp_0 : List UInt8 := dkwX0_lineUp_0 ++ dktX0_lineUp_1
theorem dksX0_lineUp_0 : cX0_lineUp.data.toList.drop 0 = dktX0_lineUp_0 := by decide +kernel
theorem dksX0_lineUp_1 : cX0_lineUp.data.toList.drop 24 = dktX0_lineUp_1 := dk_seg dksX0_lineUp_0 24 rfl rfl
theorem dksX0_lineUp_2 : cX0_lineUp.data.toList.drop 47 = dktX0_lineUp_2 := dk_seg dksX0_lineUp_1 23 rfl rfl
theorem dksX0_lineUp_3 : cX0_lineUp.data.toList.drop 70 = dktX0_lineUp_3 := dk_seg dksX0_lineUp_2 23 rfl rfl
theorem dksX0_lineUp_4 : cX0_lineUp.data.toList.drop 94 = dktX0_lineUp_4 := dk_seg dksX0_lineUp_3 24 rfl rfl
theorem dX0_lineUp_0 : decode cX0_lineUp 0 = .ok (.iload_n 1, 1) := dk_27 (dk_at dksX0_lineUp_0 0 rfl rfl)
theorem dX0_lineUp_1 : decode cX0_lineUp 1 = .ok (.aload_n 0, 1) := dk_42 (dk_at dksX0_lineUp_0 1 rfl rfl)
theorem dX0_lineUp_2 : decode cX0_lineUp 2 = .ok (.getfield 311, 3) := dk_180 1 55 (dk_at dksX0_lineUp_0 2 rfl rfl)
theorem dX0_lineUp_5 : decode cX0_lineUp 5 = .ok (.if_icmp .le 22, 3) := dk_164 0 22 (dk_at dksX0_lineUp_0 5 rfl rfl)
theorem dX0_lineUp_8 : decode cX0_lineUp 8 = .ok (.aload_n 0, 1) := dk_42 (dk_at dksX0_lineUp_0 8 rfl rfl)
theorem dX0_lineUp_9 : decode cX0_lineUp 9 = .ok (.iload_n 1, 1) := dk_27 (dk_at dksX0_lineUp_0 9 rfl rfl)
theorem dX0_lineUp_10 : decode cX0_lineUp 10 = .ok (.putfield 311, 3) := dk_181 1 55 (dk_at dksX0_lineUp_0 10 rfl rfl)
theorem dX0_lineUp_13 : decode cX0_lineUp 13 = .ok (.aload_n 0, 1) := dk_42 (dk_at dksX0_lineUp_0 13 rfl rfl)
theorem dX0_lineUp_14 : decode cX0_lineUp 14 = .ok (.getfield 71, 3) := dk_180 0 71 (dk_at dksX0_lineUp_0 14 rfl rfl)
theorem dX0_lineUp_17 : decode cX0_lineUp 17 = .ok (.iconst 0, 1) := dk_3 (dk_at dksX0_lineUp_0 17 rfl rfl)
theorem dX0_lineUp_18 : decode cX0_lineUp 18 = .ok (.aload_n 0, 1) := dk_42 (dk_at dksX0_lineUp_0 18 rfl rfl)
theorem dX0_lineUp_19 : decode cX0_lineUp 19 = .ok (.getfield 74, 3) := dk_180 0 74 (dk_at dksX0_lineUp_0 19 rfl rfl)
theorem dX0_lineUp_22 : decode cX0_lineUp 22 = .ok (.iconst 0, 1) := dk_3 (dk_at dksX0_lineUp_0 22 rfl rfl)
theorem dX0_lineUp_23 : decode cX0_lineUp 23 = .ok (.iload_n 1, 1) := dk_27 (dk_at dksX0_lineUp_0 23 rfl rfl)
theorem dX0_lineUp_24 : decode cX0_lineUp 24 = .ok (.invokestatic 224, 3) := dk_184 0 224 (dk_at dksX0_lineUp_1 0 rfl rfl)
theorem dX0_lineUp_27 : decode cX0_lineUp 27 = .ok (.iconst 0, 1) := dk_3 (dk_at dksX0_lineUp_1 3 rfl rfl)
theorem dX0_lineUp_28 : decode cX0_lineUp 28 = .ok (.istore_n 3, 1) := dk_62 (dk_at dksX0_lineUp_1 4 rfl rfl)
theorem dX0_lineUp_29 : decode cX0_lineUp 29 = .ok (.iload_n 3, 1) := dk_29 (dk_at dksX0_lineUp_1 5 rfl rfl)
theorem dX0_lineUp_30 : decode cX0_lineUp 30 = .ok (.aload_n 0, 1) := dk_42 (dk_at dksX0_lineUp_1 6 rfl rfl)
theorem dX0_lineUp_31 : decode cX0_lineUp 31 = .ok (.invokevirtual 151, 3) := dk_182 0 151 (dk_at dksX0_lineUp_1 7 rfl rfl)
theorem dX0_lineUp_34 : decode cX0_lineUp 34 = .ok (.if_icmp .ge 60, 3) := dk_162 0 60 (dk_at dksX0_lineUp_1 10 rfl rfl)
theorem dX0_lineUp_37 : decode cX0_lineUp 37 = .ok (.iload_n 2, 1) := dk_28 (dk_at dksX0_lineUp_1 13 rfl rfl)
theorem dX0_lineUp_38 : decode cX0_lineUp 38 = .ok (.iload_n 3, 1) := dk_29 (dk_at dksX0_lineUp_1 14 rfl rfl)
theorem dX0_lineUp_39 : decode cX0_lineUp 39 = .ok (.ishr, 1) := dk_122 (dk_at dksX0_lineUp_1 15 rfl rfl)
theorem dX0_lineUp_40 : decode cX0_lineUp 40 = .ok (.iconst 1, 1) := dk_4 (dk_at dksX0_lineUp_1 16 rfl rfl)
theorem dX0_lineUp_41 : decode cX0_lineUp 41 = .ok (.iand, 1) := dk_126 (dk_at dksX0_lineUp_1 17 rfl rfl)
theorem dX0_lineUp_42 : decode cX0_lineUp 42 = .ok (.iconst 1, 1) := dk_4 (dk_at dksX0_lineUp_1 18 rfl rfl)
theorem dX0_lineUp_43 : decode cX0_lineUp 43 = .ok (.if_icmp .eq 45, 3) := dk_159 0 45 (dk_at dksX0_lineUp_1 19 rfl rfl)
theorem dX0_lineUp_46 : decode cX0_lineUp 46 = .ok (.iload_n 1, 1) := dk_27 (dk_at dksX0_lineUp_1 22 rfl rfl)
theorem dX0_lineUp_47 : decode cX0_lineUp 47 = .ok (.ifCond .le 22, 3) := dk_158 0 22 (dk_at dksX0_lineUp_2 0 rfl rfl)
theorem dX0_lineUp_50 : decode cX0_lineUp 50 = .ok (.aload_n 0, 1) := dk_42 (dk_at dksX0_lineUp_2 3 rfl rfl)
theorem dX0_lineUp_51 : decode cX0_lineUp 51 = .ok (.aload_n 0, 1) := dk_42 (dk_at dksX0_lineUp_2 4 rfl rfl)
theorem dX0_lineUp_52 : decode cX0_lineUp 52 = .ok (.getfield 71, 3) := dk_180 0 71 (dk_at dksX0_lineUp_2 5 rfl rfl)
theorem dX0_lineUp_55 : decode cX0_lineUp 55 = .ok (.iload_n 1, 1) := dk_27 (dk_at dksX0_lineUp_2 8 rfl rfl)
theorem dX0_lineUp_56 : decode cX0_lineUp 56 = .ok (.iconst 1, 1) := dk_4 (dk_at dksX0_lineUp_2 9 rfl rfl)
theorem dX0_lineUp_57 : decode cX0_lineUp 57 = .ok (.isub, 1) := dk_100 (dk_at dksX0_lineUp_2 10 rfl rfl)
theorem dX0_lineUp_58 : decode cX0_lineUp 58 = .ok (.iaload, 1) := dk_46 (dk_at dksX0_lineUp_2 11 rfl rfl)
theorem dX0_lineUp_59 : decode cX0_lineUp 59 = .ok (.iload_n 3, 1) := dk_29 (dk_at dksX0_lineUp_2 12 rfl rfl)
theorem dX0_lineUp_60 : decode cX0_lineUp 60 = .ok (.invokevirtual 314, 3) := dk_182 1 58 (dk_at dksX0_lineUp_2 13 rfl rfl)
theorem dX0_lineUp_63 : decode cX0_lineUp 63 = .ok (.ifCond .ne 6, 3) := dk_154 0 6 (dk_at dksX0_lineUp_2 16 rfl rfl)
theorem dX0_lineUp_66 : decode cX0_lineUp 66 = .ok (.goto 22, 3) := dk_167 0 22 (dk_at dksX0_lineUp_2 19 rfl rfl)
theorem dX0_lineUp_69 : decode cX0_lineUp 69 = .ok (.aload_n 0, 1) := dk_42 (dk_at dksX0_lineUp_2 22 rfl rfl)
theorem dX0_lineUp_70 : decode cX0_lineUp 70 = .ok (.getfield 71, 3) := dk_180 0 71 (dk_at dksX0_lineUp_3 0 rfl rfl)
theorem dX0_lineUp_73 : decode cX0_lineUp 73 = .ok (.iload_n 1, 1) := dk_27 (dk_at dksX0_lineUp_3 3 rfl rfl)
theorem dX0_lineUp_74 : decode cX0_lineUp 74 = .ok (.iload_n 3, 1) := dk_29 (dk_at dksX0_lineUp_3 4 rfl rfl)
theorem dX0_lineUp_75 : decode cX0_lineUp 75 = .ok (.iastore, 1) := dk_79 (dk_at dksX0_lineUp_3 5 rfl rfl)
theorem dX0_lineUp_76 : decode cX0_lineUp 76 = .ok (.aload_n 0, 1) := dk_42 (dk_at dksX0_lineUp_3 6 rfl rfl)
theorem dX0_lineUp_77 : decode cX0_lineUp 77 = .ok (.iload_n 1, 1) := dk_27 (dk_at dksX0_lineUp_3 7 rfl rfl)
theorem dX0_lineUp_78 : decode cX0_lineUp 78 = .ok (.iconst 1, 1) := dk_4 (dk_at dksX0_lineUp_3 8 rfl rfl)
theorem dX0_lineUp_79 : decode cX0_lineUp 79 = .ok (.iadd, 1) := dk_96 (dk_at dksX0_lineUp_3 9 rfl rfl)
theorem dX0_lineUp_80 : decode cX0_lineUp 80 = .ok (.iload_n 2, 1) := dk_28 (dk_at dksX0_lineUp_3 10 rfl rfl)
theorem dX0_lineUp_81 : decode cX0_lineUp 81 = .ok (.iconst 1, 1) := dk_4 (dk_at dksX0_lineUp_3 11 rfl rfl)
theorem dX0_lineUp_82 : decode cX0_lineUp 82 = .ok (.iload_n 3, 1) := dk_29 (dk_at dksX0_lineUp_3 12 rfl rfl)
theorem dX0_lineUp_83 : decode cX0_lineUp 83 = .ok (.ishl, 1) := dk_120 (dk_at dksX0_lineUp_3 13 rfl rfl)
theorem dX0_lineUp_84 : decode cX0_lineUp 84 = .ok (.ior, 1) := dk_128 (dk_at dksX0_lineUp_3 14 rfl rfl)
theorem dX0_lineUp_85 : decode cX0_lineUp 85 = .ok (.invokevirtual 317, 3) := dk_182 1 61 (dk_at dksX0_lineUp_3 15 rfl rfl)
theorem dX0_lineUp_88 : decode cX0_lineUp 88 = .ok (.iinc 3 1, 3) := dk_132 3 1 (dk_at dksX0_lineUp_3 18 rfl rfl)
theorem dX0_lineUp_91 : decode cX0_lineUp 91 = .ok (.goto (-62), 3) := dk_167 255 194 (dk_at dksX0_lineUp_3 21 rfl rfl)
theorem dX0_lineUp_94 : decode cX0_lineUp 94 = .ok (.return_, 1) := dk_177 (dk_at dksX0_lineUp_4 0 rfl rfl)
abbrev cX0_keepsFrom : ByteArray := prog_1_method_64_code
def yX0_keepsFrom : MethodName := ⟨RX0, "keepsFrom", "(II)Z"⟩
def dkwX0_keepsFrom_1 : List UInt8 := [153, 0, 7, 4, 167, 0, 4, 3, 172]
abbrev dktX0_keepsFrom_1 : List UInt8 := dkwX0_keepsFrom_1 ++ []
def dkwX0_keepsFrom_0 : List UInt8 := [42, 180, 0, 42, 27, 182, 0, 177, 42, 180, 0, 42, 28, 182, 0, 184, 126, 42, 182, 0, 181, 126]
abbrev dktX0_keepsFrom_0 : List UInt8 := dkwX0_keepsFrom_0 ++ dktX0_keepsFrom_1
theorem dksX0_keepsFrom_0 : cX0_keepsFrom.data.toList.drop 0 = dktX0_keepsFrom_0 := by decide +kernel
theorem dksX0_keepsFrom_1 : cX0_keepsFrom.data.toList.drop 22 = dktX0_keepsFrom_1 := dk_seg dksX0_keepsFrom_0 22 rfl rfl
theorem dX0_keepsFrom_0 : decode cX0_keepsFrom 0 = .ok (.aload_n 0, 1) := dk_42 (dk_at dksX0_keepsFrom_0 0 rfl rfl)
theorem dX0_keepsFrom_1 : decode cX0_keepsFrom 1 = .ok (.getfield 42, 3) := dk_180 0 42 (dk_at dksX0_keepsFrom_0 1 rfl rfl)
theorem dX0_keepsFrom_4 : decode cX0_keepsFrom 4 = .ok (.iload_n 1, 1) := dk_27 (dk_at dksX0_keepsFrom_0 4 rfl rfl)
theorem dX0_keepsFrom_5 : decode cX0_keepsFrom 5 = .ok (.invokevirtual 177, 3) := dk_182 0 177 (dk_at dksX0_keepsFrom_0 5 rfl rfl)
theorem dX0_keepsFrom_8 : decode cX0_keepsFrom 8 = .ok (.aload_n 0, 1) := dk_42 (dk_at dksX0_keepsFrom_0 8 rfl rfl)
theorem dX0_keepsFrom_9 : decode cX0_keepsFrom 9 = .ok (.getfield 42, 3) := dk_180 0 42 (dk_at dksX0_keepsFrom_0 9 rfl rfl)
theorem dX0_keepsFrom_12 : decode cX0_keepsFrom 12 = .ok (.iload_n 2, 1) := dk_28 (dk_at dksX0_keepsFrom_0 12 rfl rfl)
theorem dX0_keepsFrom_13 : decode cX0_keepsFrom 13 = .ok (.invokevirtual 184, 3) := dk_182 0 184 (dk_at dksX0_keepsFrom_0 13 rfl rfl)
theorem dX0_keepsFrom_16 : decode cX0_keepsFrom 16 = .ok (.iand, 1) := dk_126 (dk_at dksX0_keepsFrom_0 16 rfl rfl)
theorem dX0_keepsFrom_17 : decode cX0_keepsFrom 17 = .ok (.aload_n 0, 1) := dk_42 (dk_at dksX0_keepsFrom_0 17 rfl rfl)
theorem dX0_keepsFrom_18 : decode cX0_keepsFrom 18 = .ok (.invokevirtual 181, 3) := dk_182 0 181 (dk_at dksX0_keepsFrom_0 18 rfl rfl)
theorem dX0_keepsFrom_21 : decode cX0_keepsFrom 21 = .ok (.iand, 1) := dk_126 (dk_at dksX0_keepsFrom_0 21 rfl rfl)
theorem dX0_keepsFrom_22 : decode cX0_keepsFrom 22 = .ok (.ifCond .eq 7, 3) := dk_153 0 7 (dk_at dksX0_keepsFrom_1 0 rfl rfl)
theorem dX0_keepsFrom_25 : decode cX0_keepsFrom 25 = .ok (.iconst 1, 1) := dk_4 (dk_at dksX0_keepsFrom_1 3 rfl rfl)
theorem dX0_keepsFrom_26 : decode cX0_keepsFrom 26 = .ok (.goto 4, 3) := dk_167 0 4 (dk_at dksX0_keepsFrom_1 4 rfl rfl)
theorem dX0_keepsFrom_29 : decode cX0_keepsFrom 29 = .ok (.iconst 0, 1) := dk_3 (dk_at dksX0_keepsFrom_1 7 rfl rfl)
theorem dX0_keepsFrom_30 : decode cX0_keepsFrom 30 = .ok (.ireturn, 1) := dk_172 (dk_at dksX0_keepsFrom_1 8 rfl rfl)
abbrev cX0_hottest : ByteArray := prog_1_method_67_code
def yX0_hottest : MethodName := ⟨RX0, "hottest", "()I"⟩
def dkwX0_hottest_1 : List UInt8 := [182, 0, 215, 164, 0, 7, 28, 167, 0, 4, 27, 60, 132, 2, 1, 167, 255, 222, 27, 172]
abbrev dktX0_hottest_1 : List UInt8 := dkwX0_hottest_1 ++ []
def dkwX0_hottest_0 : List UInt8 := [2, 60, 3, 61, 28, 42, 182, 0, 153, 162, 0, 32, 27, 155, 0, 16, 42, 28, 182, 0, 215, 42, 27]
abbrev dktX0_hottest_0 : List UInt8 := dkwX0_hottest_0 ++ dktX0_hottest_1
theorem dksX0_hottest_0 : cX0_hottest.data.toList.drop 0 = dktX0_hottest_0 := by decide +kernel
theorem dksX0_hottest_1 : cX0_hottest.data.toList.drop 23 = dktX0_hottest_1 := dk_seg dksX0_hottest_0 23 rfl rfl
theorem dX0_hottest_0 : decode cX0_hottest 0 = .ok (.iconst (-1), 1) := dk_2 (dk_at dksX0_hottest_0 0 rfl rfl)
theorem dX0_hottest_1 : decode cX0_hottest 1 = .ok (.istore_n 1, 1) := dk_60 (dk_at dksX0_hottest_0 1 rfl rfl)
theorem dX0_hottest_2 : decode cX0_hottest 2 = .ok (.iconst 0, 1) := dk_3 (dk_at dksX0_hottest_0 2 rfl rfl)
theorem dX0_hottest_3 : decode cX0_hottest 3 = .ok (.istore_n 2, 1) := dk_61 (dk_at dksX0_hottest_0 3 rfl rfl)
theorem dX0_hottest_4 : decode cX0_hottest 4 = .ok (.iload_n 2, 1) := dk_28 (dk_at dksX0_hottest_0 4 rfl rfl)
theorem dX0_hottest_5 : decode cX0_hottest 5 = .ok (.aload_n 0, 1) := dk_42 (dk_at dksX0_hottest_0 5 rfl rfl)
theorem dX0_hottest_6 : decode cX0_hottest 6 = .ok (.invokevirtual 153, 3) := dk_182 0 153 (dk_at dksX0_hottest_0 6 rfl rfl)
theorem dX0_hottest_9 : decode cX0_hottest 9 = .ok (.if_icmp .ge 32, 3) := dk_162 0 32 (dk_at dksX0_hottest_0 9 rfl rfl)
theorem dX0_hottest_12 : decode cX0_hottest 12 = .ok (.iload_n 1, 1) := dk_27 (dk_at dksX0_hottest_0 12 rfl rfl)
theorem dX0_hottest_13 : decode cX0_hottest 13 = .ok (.ifCond .lt 16, 3) := dk_155 0 16 (dk_at dksX0_hottest_0 13 rfl rfl)
theorem dX0_hottest_16 : decode cX0_hottest 16 = .ok (.aload_n 0, 1) := dk_42 (dk_at dksX0_hottest_0 16 rfl rfl)
theorem dX0_hottest_17 : decode cX0_hottest 17 = .ok (.iload_n 2, 1) := dk_28 (dk_at dksX0_hottest_0 17 rfl rfl)
theorem dX0_hottest_18 : decode cX0_hottest 18 = .ok (.invokevirtual 215, 3) := dk_182 0 215 (dk_at dksX0_hottest_0 18 rfl rfl)
theorem dX0_hottest_21 : decode cX0_hottest 21 = .ok (.aload_n 0, 1) := dk_42 (dk_at dksX0_hottest_0 21 rfl rfl)
theorem dX0_hottest_22 : decode cX0_hottest 22 = .ok (.iload_n 1, 1) := dk_27 (dk_at dksX0_hottest_0 22 rfl rfl)
theorem dX0_hottest_23 : decode cX0_hottest 23 = .ok (.invokevirtual 215, 3) := dk_182 0 215 (dk_at dksX0_hottest_1 0 rfl rfl)
theorem dX0_hottest_26 : decode cX0_hottest 26 = .ok (.if_icmp .le 7, 3) := dk_164 0 7 (dk_at dksX0_hottest_1 3 rfl rfl)
theorem dX0_hottest_29 : decode cX0_hottest 29 = .ok (.iload_n 2, 1) := dk_28 (dk_at dksX0_hottest_1 6 rfl rfl)
theorem dX0_hottest_30 : decode cX0_hottest 30 = .ok (.goto 4, 3) := dk_167 0 4 (dk_at dksX0_hottest_1 7 rfl rfl)
theorem dX0_hottest_33 : decode cX0_hottest 33 = .ok (.iload_n 1, 1) := dk_27 (dk_at dksX0_hottest_1 10 rfl rfl)
theorem dX0_hottest_34 : decode cX0_hottest 34 = .ok (.istore_n 1, 1) := dk_60 (dk_at dksX0_hottest_1 11 rfl rfl)
theorem dX0_hottest_35 : decode cX0_hottest 35 = .ok (.iinc 2 1, 3) := dk_132 2 1 (dk_at dksX0_hottest_1 12 rfl rfl)
theorem dX0_hottest_38 : decode cX0_hottest 38 = .ok (.goto (-34), 3) := dk_167 255 222 (dk_at dksX0_hottest_1 15 rfl rfl)
theorem dX0_hottest_41 : decode cX0_hottest 41 = .ok (.iload_n 1, 1) := dk_27 (dk_at dksX0_hottest_1 18 rfl rfl)
theorem dX0_hottest_42 : decode cX0_hottest 42 = .ok (.ireturn, 1) := dk_172 (dk_at dksX0_hottest_1 19 rfl rfl)
abbrev cX0_closest : ByteArray := prog_1_method_69_code
def yX0_closest : MethodName := ⟨RX0, "closest", "()I"⟩
def dkwX0_closest_1 : List UInt8 := [182, 1, 65, 164, 0, 7, 28, 167, 0, 4, 27, 60, 132, 2, 1, 167, 255, 222, 27, 172]
abbrev dktX0_closest_1 : List UInt8 := dkwX0_closest_1 ++ []
def dkwX0_closest_0 : List UInt8 := [2, 60, 3, 61, 28, 42, 182, 0, 151, 162, 0, 32, 27, 155, 0, 16, 42, 28, 182, 1, 65, 42, 27]
abbrev dktX0_closest_0 : List UInt8 := dkwX0_closest_0 ++ dktX0_closest_1
theorem dksX0_closest_0 : cX0_closest.data.toList.drop 0 = dktX0_closest_0 := by decide +kernel
theorem dksX0_closest_1 : cX0_closest.data.toList.drop 23 = dktX0_closest_1 := dk_seg dksX0_closest_0 23 rfl rfl
theorem dX0_closest_0 : decode cX0_closest 0 = .ok (.iconst (-1), 1) := dk_2 (dk_at dksX0_closest_0 0 rfl rfl)
theorem dX0_closest_1 : decode cX0_closest 1 = .ok (.istore_n 1, 1) := dk_60 (dk_at dksX0_closest_0 1 rfl rfl)
theorem dX0_closest_2 : decode cX0_closest 2 = .ok (.iconst 0, 1) := dk_3 (dk_at dksX0_closest_0 2 rfl rfl)
theorem dX0_closest_3 : decode cX0_closest 3 = .ok (.istore_n 2, 1) := dk_61 (dk_at dksX0_closest_0 3 rfl rfl)
theorem dX0_closest_4 : decode cX0_closest 4 = .ok (.iload_n 2, 1) := dk_28 (dk_at dksX0_closest_0 4 rfl rfl)
theorem dX0_closest_5 : decode cX0_closest 5 = .ok (.aload_n 0, 1) := dk_42 (dk_at dksX0_closest_0 5 rfl rfl)
theorem dX0_closest_6 : decode cX0_closest 6 = .ok (.invokevirtual 151, 3) := dk_182 0 151 (dk_at dksX0_closest_0 6 rfl rfl)
theorem dX0_closest_9 : decode cX0_closest 9 = .ok (.if_icmp .ge 32, 3) := dk_162 0 32 (dk_at dksX0_closest_0 9 rfl rfl)
theorem dX0_closest_12 : decode cX0_closest 12 = .ok (.iload_n 1, 1) := dk_27 (dk_at dksX0_closest_0 12 rfl rfl)
theorem dX0_closest_13 : decode cX0_closest 13 = .ok (.ifCond .lt 16, 3) := dk_155 0 16 (dk_at dksX0_closest_0 13 rfl rfl)
theorem dX0_closest_16 : decode cX0_closest 16 = .ok (.aload_n 0, 1) := dk_42 (dk_at dksX0_closest_0 16 rfl rfl)
theorem dX0_closest_17 : decode cX0_closest 17 = .ok (.iload_n 2, 1) := dk_28 (dk_at dksX0_closest_0 17 rfl rfl)
theorem dX0_closest_18 : decode cX0_closest 18 = .ok (.invokevirtual 321, 3) := dk_182 1 65 (dk_at dksX0_closest_0 18 rfl rfl)
theorem dX0_closest_21 : decode cX0_closest 21 = .ok (.aload_n 0, 1) := dk_42 (dk_at dksX0_closest_0 21 rfl rfl)
theorem dX0_closest_22 : decode cX0_closest 22 = .ok (.iload_n 1, 1) := dk_27 (dk_at dksX0_closest_0 22 rfl rfl)
theorem dX0_closest_23 : decode cX0_closest 23 = .ok (.invokevirtual 321, 3) := dk_182 1 65 (dk_at dksX0_closest_1 0 rfl rfl)
theorem dX0_closest_26 : decode cX0_closest 26 = .ok (.if_icmp .le 7, 3) := dk_164 0 7 (dk_at dksX0_closest_1 3 rfl rfl)
theorem dX0_closest_29 : decode cX0_closest 29 = .ok (.iload_n 2, 1) := dk_28 (dk_at dksX0_closest_1 6 rfl rfl)
theorem dX0_closest_30 : decode cX0_closest 30 = .ok (.goto 4, 3) := dk_167 0 4 (dk_at dksX0_closest_1 7 rfl rfl)
theorem dX0_closest_33 : decode cX0_closest 33 = .ok (.iload_n 1, 1) := dk_27 (dk_at dksX0_closest_1 10 rfl rfl)
theorem dX0_closest_34 : decode cX0_closest 34 = .ok (.istore_n 1, 1) := dk_60 (dk_at dksX0_closest_1 11 rfl rfl)
theorem dX0_closest_35 : decode cX0_closest 35 = .ok (.iinc 2 1, 3) := dk_132 2 1 (dk_at dksX0_closest_1 12 rfl rfl)
theorem dX0_closest_38 : decode cX0_closest 38 = .ok (.goto (-34), 3) := dk_167 255 222 (dk_at dksX0_closest_1 15 rfl rfl)
theorem dX0_closest_41 : decode cX0_closest 41 = .ok (.iload_n 1, 1) := dk_27 (dk_at dksX0_closest_1 18 rfl rfl)
theorem dX0_closest_42 : decode cX0_closest 42 = .ok (.ireturn, 1) := dk_172 (dk_at dksX0_closest_1 19 rfl rfl)
abbrev cX0_manyBy : ByteArray := prog_1_method_68_code
def yX0_manyBy : MethodName := ⟨RX0, "manyBy", "(I)I"⟩
def dkwX0_manyBy_0 : List UInt8 := [42, 180, 0, 42, 27, 182, 0, 177, 42, 182, 0, 181, 126, 184, 0, 239, 172]
abbrev dktX0_manyBy_0 : List UInt8 := dkwX0_manyBy_0 ++ []
theorem dksX0_manyBy_0 : cX0_manyBy.data.toList.drop 0 = dktX0_manyBy_0 := by decide +kernel
theorem dX0_manyBy_0 : decode cX0_manyBy 0 = .ok (.aload_n 0, 1) := dk_42 (dk_at dksX0_manyBy_0 0 rfl rfl)
theorem dX0_manyBy_1 : decode cX0_manyBy 1 = .ok (.getfield 42, 3) := dk_180 0 42 (dk_at dksX0_manyBy_0 1 rfl rfl)
theorem dX0_manyBy_4 : decode cX0_manyBy 4 = .ok (.iload_n 1, 1) := dk_27 (dk_at dksX0_manyBy_0 4 rfl rfl)
theorem dX0_manyBy_5 : decode cX0_manyBy 5 = .ok (.invokevirtual 177, 3) := dk_182 0 177 (dk_at dksX0_manyBy_0 5 rfl rfl)
theorem dX0_manyBy_8 : decode cX0_manyBy 8 = .ok (.aload_n 0, 1) := dk_42 (dk_at dksX0_manyBy_0 8 rfl rfl)
theorem dX0_manyBy_9 : decode cX0_manyBy 9 = .ok (.invokevirtual 181, 3) := dk_182 0 181 (dk_at dksX0_manyBy_0 9 rfl rfl)
theorem dX0_manyBy_12 : decode cX0_manyBy 12 = .ok (.iand, 1) := dk_126 (dk_at dksX0_manyBy_0 12 rfl rfl)
theorem dX0_manyBy_13 : decode cX0_manyBy 13 = .ok (.invokestatic 239, 3) := dk_184 0 239 (dk_at dksX0_manyBy_0 13 rfl rfl)
theorem dX0_manyBy_16 : decode cX0_manyBy 16 = .ok (.ireturn, 1) := dk_172 (dk_at dksX0_manyBy_0 16 rfl rfl)
abbrev cX0_rank : ByteArray := prog_1_method_71_code
def yX0_rank : MethodName := ⟨RX0, "rank", "()I"⟩
def dkwX0_rank_4 : List UInt8 := [172]
abbrev dktX0_rank_4 : List UInt8 := dkwX0_rank_4 ++ []
def dkwX0_rank_3 : List UInt8 := [180, 0, 67, 28, 29, 79, 132, 2, 1, 167, 255, 182, 42, 42, 182, 0, 151, 181, 0, 123, 42, 180, 0, 123]
abbrev dktX0_rank_3 : List UInt8 := dkwX0_rank_3 ++ dktX0_rank_4
def dkwX0_rank_2 : List UInt8 := [182, 1, 68, 164, 0, 6, 21, 4, 62, 132, 4, 1, 167, 255, 214, 27, 4, 29, 120, 128, 60, 42]
abbrev dktX0_rank_2 : List UInt8 := dkwX0_rank_2 ++ dktX0_rank_3
def dkwX0_rank_1 : List UInt8 := [162, 0, 39, 27, 21, 4, 122, 4, 126, 154, 0, 24, 29, 155, 0, 17, 42, 21, 4, 182, 1, 68, 42, 29]
abbrev dktX0_rank_1 : List UInt8 := dkwX0_rank_1 ++ dktX0_rank_2
def dkwX0_rank_0 : List UInt8 := [3, 60, 3, 61, 28, 42, 182, 0, 151, 162, 0, 72, 2, 62, 3, 54, 4, 21, 4, 42, 182, 0, 151]
abbrev dktX0_rank_0 : List UInt8 := dkwX0_rank_0 ++ dktX0_rank_1
theorem dksX0_rank_0 : cX0_rank.data.toList.drop 0 = dktX0_rank_0 := by decide +kernel
theorem dksX0_rank_1 : cX0_rank.data.toList.drop 23 = dktX0_rank_1 := dk_seg dksX0_rank_0 23 rfl rfl
theorem dksX0_rank_2 : cX0_rank.data.toList.drop 47 = dktX0_rank_2 := dk_seg dksX0_rank_1 24 rfl rfl
theorem dksX0_rank_3 : cX0_rank.data.toList.drop 69 = dktX0_rank_3 := dk_seg dksX0_rank_2 22 rfl rfl
theorem dksX0_rank_4 : cX0_rank.data.toList.drop 93 = dktX0_rank_4 := dk_seg dksX0_rank_3 24 rfl rfl
theorem dX0_rank_0 : decode cX0_rank 0 = .ok (.iconst 0, 1) := dk_3 (dk_at dksX0_rank_0 0 rfl rfl)
theorem dX0_rank_1 : decode cX0_rank 1 = .ok (.istore_n 1, 1) := dk_60 (dk_at dksX0_rank_0 1 rfl rfl)
theorem dX0_rank_2 : decode cX0_rank 2 = .ok (.iconst 0, 1) := dk_3 (dk_at dksX0_rank_0 2 rfl rfl)
theorem dX0_rank_3 : decode cX0_rank 3 = .ok (.istore_n 2, 1) := dk_61 (dk_at dksX0_rank_0 3 rfl rfl)
theorem dX0_rank_4 : decode cX0_rank 4 = .ok (.iload_n 2, 1) := dk_28 (dk_at dksX0_rank_0 4 rfl rfl)
theorem dX0_rank_5 : decode cX0_rank 5 = .ok (.aload_n 0, 1) := dk_42 (dk_at dksX0_rank_0 5 rfl rfl)
theorem dX0_rank_6 : decode cX0_rank 6 = .ok (.invokevirtual 151, 3) := dk_182 0 151 (dk_at dksX0_rank_0 6 rfl rfl)
theorem dX0_rank_9 : decode cX0_rank 9 = .ok (.if_icmp .ge 72, 3) := dk_162 0 72 (dk_at dksX0_rank_0 9 rfl rfl)
theorem dX0_rank_12 : decode cX0_rank 12 = .ok (.iconst (-1), 1) := dk_2 (dk_at dksX0_rank_0 12 rfl rfl)
theorem dX0_rank_13 : decode cX0_rank 13 = .ok (.istore_n 3, 1) := dk_62 (dk_at dksX0_rank_0 13 rfl rfl)
theorem dX0_rank_14 : decode cX0_rank 14 = .ok (.iconst 0, 1) := dk_3 (dk_at dksX0_rank_0 14 rfl rfl)
theorem dX0_rank_15 : decode cX0_rank 15 = .ok (.istore 4, 2) := dk_54 4 (dk_at dksX0_rank_0 15 rfl rfl)
theorem dX0_rank_17 : decode cX0_rank 17 = .ok (.iload 4, 2) := dk_21 4 (dk_at dksX0_rank_0 17 rfl rfl)
theorem dX0_rank_19 : decode cX0_rank 19 = .ok (.aload_n 0, 1) := dk_42 (dk_at dksX0_rank_0 19 rfl rfl)
theorem dX0_rank_20 : decode cX0_rank 20 = .ok (.invokevirtual 151, 3) := dk_182 0 151 (dk_at dksX0_rank_0 20 rfl rfl)
theorem dX0_rank_23 : decode cX0_rank 23 = .ok (.if_icmp .ge 39, 3) := dk_162 0 39 (dk_at dksX0_rank_1 0 rfl rfl)
theorem dX0_rank_26 : decode cX0_rank 26 = .ok (.iload_n 1, 1) := dk_27 (dk_at dksX0_rank_1 3 rfl rfl)
theorem dX0_rank_27 : decode cX0_rank 27 = .ok (.iload 4, 2) := dk_21 4 (dk_at dksX0_rank_1 4 rfl rfl)
theorem dX0_rank_29 : decode cX0_rank 29 = .ok (.ishr, 1) := dk_122 (dk_at dksX0_rank_1 6 rfl rfl)
theorem dX0_rank_30 : decode cX0_rank 30 = .ok (.iconst 1, 1) := dk_4 (dk_at dksX0_rank_1 7 rfl rfl)
theorem dX0_rank_31 : decode cX0_rank 31 = .ok (.iand, 1) := dk_126 (dk_at dksX0_rank_1 8 rfl rfl)
theorem dX0_rank_32 : decode cX0_rank 32 = .ok (.ifCond .ne 24, 3) := dk_154 0 24 (dk_at dksX0_rank_1 9 rfl rfl)
theorem dX0_rank_35 : decode cX0_rank 35 = .ok (.iload_n 3, 1) := dk_29 (dk_at dksX0_rank_1 12 rfl rfl)
theorem dX0_rank_36 : decode cX0_rank 36 = .ok (.ifCond .lt 17, 3) := dk_155 0 17 (dk_at dksX0_rank_1 13 rfl rfl)
theorem dX0_rank_39 : decode cX0_rank 39 = .ok (.aload_n 0, 1) := dk_42 (dk_at dksX0_rank_1 16 rfl rfl)
theorem dX0_rank_40 : decode cX0_rank 40 = .ok (.iload 4, 2) := dk_21 4 (dk_at dksX0_rank_1 17 rfl rfl)
theorem dX0_rank_42 : decode cX0_rank 42 = .ok (.invokevirtual 324, 3) := dk_182 1 68 (dk_at dksX0_rank_1 19 rfl rfl)
theorem dX0_rank_45 : decode cX0_rank 45 = .ok (.aload_n 0, 1) := dk_42 (dk_at dksX0_rank_1 22 rfl rfl)
theorem dX0_rank_46 : decode cX0_rank 46 = .ok (.iload_n 3, 1) := dk_29 (dk_at dksX0_rank_1 23 rfl rfl)
theorem dX0_rank_47 : decode cX0_rank 47 = .ok (.invokevirtual 324, 3) := dk_182 1 68 (dk_at dksX0_rank_2 0 rfl rfl)
theorem dX0_rank_50 : decode cX0_rank 50 = .ok (.if_icmp .le 6, 3) := dk_164 0 6 (dk_at dksX0_rank_2 3 rfl rfl)
theorem dX0_rank_53 : decode cX0_rank 53 = .ok (.iload 4, 2) := dk_21 4 (dk_at dksX0_rank_2 6 rfl rfl)
theorem dX0_rank_55 : decode cX0_rank 55 = .ok (.istore_n 3, 1) := dk_62 (dk_at dksX0_rank_2 8 rfl rfl)
theorem dX0_rank_56 : decode cX0_rank 56 = .ok (.iinc 4 1, 3) := dk_132 4 1 (dk_at dksX0_rank_2 9 rfl rfl)
theorem dX0_rank_59 : decode cX0_rank 59 = .ok (.goto (-42), 3) := dk_167 255 214 (dk_at dksX0_rank_2 12 rfl rfl)
theorem dX0_rank_62 : decode cX0_rank 62 = .ok (.iload_n 1, 1) := dk_27 (dk_at dksX0_rank_2 15 rfl rfl)
theorem dX0_rank_63 : decode cX0_rank 63 = .ok (.iconst 1, 1) := dk_4 (dk_at dksX0_rank_2 16 rfl rfl)
theorem dX0_rank_64 : decode cX0_rank 64 = .ok (.iload_n 3, 1) := dk_29 (dk_at dksX0_rank_2 17 rfl rfl)
theorem dX0_rank_65 : decode cX0_rank 65 = .ok (.ishl, 1) := dk_120 (dk_at dksX0_rank_2 18 rfl rfl)
theorem dX0_rank_66 : decode cX0_rank 66 = .ok (.ior, 1) := dk_128 (dk_at dksX0_rank_2 19 rfl rfl)
theorem dX0_rank_67 : decode cX0_rank 67 = .ok (.istore_n 1, 1) := dk_60 (dk_at dksX0_rank_2 20 rfl rfl)
theorem dX0_rank_68 : decode cX0_rank 68 = .ok (.aload_n 0, 1) := dk_42 (dk_at dksX0_rank_2 21 rfl rfl)
theorem dX0_rank_69 : decode cX0_rank 69 = .ok (.getfield 67, 3) := dk_180 0 67 (dk_at dksX0_rank_3 0 rfl rfl)
theorem dX0_rank_72 : decode cX0_rank 72 = .ok (.iload_n 2, 1) := dk_28 (dk_at dksX0_rank_3 3 rfl rfl)
theorem dX0_rank_73 : decode cX0_rank 73 = .ok (.iload_n 3, 1) := dk_29 (dk_at dksX0_rank_3 4 rfl rfl)
theorem dX0_rank_74 : decode cX0_rank 74 = .ok (.iastore, 1) := dk_79 (dk_at dksX0_rank_3 5 rfl rfl)
theorem dX0_rank_75 : decode cX0_rank 75 = .ok (.iinc 2 1, 3) := dk_132 2 1 (dk_at dksX0_rank_3 6 rfl rfl)
theorem dX0_rank_78 : decode cX0_rank 78 = .ok (.goto (-74), 3) := dk_167 255 182 (dk_at dksX0_rank_3 9 rfl rfl)
theorem dX0_rank_81 : decode cX0_rank 81 = .ok (.aload_n 0, 1) := dk_42 (dk_at dksX0_rank_3 12 rfl rfl)
theorem dX0_rank_82 : decode cX0_rank 82 = .ok (.aload_n 0, 1) := dk_42 (dk_at dksX0_rank_3 13 rfl rfl)
theorem dX0_rank_83 : decode cX0_rank 83 = .ok (.invokevirtual 151, 3) := dk_182 0 151 (dk_at dksX0_rank_3 14 rfl rfl)
theorem dX0_rank_86 : decode cX0_rank 86 = .ok (.putfield 123, 3) := dk_181 0 123 (dk_at dksX0_rank_3 17 rfl rfl)
theorem dX0_rank_89 : decode cX0_rank 89 = .ok (.aload_n 0, 1) := dk_42 (dk_at dksX0_rank_3 20 rfl rfl)
theorem dX0_rank_90 : decode cX0_rank 90 = .ok (.getfield 123, 3) := dk_180 0 123 (dk_at dksX0_rank_3 21 rfl rfl)
theorem dX0_rank_93 : decode cX0_rank 93 = .ok (.ireturn, 1) := dk_172 (dk_at dksX0_rank_4 0 rfl rfl)
abbrev cX0_heatBy : ByteArray := prog_1_method_70_code
def yX0_heatBy : MethodName := ⟨RX0, "heatBy", "(I)I"⟩
def dkwX0_heatBy_0 : List UInt8 := [42, 180, 0, 42, 42, 180, 0, 42, 27, 182, 0, 177, 42, 182, 0, 181, 126, 182, 0, 209, 172]
abbrev dktX0_heatBy_0 : List UInt8 := dkwX0_heatBy_0 ++ []
theorem dksX0_heatBy_0 : cX0_heatBy.data.toList.drop 0 = dktX0_heatBy_0 := by decide +kernel
theorem dX0_heatBy_0 : decode cX0_heatBy 0 = .ok (.aload_n 0, 1) := dk_42 (dk_at dksX0_heatBy_0 0 rfl rfl)
theorem dX0_heatBy_1 : decode cX0_heatBy 1 = .ok (.getfield 42, 3) := dk_180 0 42 (dk_at dksX0_heatBy_0 1 rfl rfl)
theorem dX0_heatBy_4 : decode cX0_heatBy 4 = .ok (.aload_n 0, 1) := dk_42 (dk_at dksX0_heatBy_0 4 rfl rfl)
theorem dX0_heatBy_5 : decode cX0_heatBy 5 = .ok (.getfield 42, 3) := dk_180 0 42 (dk_at dksX0_heatBy_0 5 rfl rfl)
theorem dX0_heatBy_8 : decode cX0_heatBy 8 = .ok (.iload_n 1, 1) := dk_27 (dk_at dksX0_heatBy_0 8 rfl rfl)
theorem dX0_heatBy_9 : decode cX0_heatBy 9 = .ok (.invokevirtual 177, 3) := dk_182 0 177 (dk_at dksX0_heatBy_0 9 rfl rfl)
theorem dX0_heatBy_12 : decode cX0_heatBy 12 = .ok (.aload_n 0, 1) := dk_42 (dk_at dksX0_heatBy_0 12 rfl rfl)
theorem dX0_heatBy_13 : decode cX0_heatBy 13 = .ok (.invokevirtual 181, 3) := dk_182 0 181 (dk_at dksX0_heatBy_0 13 rfl rfl)
theorem dX0_heatBy_16 : decode cX0_heatBy 16 = .ok (.iand, 1) := dk_126 (dk_at dksX0_heatBy_0 16 rfl rfl)
theorem dX0_heatBy_17 : decode cX0_heatBy 17 = .ok (.invokevirtual 209, 3) := dk_182 0 209 (dk_at dksX0_heatBy_0 17 rfl rfl)
theorem dX0_heatBy_20 : decode cX0_heatBy 20 = .ok (.ireturn, 1) := dk_172 (dk_at dksX0_heatBy_0 20 rfl rfl)
abbrev cX0_near : ByteArray := prog_1_method_72_code
def yX0_near : MethodName := ⟨RX0, "near", "()I"⟩
def dkwX0_near_2 : List UInt8 := [132, 2, 1, 167, 255, 209, 27, 172]
abbrev dktX0_near_2 : List UInt8 := dkwX0_near_2 ++ []
def dkwX0_near_1 : List UInt8 := [42, 180, 0, 53, 42, 180, 0, 42, 28, 182, 1, 71, 153, 0, 9, 4, 28, 120, 167, 0, 4, 3, 128, 60]
abbrev dktX0_near_1 : List UInt8 := dkwX0_near_1 ++ dktX0_near_2
def dkwX0_near_0 : List UInt8 := [3, 60, 3, 61, 28, 42, 182, 0, 140, 162, 0, 45, 27, 42, 180, 0, 53, 28, 182, 0, 202, 154, 0, 24]
abbrev dktX0_near_0 : List UInt8 := dkwX0_near_0 ++ dktX0_near_1
theorem dksX0_near_0 : cX0_near.data.toList.drop 0 = dktX0_near_0 := by decide +kernel
theorem dksX0_near_1 : cX0_near.data.toList.drop 24 = dktX0_near_1 := dk_seg dksX0_near_0 24 rfl rfl
theorem dksX0_near_2 : cX0_near.data.toList.drop 48 = dktX0_near_2 := dk_seg dksX0_near_1 24 rfl rfl
theorem dX0_near_0 : decode cX0_near 0 = .ok (.iconst 0, 1) := dk_3 (dk_at dksX0_near_0 0 rfl rfl)
theorem dX0_near_1 : decode cX0_near 1 = .ok (.istore_n 1, 1) := dk_60 (dk_at dksX0_near_0 1 rfl rfl)
theorem dX0_near_2 : decode cX0_near 2 = .ok (.iconst 0, 1) := dk_3 (dk_at dksX0_near_0 2 rfl rfl)
theorem dX0_near_3 : decode cX0_near 3 = .ok (.istore_n 2, 1) := dk_61 (dk_at dksX0_near_0 3 rfl rfl)
theorem dX0_near_4 : decode cX0_near 4 = .ok (.iload_n 2, 1) := dk_28 (dk_at dksX0_near_0 4 rfl rfl)
theorem dX0_near_5 : decode cX0_near 5 = .ok (.aload_n 0, 1) := dk_42 (dk_at dksX0_near_0 5 rfl rfl)
theorem dX0_near_6 : decode cX0_near 6 = .ok (.invokevirtual 140, 3) := dk_182 0 140 (dk_at dksX0_near_0 6 rfl rfl)
theorem dX0_near_9 : decode cX0_near 9 = .ok (.if_icmp .ge 45, 3) := dk_162 0 45 (dk_at dksX0_near_0 9 rfl rfl)
theorem dX0_near_12 : decode cX0_near 12 = .ok (.iload_n 1, 1) := dk_27 (dk_at dksX0_near_0 12 rfl rfl)
theorem dX0_near_13 : decode cX0_near 13 = .ok (.aload_n 0, 1) := dk_42 (dk_at dksX0_near_0 13 rfl rfl)
theorem dX0_near_14 : decode cX0_near 14 = .ok (.getfield 53, 3) := dk_180 0 53 (dk_at dksX0_near_0 14 rfl rfl)
theorem dX0_near_17 : decode cX0_near 17 = .ok (.iload_n 2, 1) := dk_28 (dk_at dksX0_near_0 17 rfl rfl)
theorem dX0_near_18 : decode cX0_near 18 = .ok (.invokevirtual 202, 3) := dk_182 0 202 (dk_at dksX0_near_0 18 rfl rfl)
theorem dX0_near_21 : decode cX0_near 21 = .ok (.ifCond .ne 24, 3) := dk_154 0 24 (dk_at dksX0_near_0 21 rfl rfl)
theorem dX0_near_24 : decode cX0_near 24 = .ok (.aload_n 0, 1) := dk_42 (dk_at dksX0_near_1 0 rfl rfl)
theorem dX0_near_25 : decode cX0_near 25 = .ok (.getfield 53, 3) := dk_180 0 53 (dk_at dksX0_near_1 1 rfl rfl)
theorem dX0_near_28 : decode cX0_near 28 = .ok (.aload_n 0, 1) := dk_42 (dk_at dksX0_near_1 4 rfl rfl)
theorem dX0_near_29 : decode cX0_near 29 = .ok (.getfield 42, 3) := dk_180 0 42 (dk_at dksX0_near_1 5 rfl rfl)
theorem dX0_near_32 : decode cX0_near 32 = .ok (.iload_n 2, 1) := dk_28 (dk_at dksX0_near_1 8 rfl rfl)
theorem dX0_near_33 : decode cX0_near 33 = .ok (.invokevirtual 327, 3) := dk_182 1 71 (dk_at dksX0_near_1 9 rfl rfl)
theorem dX0_near_36 : decode cX0_near 36 = .ok (.ifCond .eq 9, 3) := dk_153 0 9 (dk_at dksX0_near_1 12 rfl rfl)
theorem dX0_near_39 : decode cX0_near 39 = .ok (.iconst 1, 1) := dk_4 (dk_at dksX0_near_1 15 rfl rfl)
theorem dX0_near_40 : decode cX0_near 40 = .ok (.iload_n 2, 1) := dk_28 (dk_at dksX0_near_1 16 rfl rfl)
theorem dX0_near_41 : decode cX0_near 41 = .ok (.ishl, 1) := dk_120 (dk_at dksX0_near_1 17 rfl rfl)
theorem dX0_near_42 : decode cX0_near 42 = .ok (.goto 4, 3) := dk_167 0 4 (dk_at dksX0_near_1 18 rfl rfl)
theorem dX0_near_45 : decode cX0_near 45 = .ok (.iconst 0, 1) := dk_3 (dk_at dksX0_near_1 21 rfl rfl)
theorem dX0_near_46 : decode cX0_near 46 = .ok (.ior, 1) := dk_128 (dk_at dksX0_near_1 22 rfl rfl)
theorem dX0_near_47 : decode cX0_near 47 = .ok (.istore_n 1, 1) := dk_60 (dk_at dksX0_near_1 23 rfl rfl)
theorem dX0_near_48 : decode cX0_near 48 = .ok (.iinc 2 1, 3) := dk_132 2 1 (dk_at dksX0_near_2 0 rfl rfl)
theorem dX0_near_51 : decode cX0_near 51 = .ok (.goto (-47), 3) := dk_167 255 209 (dk_at dksX0_near_2 3 rfl rfl)
theorem dX0_near_54 : decode cX0_near 54 = .ok (.iload_n 1, 1) := dk_27 (dk_at dksX0_near_2 6 rfl rfl)
theorem dX0_near_55 : decode cX0_near 55 = .ok (.ireturn, 1) := dk_172 (dk_at dksX0_near_2 7 rfl rfl)
abbrev cX0_scandal : ByteArray := prog_1_method_73_code
def yX0_scandal : MethodName := ⟨RX0, "scandal", "()I"⟩
def dkwX0_scandal_0 : List UInt8 := [42, 180, 0, 42, 42, 180, 0, 53, 180, 0, 162, 182, 0, 209, 172]
abbrev dktX0_scandal_0 : List UInt8 := dkwX0_scandal_0 ++ []
theorem dksX0_scandal_0 : cX0_scandal.data.toList.drop 0 = dktX0_scandal_0 := by decide +kernel
theorem dX0_scandal_0 : decode cX0_scandal 0 = .ok (.aload_n 0, 1) := dk_42 (dk_at dksX0_scandal_0 0 rfl rfl)
theorem dX0_scandal_1 : decode cX0_scandal 1 = .ok (.getfield 42, 3) := dk_180 0 42 (dk_at dksX0_scandal_0 1 rfl rfl)
theorem dX0_scandal_4 : decode cX0_scandal 4 = .ok (.aload_n 0, 1) := dk_42 (dk_at dksX0_scandal_0 4 rfl rfl)
theorem dX0_scandal_5 : decode cX0_scandal 5 = .ok (.getfield 53, 3) := dk_180 0 53 (dk_at dksX0_scandal_0 5 rfl rfl)
theorem dX0_scandal_8 : decode cX0_scandal 8 = .ok (.getfield 162, 3) := dk_180 0 162 (dk_at dksX0_scandal_0 8 rfl rfl)
theorem dX0_scandal_11 : decode cX0_scandal 11 = .ok (.invokevirtual 209, 3) := dk_182 0 209 (dk_at dksX0_scandal_0 11 rfl rfl)
theorem dX0_scandal_14 : decode cX0_scandal 14 = .ok (.ireturn, 1) := dk_172 (dk_at dksX0_scandal_0 14 rfl rfl)
abbrev cX0_next : ByteArray := prog_1_method_74_code
def yX0_next : MethodName := ⟨RX0, "next", "()I"⟩
def dkwX0_next_0 : List UInt8 := [42, 180, 0, 53, 42, 180, 0, 42, 182, 1, 1, 172]
abbrev dktX0_next_0 : List UInt8 := dkwX0_next_0 ++ []
theorem dksX0_next_0 : cX0_next.data.toList.drop 0 = dktX0_next_0 := by decide +kernel
theorem dX0_next_0 : decode cX0_next 0 = .ok (.aload_n 0, 1) := dk_42 (dk_at dksX0_next_0 0 rfl rfl)
theorem dX0_next_1 : decode cX0_next 1 = .ok (.getfield 53, 3) := dk_180 0 53 (dk_at dksX0_next_0 1 rfl rfl)
theorem dX0_next_4 : decode cX0_next 4 = .ok (.aload_n 0, 1) := dk_42 (dk_at dksX0_next_0 4 rfl rfl)
theorem dX0_next_5 : decode cX0_next 5 = .ok (.getfield 42, 3) := dk_180 0 42 (dk_at dksX0_next_0 5 rfl rfl)
theorem dX0_next_8 : decode cX0_next 8 = .ok (.invokevirtual 257, 3) := dk_182 1 1 (dk_at dksX0_next_0 8 rfl rfl)
theorem dX0_next_11 : decode cX0_next 11 = .ok (.ireturn, 1) := dk_172 (dk_at dksX0_next_0 11 rfl rfl)
abbrev cX0_odds : ByteArray := prog_1_method_76_code
def yX0_odds : MethodName := ⟨RX0, "odds", "(II)I"⟩
def dkwX0_odds_3 : List UInt8 := [21, 4, 29, 184, 1, 78, 108, 172]
abbrev dktX0_odds_3 : List UInt8 := dkwX0_odds_3 ++ []
def dkwX0_odds_2 : List UInt8 := [21, 4, 16, 100, 104, 54, 4, 132, 5, 1, 167, 255, 227, 28, 154, 0, 7, 29, 167, 0, 5, 21, 4]
abbrev dktX0_odds_2 : List UInt8 := dkwX0_odds_2 ++ dktX0_odds_3
def dkwX0_odds_1 : List UInt8 := [54, 4, 3, 54, 5, 21, 5, 27, 162, 0, 29, 29, 16, 100, 42, 180, 0, 42, 180, 1, 75, 100, 104, 62]
abbrev dktX0_odds_1 : List UInt8 := dkwX0_odds_1 ++ dktX0_odds_2
def dkwX0_odds_0 : List UInt8 := [27, 3, 7, 184, 0, 155, 153, 0, 12, 28, 3, 4, 184, 0, 155, 154, 0, 5, 2, 172, 4, 62, 4]
abbrev dktX0_odds_0 : List UInt8 := dkwX0_odds_0 ++ dktX0_odds_1
theorem dksX0_odds_0 : cX0_odds.data.toList.drop 0 = dktX0_odds_0 := by decide +kernel
theorem dksX0_odds_1 : cX0_odds.data.toList.drop 23 = dktX0_odds_1 := dk_seg dksX0_odds_0 23 rfl rfl
theorem dksX0_odds_2 : cX0_odds.data.toList.drop 47 = dktX0_odds_2 := dk_seg dksX0_odds_1 24 rfl rfl
theorem dksX0_odds_3 : cX0_odds.data.toList.drop 70 = dktX0_odds_3 := dk_seg dksX0_odds_2 23 rfl rfl
theorem dX0_odds_0 : decode cX0_odds 0 = .ok (.iload_n 1, 1) := dk_27 (dk_at dksX0_odds_0 0 rfl rfl)
theorem dX0_odds_1 : decode cX0_odds 1 = .ok (.iconst 0, 1) := dk_3 (dk_at dksX0_odds_0 1 rfl rfl)
theorem dX0_odds_2 : decode cX0_odds 2 = .ok (.iconst 4, 1) := dk_7 (dk_at dksX0_odds_0 2 rfl rfl)
theorem dX0_odds_3 : decode cX0_odds 3 = .ok (.invokestatic 155, 3) := dk_184 0 155 (dk_at dksX0_odds_0 3 rfl rfl)
theorem dX0_odds_6 : decode cX0_odds 6 = .ok (.ifCond .eq 12, 3) := dk_153 0 12 (dk_at dksX0_odds_0 6 rfl rfl)
theorem dX0_odds_9 : decode cX0_odds 9 = .ok (.iload_n 2, 1) := dk_28 (dk_at dksX0_odds_0 9 rfl rfl)
theorem dX0_odds_10 : decode cX0_odds 10 = .ok (.iconst 0, 1) := dk_3 (dk_at dksX0_odds_0 10 rfl rfl)
theorem dX0_odds_11 : decode cX0_odds 11 = .ok (.iconst 1, 1) := dk_4 (dk_at dksX0_odds_0 11 rfl rfl)
theorem dX0_odds_12 : decode cX0_odds 12 = .ok (.invokestatic 155, 3) := dk_184 0 155 (dk_at dksX0_odds_0 12 rfl rfl)
theorem dX0_odds_15 : decode cX0_odds 15 = .ok (.ifCond .ne 5, 3) := dk_154 0 5 (dk_at dksX0_odds_0 15 rfl rfl)
theorem dX0_odds_18 : decode cX0_odds 18 = .ok (.iconst (-1), 1) := dk_2 (dk_at dksX0_odds_0 18 rfl rfl)
theorem dX0_odds_19 : decode cX0_odds 19 = .ok (.ireturn, 1) := dk_172 (dk_at dksX0_odds_0 19 rfl rfl)
theorem dX0_odds_20 : decode cX0_odds 20 = .ok (.iconst 1, 1) := dk_4 (dk_at dksX0_odds_0 20 rfl rfl)
theorem dX0_odds_21 : decode cX0_odds 21 = .ok (.istore_n 3, 1) := dk_62 (dk_at dksX0_odds_0 21 rfl rfl)
theorem dX0_odds_22 : decode cX0_odds 22 = .ok (.iconst 1, 1) := dk_4 (dk_at dksX0_odds_0 22 rfl rfl)
theorem dX0_odds_23 : decode cX0_odds 23 = .ok (.istore 4, 2) := dk_54 4 (dk_at dksX0_odds_1 0 rfl rfl)
theorem dX0_odds_25 : decode cX0_odds 25 = .ok (.iconst 0, 1) := dk_3 (dk_at dksX0_odds_1 2 rfl rfl)
theorem dX0_odds_26 : decode cX0_odds 26 = .ok (.istore 5, 2) := dk_54 5 (dk_at dksX0_odds_1 3 rfl rfl)
theorem dX0_odds_28 : decode cX0_odds 28 = .ok (.iload 5, 2) := dk_21 5 (dk_at dksX0_odds_1 5 rfl rfl)
theorem dX0_odds_30 : decode cX0_odds 30 = .ok (.iload_n 1, 1) := dk_27 (dk_at dksX0_odds_1 7 rfl rfl)
theorem dX0_odds_31 : decode cX0_odds 31 = .ok (.if_icmp .ge 29, 3) := dk_162 0 29 (dk_at dksX0_odds_1 8 rfl rfl)
theorem dX0_odds_34 : decode cX0_odds 34 = .ok (.iload_n 3, 1) := dk_29 (dk_at dksX0_odds_1 11 rfl rfl)
theorem dX0_odds_35 : decode cX0_odds 35 = .ok (.bipush 100, 2) := dk_16 100 (dk_at dksX0_odds_1 12 rfl rfl)
theorem dX0_odds_37 : decode cX0_odds 37 = .ok (.aload_n 0, 1) := dk_42 (dk_at dksX0_odds_1 14 rfl rfl)
theorem dX0_odds_38 : decode cX0_odds 38 = .ok (.getfield 42, 3) := dk_180 0 42 (dk_at dksX0_odds_1 15 rfl rfl)
theorem dX0_odds_41 : decode cX0_odds 41 = .ok (.getfield 331, 3) := dk_180 1 75 (dk_at dksX0_odds_1 18 rfl rfl)
theorem dX0_odds_44 : decode cX0_odds 44 = .ok (.isub, 1) := dk_100 (dk_at dksX0_odds_1 21 rfl rfl)
theorem dX0_odds_45 : decode cX0_odds 45 = .ok (.imul, 1) := dk_104 (dk_at dksX0_odds_1 22 rfl rfl)
theorem dX0_odds_46 : decode cX0_odds 46 = .ok (.istore_n 3, 1) := dk_62 (dk_at dksX0_odds_1 23 rfl rfl)
theorem dX0_odds_47 : decode cX0_odds 47 = .ok (.iload 4, 2) := dk_21 4 (dk_at dksX0_odds_2 0 rfl rfl)
theorem dX0_odds_49 : decode cX0_odds 49 = .ok (.bipush 100, 2) := dk_16 100 (dk_at dksX0_odds_2 2 rfl rfl)
theorem dX0_odds_51 : decode cX0_odds 51 = .ok (.imul, 1) := dk_104 (dk_at dksX0_odds_2 4 rfl rfl)
theorem dX0_odds_52 : decode cX0_odds 52 = .ok (.istore 4, 2) := dk_54 4 (dk_at dksX0_odds_2 5 rfl rfl)
theorem dX0_odds_54 : decode cX0_odds 54 = .ok (.iinc 5 1, 3) := dk_132 5 1 (dk_at dksX0_odds_2 7 rfl rfl)
theorem dX0_odds_57 : decode cX0_odds 57 = .ok (.goto (-29), 3) := dk_167 255 227 (dk_at dksX0_odds_2 10 rfl rfl)
theorem dX0_odds_60 : decode cX0_odds 60 = .ok (.iload_n 2, 1) := dk_28 (dk_at dksX0_odds_2 13 rfl rfl)
theorem dX0_odds_61 : decode cX0_odds 61 = .ok (.ifCond .ne 7, 3) := dk_154 0 7 (dk_at dksX0_odds_2 14 rfl rfl)
theorem dX0_odds_64 : decode cX0_odds 64 = .ok (.iload_n 3, 1) := dk_29 (dk_at dksX0_odds_2 17 rfl rfl)
theorem dX0_odds_65 : decode cX0_odds 65 = .ok (.goto 5, 3) := dk_167 0 5 (dk_at dksX0_odds_2 18 rfl rfl)
theorem dX0_odds_68 : decode cX0_odds 68 = .ok (.iload 4, 2) := dk_21 4 (dk_at dksX0_odds_2 21 rfl rfl)
theorem dX0_odds_70 : decode cX0_odds 70 = .ok (.iload 4, 2) := dk_21 4 (dk_at dksX0_odds_3 0 rfl rfl)
theorem dX0_odds_72 : decode cX0_odds 72 = .ok (.iload_n 3, 1) := dk_29 (dk_at dksX0_odds_3 2 rfl rfl)
theorem dX0_odds_73 : decode cX0_odds 73 = .ok (.invokestatic 334, 3) := dk_184 1 78 (dk_at dksX0_odds_3 3 rfl rfl)
theorem dX0_odds_76 : decode cX0_odds 76 = .ok (.idiv, 1) := dk_108 (dk_at dksX0_odds_3 6 rfl rfl)
theorem dX0_odds_77 : decode cX0_odds 77 = .ok (.ireturn, 1) := dk_172 (dk_at dksX0_odds_3 7 rfl rfl)
abbrev cX0_common : ByteArray := prog_1_method_75_code
def yX0_common : MethodName := ⟨RX0, "common", "(II)I"⟩
def dkwX0_common_0 : List UInt8 := [26, 61, 27, 62, 29, 153, 0, 16, 28, 29, 112, 54, 4, 29, 61, 21, 4, 62, 167, 255, 242, 28, 172]
abbrev dktX0_common_0 : List UInt8 := dkwX0_common_0 ++ []
theorem dksX0_common_0 : cX0_common.data.toList.drop 0 = dktX0_common_0 := by decide +kernel
theorem dX0_common_0 : decode cX0_common 0 = .ok (.iload_n 0, 1) := dk_26 (dk_at dksX0_common_0 0 rfl rfl)
theorem dX0_common_1 : decode cX0_common 1 = .ok (.istore_n 2, 1) := dk_61 (dk_at dksX0_common_0 1 rfl rfl)
theorem dX0_common_2 : decode cX0_common 2 = .ok (.iload_n 1, 1) := dk_27 (dk_at dksX0_common_0 2 rfl rfl)
theorem dX0_common_3 : decode cX0_common 3 = .ok (.istore_n 3, 1) := dk_62 (dk_at dksX0_common_0 3 rfl rfl)
theorem dX0_common_4 : decode cX0_common 4 = .ok (.iload_n 3, 1) := dk_29 (dk_at dksX0_common_0 4 rfl rfl)
theorem dX0_common_5 : decode cX0_common 5 = .ok (.ifCond .eq 16, 3) := dk_153 0 16 (dk_at dksX0_common_0 5 rfl rfl)
theorem dX0_common_8 : decode cX0_common 8 = .ok (.iload_n 2, 1) := dk_28 (dk_at dksX0_common_0 8 rfl rfl)
theorem dX0_common_9 : decode cX0_common 9 = .ok (.iload_n 3, 1) := dk_29 (dk_at dksX0_common_0 9 rfl rfl)
theorem dX0_common_10 : decode cX0_common 10 = .ok (.irem, 1) := dk_112 (dk_at dksX0_common_0 10 rfl rfl)
theorem dX0_common_11 : decode cX0_common 11 = .ok (.istore 4, 2) := dk_54 4 (dk_at dksX0_common_0 11 rfl rfl)
theorem dX0_common_13 : decode cX0_common 13 = .ok (.iload_n 3, 1) := dk_29 (dk_at dksX0_common_0 13 rfl rfl)
theorem dX0_common_14 : decode cX0_common 14 = .ok (.istore_n 2, 1) := dk_61 (dk_at dksX0_common_0 14 rfl rfl)
theorem dX0_common_15 : decode cX0_common 15 = .ok (.iload 4, 2) := dk_21 4 (dk_at dksX0_common_0 15 rfl rfl)
theorem dX0_common_17 : decode cX0_common 17 = .ok (.istore_n 3, 1) := dk_62 (dk_at dksX0_common_0 17 rfl rfl)
theorem dX0_common_18 : decode cX0_common 18 = .ok (.goto (-14), 3) := dk_167 255 242 (dk_at dksX0_common_0 18 rfl rfl)
theorem dX0_common_21 : decode cX0_common 21 = .ok (.iload_n 2, 1) := dk_28 (dk_at dksX0_common_0 21 rfl rfl)
theorem dX0_common_22 : decode cX0_common 22 = .ok (.ireturn, 1) := dk_172 (dk_at dksX0_common_0 22 rfl rfl)
abbrev cX0_lies : ByteArray := prog_1_method_77_code
def yX0_lies : MethodName := ⟨RX0, "lies", "(I)I"⟩
def dkwX0_lies_1 : List UInt8 := [172]
abbrev dktX0_lies_1 : List UInt8 := dkwX0_lies_1 ++ []
def dkwX0_lies_0 : List UInt8 := [27, 3, 42, 180, 0, 123, 4, 100, 184, 0, 155, 153, 0, 12, 42, 180, 0, 67, 27, 46, 167, 0, 4, 2]
abbrev dktX0_lies_0 : List UInt8 := dkwX0_lies_0 ++ dktX0_lies_1
theorem dksX0_lies_0 : cX0_lies.data.toList.drop 0 = dktX0_lies_0 := by decide +kernel
theorem dksX0_lies_1 : cX0_lies.data.toList.drop 24 = dktX0_lies_1 := dk_seg dksX0_lies_0 24 rfl rfl
theorem dX0_lies_0 : decode cX0_lies 0 = .ok (.iload_n 1, 1) := dk_27 (dk_at dksX0_lies_0 0 rfl rfl)
theorem dX0_lies_1 : decode cX0_lies 1 = .ok (.iconst 0, 1) := dk_3 (dk_at dksX0_lies_0 1 rfl rfl)
theorem dX0_lies_2 : decode cX0_lies 2 = .ok (.aload_n 0, 1) := dk_42 (dk_at dksX0_lies_0 2 rfl rfl)
theorem dX0_lies_3 : decode cX0_lies 3 = .ok (.getfield 123, 3) := dk_180 0 123 (dk_at dksX0_lies_0 3 rfl rfl)
theorem dX0_lies_6 : decode cX0_lies 6 = .ok (.iconst 1, 1) := dk_4 (dk_at dksX0_lies_0 6 rfl rfl)
theorem dX0_lies_7 : decode cX0_lies 7 = .ok (.isub, 1) := dk_100 (dk_at dksX0_lies_0 7 rfl rfl)
theorem dX0_lies_8 : decode cX0_lies 8 = .ok (.invokestatic 155, 3) := dk_184 0 155 (dk_at dksX0_lies_0 8 rfl rfl)
theorem dX0_lies_11 : decode cX0_lies 11 = .ok (.ifCond .eq 12, 3) := dk_153 0 12 (dk_at dksX0_lies_0 11 rfl rfl)
theorem dX0_lies_14 : decode cX0_lies 14 = .ok (.aload_n 0, 1) := dk_42 (dk_at dksX0_lies_0 14 rfl rfl)
theorem dX0_lies_15 : decode cX0_lies 15 = .ok (.getfield 67, 3) := dk_180 0 67 (dk_at dksX0_lies_0 15 rfl rfl)
theorem dX0_lies_18 : decode cX0_lies 18 = .ok (.iload_n 1, 1) := dk_27 (dk_at dksX0_lies_0 18 rfl rfl)
theorem dX0_lies_19 : decode cX0_lies 19 = .ok (.iaload, 1) := dk_46 (dk_at dksX0_lies_0 19 rfl rfl)
theorem dX0_lies_20 : decode cX0_lies 20 = .ok (.goto 4, 3) := dk_167 0 4 (dk_at dksX0_lies_0 20 rfl rfl)
theorem dX0_lies_23 : decode cX0_lies 23 = .ok (.iconst (-1), 1) := dk_2 (dk_at dksX0_lies_0 23 rfl rfl)
theorem dX0_lies_24 : decode cX0_lies 24 = .ok (.ireturn, 1) := dk_172 (dk_at dksX0_lies_1 0 rfl rfl)
abbrev cX0_heard : ByteArray := prog_1_method_78_code
def yX0_heard : MethodName := ⟨RX0, "heard", "(IIZ)I"⟩
def dkwX0_heard_2 : List UInt8 := [89, 42, 27, 28, 29, 183, 1, 83, 182, 1, 86, 87, 42, 180, 0, 88, 182, 0, 3, 4, 100, 172]
abbrev dktX0_heard_2 : List UInt8 := dkwX0_heard_2 ++ []
def dkwX0_heard_1 : List UInt8 := [153, 0, 15, 42, 180, 0, 88, 182, 0, 3, 16, 30, 160, 0, 5, 2, 172, 42, 180, 0, 88, 187, 1, 81]
abbrev dktX0_heard_1 : List UInt8 := dkwX0_heard_1 ++ dktX0_heard_2
def dkwX0_heard_0 : List UInt8 := [42, 27, 182, 0, 212, 153, 0, 32, 28, 3, 16, 10, 184, 0, 155, 153, 0, 22, 42, 182, 0, 140]
abbrev dktX0_heard_0 : List UInt8 := dkwX0_heard_0 ++ dktX0_heard_1
theorem dksX0_heard_0 : cX0_heard.data.toList.drop 0 = dktX0_heard_0 := by decide +kernel
theorem dksX0_heard_1 : cX0_heard.data.toList.drop 22 = dktX0_heard_1 := dk_seg dksX0_heard_0 22 rfl rfl
theorem dksX0_heard_2 : cX0_heard.data.toList.drop 46 = dktX0_heard_2 := dk_seg dksX0_heard_1 24 rfl rfl
theorem dX0_heard_0 : decode cX0_heard 0 = .ok (.aload_n 0, 1) := dk_42 (dk_at dksX0_heard_0 0 rfl rfl)
theorem dX0_heard_1 : decode cX0_heard 1 = .ok (.iload_n 1, 1) := dk_27 (dk_at dksX0_heard_0 1 rfl rfl)
theorem dX0_heard_2 : decode cX0_heard 2 = .ok (.invokevirtual 212, 3) := dk_182 0 212 (dk_at dksX0_heard_0 2 rfl rfl)
theorem dX0_heard_5 : decode cX0_heard 5 = .ok (.ifCond .eq 32, 3) := dk_153 0 32 (dk_at dksX0_heard_0 5 rfl rfl)
theorem dX0_heard_8 : decode cX0_heard 8 = .ok (.iload_n 2, 1) := dk_28 (dk_at dksX0_heard_0 8 rfl rfl)
theorem dX0_heard_9 : decode cX0_heard 9 = .ok (.iconst 0, 1) := dk_3 (dk_at dksX0_heard_0 9 rfl rfl)
theorem dX0_heard_10 : decode cX0_heard 10 = .ok (.bipush 10, 2) := dk_16 10 (dk_at dksX0_heard_0 10 rfl rfl)
theorem dX0_heard_12 : decode cX0_heard 12 = .ok (.invokestatic 155, 3) := dk_184 0 155 (dk_at dksX0_heard_0 12 rfl rfl)
theorem dX0_heard_15 : decode cX0_heard 15 = .ok (.ifCond .eq 22, 3) := dk_153 0 22 (dk_at dksX0_heard_0 15 rfl rfl)
theorem dX0_heard_18 : decode cX0_heard 18 = .ok (.aload_n 0, 1) := dk_42 (dk_at dksX0_heard_0 18 rfl rfl)
theorem dX0_heard_19 : decode cX0_heard 19 = .ok (.invokevirtual 140, 3) := dk_182 0 140 (dk_at dksX0_heard_0 19 rfl rfl)
theorem dX0_heard_22 : decode cX0_heard 22 = .ok (.ifCond .eq 15, 3) := dk_153 0 15 (dk_at dksX0_heard_1 0 rfl rfl)
theorem dX0_heard_25 : decode cX0_heard 25 = .ok (.aload_n 0, 1) := dk_42 (dk_at dksX0_heard_1 3 rfl rfl)
theorem dX0_heard_26 : decode cX0_heard 26 = .ok (.getfield 88, 3) := dk_180 0 88 (dk_at dksX0_heard_1 4 rfl rfl)
theorem dX0_heard_29 : decode cX0_heard 29 = .ok (.invokevirtual 3, 3) := dk_182 0 3 (dk_at dksX0_heard_1 7 rfl rfl)
theorem dX0_heard_32 : decode cX0_heard 32 = .ok (.bipush 30, 2) := dk_16 30 (dk_at dksX0_heard_1 10 rfl rfl)
theorem dX0_heard_34 : decode cX0_heard 34 = .ok (.if_icmp .ne 5, 3) := dk_160 0 5 (dk_at dksX0_heard_1 12 rfl rfl)
theorem dX0_heard_37 : decode cX0_heard 37 = .ok (.iconst (-1), 1) := dk_2 (dk_at dksX0_heard_1 15 rfl rfl)
theorem dX0_heard_38 : decode cX0_heard 38 = .ok (.ireturn, 1) := dk_172 (dk_at dksX0_heard_1 16 rfl rfl)
theorem dX0_heard_39 : decode cX0_heard 39 = .ok (.aload_n 0, 1) := dk_42 (dk_at dksX0_heard_1 17 rfl rfl)
theorem dX0_heard_40 : decode cX0_heard 40 = .ok (.getfield 88, 3) := dk_180 0 88 (dk_at dksX0_heard_1 18 rfl rfl)
theorem dX0_heard_43 : decode cX0_heard 43 = .ok (.new 337, 3) := dk_187 1 81 (dk_at dksX0_heard_1 21 rfl rfl)
theorem dX0_heard_46 : decode cX0_heard 46 = .ok (.dup, 1) := dk_89 (dk_at dksX0_heard_2 0 rfl rfl)
theorem dX0_heard_47 : decode cX0_heard 47 = .ok (.aload_n 0, 1) := dk_42 (dk_at dksX0_heard_2 1 rfl rfl)
theorem dX0_heard_48 : decode cX0_heard 48 = .ok (.iload_n 1, 1) := dk_27 (dk_at dksX0_heard_2 2 rfl rfl)
theorem dX0_heard_49 : decode cX0_heard 49 = .ok (.iload_n 2, 1) := dk_28 (dk_at dksX0_heard_2 3 rfl rfl)
theorem dX0_heard_50 : decode cX0_heard 50 = .ok (.iload_n 3, 1) := dk_29 (dk_at dksX0_heard_2 4 rfl rfl)
theorem dX0_heard_51 : decode cX0_heard 51 = .ok (.invokespecial 339, 3) := dk_183 1 83 (dk_at dksX0_heard_2 5 rfl rfl)
theorem dX0_heard_54 : decode cX0_heard 54 = .ok (.invokevirtual 342, 3) := dk_182 1 86 (dk_at dksX0_heard_2 8 rfl rfl)
theorem dX0_heard_57 : decode cX0_heard 57 = .ok (.pop, 1) := dk_87 (dk_at dksX0_heard_2 11 rfl rfl)
theorem dX0_heard_58 : decode cX0_heard 58 = .ok (.aload_n 0, 1) := dk_42 (dk_at dksX0_heard_2 12 rfl rfl)
theorem dX0_heard_59 : decode cX0_heard 59 = .ok (.getfield 88, 3) := dk_180 0 88 (dk_at dksX0_heard_2 13 rfl rfl)
theorem dX0_heard_62 : decode cX0_heard 62 = .ok (.invokevirtual 3, 3) := dk_182 0 3 (dk_at dksX0_heard_2 16 rfl rfl)
theorem dX0_heard_65 : decode cX0_heard 65 = .ok (.iconst 1, 1) := dk_4 (dk_at dksX0_heard_2 19 rfl rfl)
theorem dX0_heard_66 : decode cX0_heard 66 = .ok (.isub, 1) := dk_100 (dk_at dksX0_heard_2 20 rfl rfl)
theorem dX0_heard_67 : decode cX0_heard 67 = .ok (.ireturn, 1) := dk_172 (dk_at dksX0_heard_2 21 rfl rfl)
abbrev cX0_untell : ByteArray := prog_1_method_79_code
def yX0_untell : MethodName := ⟨RX0, "untell", "(I)Z"⟩
def dkwX0_untell_1 : List UInt8 := [182, 0, 9, 192, 1, 81, 182, 1, 89, 153, 0, 7, 4, 167, 0, 4, 3, 172]
abbrev dktX0_untell_1 : List UInt8 := dkwX0_untell_1 ++ []
def dkwX0_untell_0 : List UInt8 := [27, 3, 42, 180, 0, 88, 182, 0, 3, 4, 100, 184, 0, 155, 153, 0, 24, 42, 180, 0, 88, 27]
abbrev dktX0_untell_0 : List UInt8 := dkwX0_untell_0 ++ dktX0_untell_1
theorem dksX0_untell_0 : cX0_untell.data.toList.drop 0 = dktX0_untell_0 := by decide +kernel
theorem dksX0_untell_1 : cX0_untell.data.toList.drop 22 = dktX0_untell_1 := dk_seg dksX0_untell_0 22 rfl rfl
theorem dX0_untell_0 : decode cX0_untell 0 = .ok (.iload_n 1, 1) := dk_27 (dk_at dksX0_untell_0 0 rfl rfl)
theorem dX0_untell_1 : decode cX0_untell 1 = .ok (.iconst 0, 1) := dk_3 (dk_at dksX0_untell_0 1 rfl rfl)
theorem dX0_untell_2 : decode cX0_untell 2 = .ok (.aload_n 0, 1) := dk_42 (dk_at dksX0_untell_0 2 rfl rfl)
theorem dX0_untell_3 : decode cX0_untell 3 = .ok (.getfield 88, 3) := dk_180 0 88 (dk_at dksX0_untell_0 3 rfl rfl)
theorem dX0_untell_6 : decode cX0_untell 6 = .ok (.invokevirtual 3, 3) := dk_182 0 3 (dk_at dksX0_untell_0 6 rfl rfl)
theorem dX0_untell_9 : decode cX0_untell 9 = .ok (.iconst 1, 1) := dk_4 (dk_at dksX0_untell_0 9 rfl rfl)
theorem dX0_untell_10 : decode cX0_untell 10 = .ok (.isub, 1) := dk_100 (dk_at dksX0_untell_0 10 rfl rfl)
theorem dX0_untell_11 : decode cX0_untell 11 = .ok (.invokestatic 155, 3) := dk_184 0 155 (dk_at dksX0_untell_0 11 rfl rfl)
theorem dX0_untell_14 : decode cX0_untell 14 = .ok (.ifCond .eq 24, 3) := dk_153 0 24 (dk_at dksX0_untell_0 14 rfl rfl)
theorem dX0_untell_17 : decode cX0_untell 17 = .ok (.aload_n 0, 1) := dk_42 (dk_at dksX0_untell_0 17 rfl rfl)
theorem dX0_untell_18 : decode cX0_untell 18 = .ok (.getfield 88, 3) := dk_180 0 88 (dk_at dksX0_untell_0 18 rfl rfl)
theorem dX0_untell_21 : decode cX0_untell 21 = .ok (.iload_n 1, 1) := dk_27 (dk_at dksX0_untell_0 21 rfl rfl)
theorem dX0_untell_22 : decode cX0_untell 22 = .ok (.invokevirtual 9, 3) := dk_182 0 9 (dk_at dksX0_untell_1 0 rfl rfl)
theorem dX0_untell_25 : decode cX0_untell 25 = .ok (.checkcast 337, 3) := dk_192 1 81 (dk_at dksX0_untell_1 3 rfl rfl)
theorem dX0_untell_28 : decode cX0_untell 28 = .ok (.invokevirtual 345, 3) := dk_182 1 89 (dk_at dksX0_untell_1 6 rfl rfl)
theorem dX0_untell_31 : decode cX0_untell 31 = .ok (.ifCond .eq 7, 3) := dk_153 0 7 (dk_at dksX0_untell_1 9 rfl rfl)
theorem dX0_untell_34 : decode cX0_untell 34 = .ok (.iconst 1, 1) := dk_4 (dk_at dksX0_untell_1 12 rfl rfl)
theorem dX0_untell_35 : decode cX0_untell 35 = .ok (.goto 4, 3) := dk_167 0 4 (dk_at dksX0_untell_1 13 rfl rfl)
theorem dX0_untell_38 : decode cX0_untell 38 = .ok (.iconst 0, 1) := dk_3 (dk_at dksX0_untell_1 16 rfl rfl)
theorem dX0_untell_39 : decode cX0_untell 39 = .ok (.ireturn, 1) := dk_172 (dk_at dksX0_untell_1 17 rfl rfl)
abbrev cX0_later : ByteArray := prog_1_method_80_code
def yX0_later : MethodName := ⟨RX0, "later", "(I)I"⟩
def dkwX0_later_1 : List UInt8 := [172, 42, 89, 180, 1, 93, 27, 96, 181, 1, 93, 42, 180, 1, 93, 172]
abbrev dktX0_later_1 : List UInt8 := dkwX0_later_1 ++ []
def dkwX0_later_0 : List UInt8 := [27, 155, 0, 22, 27, 17, 3, 232, 163, 0, 15, 42, 180, 1, 93, 27, 96, 19, 1, 96, 164, 0, 5, 2]
abbrev dktX0_later_0 : List UInt8 := dkwX0_later_0 ++ dktX0_later_1
theorem dksX0_later_0 : cX0_later.data.toList.drop 0 = dktX0_later_0 := by decide +kernel
theorem dksX0_later_1 : cX0_later.data.toList.drop 24 = dktX0_later_1 := dk_seg dksX0_later_0 24 rfl rfl
theorem dX0_later_0 : decode cX0_later 0 = .ok (.iload_n 1, 1) := dk_27 (dk_at dksX0_later_0 0 rfl rfl)
theorem dX0_later_1 : decode cX0_later 1 = .ok (.ifCond .lt 22, 3) := dk_155 0 22 (dk_at dksX0_later_0 1 rfl rfl)
theorem dX0_later_4 : decode cX0_later 4 = .ok (.iload_n 1, 1) := dk_27 (dk_at dksX0_later_0 4 rfl rfl)
theorem dX0_later_5 : decode cX0_later 5 = .ok (.sipush 1000, 3) := dk_17 3 232 (dk_at dksX0_later_0 5 rfl rfl)
theorem dX0_later_8 : decode cX0_later 8 = .ok (.if_icmp .gt 15, 3) := dk_163 0 15 (dk_at dksX0_later_0 8 rfl rfl)
theorem dX0_later_11 : decode cX0_later 11 = .ok (.aload_n 0, 1) := dk_42 (dk_at dksX0_later_0 11 rfl rfl)
theorem dX0_later_12 : decode cX0_later 12 = .ok (.getfield 349, 3) := dk_180 1 93 (dk_at dksX0_later_0 12 rfl rfl)
theorem dX0_later_15 : decode cX0_later 15 = .ok (.iload_n 1, 1) := dk_27 (dk_at dksX0_later_0 15 rfl rfl)
theorem dX0_later_16 : decode cX0_later 16 = .ok (.iadd, 1) := dk_96 (dk_at dksX0_later_0 16 rfl rfl)
theorem dX0_later_17 : decode cX0_later 17 = .ok (.ldc_w 352, 3) := dk_19 1 96 (dk_at dksX0_later_0 17 rfl rfl)
theorem dX0_later_20 : decode cX0_later 20 = .ok (.if_icmp .le 5, 3) := dk_164 0 5 (dk_at dksX0_later_0 20 rfl rfl)
theorem dX0_later_23 : decode cX0_later 23 = .ok (.iconst (-1), 1) := dk_2 (dk_at dksX0_later_0 23 rfl rfl)
theorem dX0_later_24 : decode cX0_later 24 = .ok (.ireturn, 1) := dk_172 (dk_at dksX0_later_1 0 rfl rfl)
theorem dX0_later_25 : decode cX0_later 25 = .ok (.aload_n 0, 1) := dk_42 (dk_at dksX0_later_1 1 rfl rfl)
theorem dX0_later_26 : decode cX0_later 26 = .ok (.dup, 1) := dk_89 (dk_at dksX0_later_1 2 rfl rfl)
theorem dX0_later_27 : decode cX0_later 27 = .ok (.getfield 349, 3) := dk_180 1 93 (dk_at dksX0_later_1 3 rfl rfl)
theorem dX0_later_30 : decode cX0_later 30 = .ok (.iload_n 1, 1) := dk_27 (dk_at dksX0_later_1 6 rfl rfl)
theorem dX0_later_31 : decode cX0_later 31 = .ok (.iadd, 1) := dk_96 (dk_at dksX0_later_1 7 rfl rfl)
theorem dX0_later_32 : decode cX0_later 32 = .ok (.putfield 349, 3) := dk_181 1 93 (dk_at dksX0_later_1 8 rfl rfl)
theorem dX0_later_35 : decode cX0_later 35 = .ok (.aload_n 0, 1) := dk_42 (dk_at dksX0_later_1 11 rfl rfl)
theorem dX0_later_36 : decode cX0_later 36 = .ok (.getfield 349, 3) := dk_180 1 93 (dk_at dksX0_later_1 12 rfl rfl)
theorem dX0_later_39 : decode cX0_later 39 = .ok (.ireturn, 1) := dk_172 (dk_at dksX0_later_1 15 rfl rfl)
abbrev cX0_rows : ByteArray := prog_1_method_85_code
def yX0_rows : MethodName := ⟨RX0, "rows", "(I)I"⟩
def dkwX0_rows_0 : List UInt8 := [42, 27, 182, 1, 109, 172]
abbrev dktX0_rows_0 : List UInt8 := dkwX0_rows_0 ++ []
theorem dksX0_rows_0 : cX0_rows.data.toList.drop 0 = dktX0_rows_0 := by decide +kernel
theorem dX0_rows_0 : decode cX0_rows 0 = .ok (.aload_n 0, 1) := dk_42 (dk_at dksX0_rows_0 0 rfl rfl)
theorem dX0_rows_1 : decode cX0_rows 1 = .ok (.iload_n 1, 1) := dk_27 (dk_at dksX0_rows_0 1 rfl rfl)
theorem dX0_rows_2 : decode cX0_rows 2 = .ok (.invokevirtual 365, 3) := dk_182 1 109 (dk_at dksX0_rows_0 2 rfl rfl)
theorem dX0_rows_5 : decode cX0_rows 5 = .ok (.ireturn, 1) := dk_172 (dk_at dksX0_rows_0 5 rfl rfl)
abbrev cX0_layRows : ByteArray := prog_1_method_84_code
def yX0_layRows : MethodName := ⟨RX0, "layRows", "(I)I"⟩
def dkwX0_layRows_8 : List UInt8 := [51, 153, 0, 7, 4, 167, 0, 4, 3, 96, 61, 132, 3, 1, 167, 255, 58, 28, 172]
abbrev dktX0_layRows_8 : List UInt8 := dkwX0_layRows_8 ++ []
def dkwX0_layRows_7 : List UInt8 := [182, 0, 9, 192, 1, 81, 29, 27, 182, 1, 106, 84, 132, 4, 1, 167, 255, 209, 28, 42, 180, 0, 95, 29]
abbrev dktX0_layRows_7 : List UInt8 := dkwX0_layRows_7 ++ dktX0_layRows_8
def dkwX0_layRows_6 : List UInt8 := [162, 0, 41, 42, 180, 0, 95, 29, 51, 153, 0, 32, 42, 180, 0, 95, 29, 42, 180, 0, 88, 21, 4]
abbrev dktX0_layRows_6 : List UInt8 := dkwX0_layRows_6 ++ dktX0_layRows_7
def dkwX0_layRows_5 : List UInt8 := [167, 255, 152, 42, 180, 0, 95, 29, 4, 84, 3, 54, 4, 21, 4, 42, 180, 0, 88, 182, 0, 3]
abbrev dktX0_layRows_5 : List UInt8 := dkwX0_layRows_5 ++ dktX0_layRows_6
def dkwX0_layRows_4 : List UInt8 := [29, 50, 21, 4, 42, 180, 0, 60, 42, 180, 0, 42, 21, 4, 182, 0, 221, 184, 0, 239, 79, 132, 4, 1]
abbrev dktX0_layRows_4 : List UInt8 := dkwX0_layRows_4 ++ dktX0_layRows_5
def dkwX0_layRows_3 : List UInt8 := [42, 180, 0, 60, 180, 0, 199, 42, 182, 0, 140, 5, 100, 42, 29, 4, 182, 1, 103, 79, 42, 180, 0, 92]
abbrev dktX0_layRows_3 : List UInt8 := dkwX0_layRows_3 ++ dktX0_layRows_4
def dkwX0_layRows_2 : List UInt8 := [180, 0, 199, 42, 182, 0, 140, 4, 100, 42, 29, 3, 182, 1, 103, 79, 42, 182, 0, 140, 4, 164, 0, 23]
abbrev dktX0_layRows_2 : List UInt8 := dkwX0_layRows_2 ++ dktX0_layRows_3
def dkwX0_layRows_1 : List UInt8 := [42, 180, 0, 60, 42, 180, 0, 42, 182, 0, 49, 42, 182, 1, 13, 182, 1, 9, 87, 42, 180, 0, 60]
abbrev dktX0_layRows_1 : List UInt8 := dkwX0_layRows_1 ++ dktX0_layRows_2
def dkwX0_layRows_0 : List UInt8 := [3, 61, 3, 62, 29, 42, 182, 1, 100, 162, 0, 196, 3, 54, 4, 21, 4, 42, 182, 0, 153, 162, 0, 101]
abbrev dktX0_layRows_0 : List UInt8 := dkwX0_layRows_0 ++ dktX0_layRows_1
theorem dksX0_layRows_0 : cX0_layRows.data.toList.drop 0 = dktX0_layRows_0 := by decide +kernel
theorem dksX0_layRows_1 : cX0_layRows.data.toList.drop 24 = dktX0_layRows_1 := dk_seg dksX0_layRows_0 24 rfl rfl
theorem dksX0_layRows_2 : cX0_layRows.data.toList.drop 47 = dktX0_layRows_2 := dk_seg dksX0_layRows_1 23 rfl rfl
theorem dksX0_layRows_3 : cX0_layRows.data.toList.drop 71 = dktX0_layRows_3 := dk_seg dksX0_layRows_2 24 rfl rfl
theorem dksX0_layRows_4 : cX0_layRows.data.toList.drop 95 = dktX0_layRows_4 := dk_seg dksX0_layRows_3 24 rfl rfl
theorem dksX0_layRows_5 : cX0_layRows.data.toList.drop 119 = dktX0_layRows_5 := dk_seg dksX0_layRows_4 24 rfl rfl
theorem dksX0_layRows_6 : cX0_layRows.data.toList.drop 141 = dktX0_layRows_6 := dk_seg dksX0_layRows_5 22 rfl rfl
theorem dksX0_layRows_7 : cX0_layRows.data.toList.drop 164 = dktX0_layRows_7 := dk_seg dksX0_layRows_6 23 rfl rfl
theorem dksX0_layRows_8 : cX0_layRows.data.toList.drop 188 = dktX0_layRows_8 := dk_seg dksX0_layRows_7 24 rfl rfl
theorem dX0_layRows_0 : decode cX0_layRows 0 = .ok (.iconst 0, 1) := dk_3 (dk_at dksX0_layRows_0 0 rfl rfl)
theorem dX0_layRows_1 : decode cX0_layRows 1 = .ok (.istore_n 2, 1) := dk_61 (dk_at dksX0_layRows_0 1 rfl rfl)
theorem dX0_layRows_2 : decode cX0_layRows 2 = .ok (.iconst 0, 1) := dk_3 (dk_at dksX0_layRows_0 2 rfl rfl)
theorem dX0_layRows_3 : decode cX0_layRows 3 = .ok (.istore_n 3, 1) := dk_62 (dk_at dksX0_layRows_0 3 rfl rfl)
theorem dX0_layRows_4 : decode cX0_layRows 4 = .ok (.iload_n 3, 1) := dk_29 (dk_at dksX0_layRows_0 4 rfl rfl)
theorem dX0_layRows_5 : decode cX0_layRows 5 = .ok (.aload_n 0, 1) := dk_42 (dk_at dksX0_layRows_0 5 rfl rfl)
theorem dX0_layRows_6 : decode cX0_layRows 6 = .ok (.invokevirtual 356, 3) := dk_182 1 100 (dk_at dksX0_layRows_0 6 rfl rfl)
theorem dX0_layRows_9 : decode cX0_layRows 9 = .ok (.if_icmp .ge 196, 3) := dk_162 0 196 (dk_at dksX0_layRows_0 9 rfl rfl)
theorem dX0_layRows_12 : decode cX0_layRows 12 = .ok (.iconst 0, 1) := dk_3 (dk_at dksX0_layRows_0 12 rfl rfl)
theorem dX0_layRows_13 : decode cX0_layRows 13 = .ok (.istore 4, 2) := dk_54 4 (dk_at dksX0_layRows_0 13 rfl rfl)
theorem dX0_layRows_15 : decode cX0_layRows 15 = .ok (.iload 4, 2) := dk_21 4 (dk_at dksX0_layRows_0 15 rfl rfl)
theorem dX0_layRows_17 : decode cX0_layRows 17 = .ok (.aload_n 0, 1) := dk_42 (dk_at dksX0_layRows_0 17 rfl rfl)
theorem dX0_layRows_18 : decode cX0_layRows 18 = .ok (.invokevirtual 153, 3) := dk_182 0 153 (dk_at dksX0_layRows_0 18 rfl rfl)
theorem dX0_layRows_21 : decode cX0_layRows 21 = .ok (.if_icmp .ge 101, 3) := dk_162 0 101 (dk_at dksX0_layRows_0 21 rfl rfl)
theorem dX0_layRows_24 : decode cX0_layRows 24 = .ok (.aload_n 0, 1) := dk_42 (dk_at dksX0_layRows_1 0 rfl rfl)
theorem dX0_layRows_25 : decode cX0_layRows 25 = .ok (.getfield 60, 3) := dk_180 0 60 (dk_at dksX0_layRows_1 1 rfl rfl)
theorem dX0_layRows_28 : decode cX0_layRows 28 = .ok (.aload_n 0, 1) := dk_42 (dk_at dksX0_layRows_1 4 rfl rfl)
theorem dX0_layRows_29 : decode cX0_layRows 29 = .ok (.getfield 42, 3) := dk_180 0 42 (dk_at dksX0_layRows_1 5 rfl rfl)
theorem dX0_layRows_32 : decode cX0_layRows 32 = .ok (.invokevirtual 49, 3) := dk_182 0 49 (dk_at dksX0_layRows_1 8 rfl rfl)
theorem dX0_layRows_35 : decode cX0_layRows 35 = .ok (.aload_n 0, 1) := dk_42 (dk_at dksX0_layRows_1 11 rfl rfl)
theorem dX0_layRows_36 : decode cX0_layRows 36 = .ok (.invokevirtual 269, 3) := dk_182 1 13 (dk_at dksX0_layRows_1 12 rfl rfl)
theorem dX0_layRows_39 : decode cX0_layRows 39 = .ok (.invokevirtual 265, 3) := dk_182 1 9 (dk_at dksX0_layRows_1 15 rfl rfl)
theorem dX0_layRows_42 : decode cX0_layRows 42 = .ok (.pop, 1) := dk_87 (dk_at dksX0_layRows_1 18 rfl rfl)
theorem dX0_layRows_43 : decode cX0_layRows 43 = .ok (.aload_n 0, 1) := dk_42 (dk_at dksX0_layRows_1 19 rfl rfl)
theorem dX0_layRows_44 : decode cX0_layRows 44 = .ok (.getfield 60, 3) := dk_180 0 60 (dk_at dksX0_layRows_1 20 rfl rfl)
theorem dX0_layRows_47 : decode cX0_layRows 47 = .ok (.getfield 199, 3) := dk_180 0 199 (dk_at dksX0_layRows_2 0 rfl rfl)
theorem dX0_layRows_50 : decode cX0_layRows 50 = .ok (.aload_n 0, 1) := dk_42 (dk_at dksX0_layRows_2 3 rfl rfl)
theorem dX0_layRows_51 : decode cX0_layRows 51 = .ok (.invokevirtual 140, 3) := dk_182 0 140 (dk_at dksX0_layRows_2 4 rfl rfl)
theorem dX0_layRows_54 : decode cX0_layRows 54 = .ok (.iconst 1, 1) := dk_4 (dk_at dksX0_layRows_2 7 rfl rfl)
theorem dX0_layRows_55 : decode cX0_layRows 55 = .ok (.isub, 1) := dk_100 (dk_at dksX0_layRows_2 8 rfl rfl)
theorem dX0_layRows_56 : decode cX0_layRows 56 = .ok (.aload_n 0, 1) := dk_42 (dk_at dksX0_layRows_2 9 rfl rfl)
theorem dX0_layRows_57 : decode cX0_layRows 57 = .ok (.iload_n 3, 1) := dk_29 (dk_at dksX0_layRows_2 10 rfl rfl)
theorem dX0_layRows_58 : decode cX0_layRows 58 = .ok (.iconst 0, 1) := dk_3 (dk_at dksX0_layRows_2 11 rfl rfl)
theorem dX0_layRows_59 : decode cX0_layRows 59 = .ok (.invokevirtual 359, 3) := dk_182 1 103 (dk_at dksX0_layRows_2 12 rfl rfl)
theorem dX0_layRows_62 : decode cX0_layRows 62 = .ok (.iastore, 1) := dk_79 (dk_at dksX0_layRows_2 15 rfl rfl)
theorem dX0_layRows_63 : decode cX0_layRows 63 = .ok (.aload_n 0, 1) := dk_42 (dk_at dksX0_layRows_2 16 rfl rfl)
theorem dX0_layRows_64 : decode cX0_layRows 64 = .ok (.invokevirtual 140, 3) := dk_182 0 140 (dk_at dksX0_layRows_2 17 rfl rfl)
theorem dX0_layRows_67 : decode cX0_layRows 67 = .ok (.iconst 1, 1) := dk_4 (dk_at dksX0_layRows_2 20 rfl rfl)
theorem dX0_layRows_68 : decode cX0_layRows 68 = .ok (.if_icmp .le 23, 3) := dk_164 0 23 (dk_at dksX0_layRows_2 21 rfl rfl)
theorem dX0_layRows_71 : decode cX0_layRows 71 = .ok (.aload_n 0, 1) := dk_42 (dk_at dksX0_layRows_3 0 rfl rfl)
theorem dX0_layRows_72 : decode cX0_layRows 72 = .ok (.getfield 60, 3) := dk_180 0 60 (dk_at dksX0_layRows_3 1 rfl rfl)
theorem dX0_layRows_75 : decode cX0_layRows 75 = .ok (.getfield 199, 3) := dk_180 0 199 (dk_at dksX0_layRows_3 4 rfl rfl)
theorem dX0_layRows_78 : decode cX0_layRows 78 = .ok (.aload_n 0, 1) := dk_42 (dk_at dksX0_layRows_3 7 rfl rfl)
theorem dX0_layRows_79 : decode cX0_layRows 79 = .ok (.invokevirtual 140, 3) := dk_182 0 140 (dk_at dksX0_layRows_3 8 rfl rfl)
theorem dX0_layRows_82 : decode cX0_layRows 82 = .ok (.iconst 2, 1) := dk_5 (dk_at dksX0_layRows_3 11 rfl rfl)
theorem dX0_layRows_83 : decode cX0_layRows 83 = .ok (.isub, 1) := dk_100 (dk_at dksX0_layRows_3 12 rfl rfl)
theorem dX0_layRows_84 : decode cX0_layRows 84 = .ok (.aload_n 0, 1) := dk_42 (dk_at dksX0_layRows_3 13 rfl rfl)
theorem dX0_layRows_85 : decode cX0_layRows 85 = .ok (.iload_n 3, 1) := dk_29 (dk_at dksX0_layRows_3 14 rfl rfl)
theorem dX0_layRows_86 : decode cX0_layRows 86 = .ok (.iconst 1, 1) := dk_4 (dk_at dksX0_layRows_3 15 rfl rfl)
theorem dX0_layRows_87 : decode cX0_layRows 87 = .ok (.invokevirtual 359, 3) := dk_182 1 103 (dk_at dksX0_layRows_3 16 rfl rfl)
theorem dX0_layRows_90 : decode cX0_layRows 90 = .ok (.iastore, 1) := dk_79 (dk_at dksX0_layRows_3 19 rfl rfl)
theorem dX0_layRows_91 : decode cX0_layRows 91 = .ok (.aload_n 0, 1) := dk_42 (dk_at dksX0_layRows_3 20 rfl rfl)
theorem dX0_layRows_92 : decode cX0_layRows 92 = .ok (.getfield 92, 3) := dk_180 0 92 (dk_at dksX0_layRows_3 21 rfl rfl)
theorem dX0_layRows_95 : decode cX0_layRows 95 = .ok (.iload_n 3, 1) := dk_29 (dk_at dksX0_layRows_4 0 rfl rfl)
theorem dX0_layRows_96 : decode cX0_layRows 96 = .ok (.aaload, 1) := dk_50 (dk_at dksX0_layRows_4 1 rfl rfl)
theorem dX0_layRows_97 : decode cX0_layRows 97 = .ok (.iload 4, 2) := dk_21 4 (dk_at dksX0_layRows_4 2 rfl rfl)
theorem dX0_layRows_99 : decode cX0_layRows 99 = .ok (.aload_n 0, 1) := dk_42 (dk_at dksX0_layRows_4 4 rfl rfl)
theorem dX0_layRows_100 : decode cX0_layRows 100 = .ok (.getfield 60, 3) := dk_180 0 60 (dk_at dksX0_layRows_4 5 rfl rfl)
theorem dX0_layRows_103 : decode cX0_layRows 103 = .ok (.aload_n 0, 1) := dk_42 (dk_at dksX0_layRows_4 8 rfl rfl)
theorem dX0_layRows_104 : decode cX0_layRows 104 = .ok (.getfield 42, 3) := dk_180 0 42 (dk_at dksX0_layRows_4 9 rfl rfl)
theorem dX0_layRows_107 : decode cX0_layRows 107 = .ok (.iload 4, 2) := dk_21 4 (dk_at dksX0_layRows_4 12 rfl rfl)
theorem dX0_layRows_109 : decode cX0_layRows 109 = .ok (.invokevirtual 221, 3) := dk_182 0 221 (dk_at dksX0_layRows_4 14 rfl rfl)
theorem dX0_layRows_112 : decode cX0_layRows 112 = .ok (.invokestatic 239, 3) := dk_184 0 239 (dk_at dksX0_layRows_4 17 rfl rfl)
theorem dX0_layRows_115 : decode cX0_layRows 115 = .ok (.iastore, 1) := dk_79 (dk_at dksX0_layRows_4 20 rfl rfl)
theorem dX0_layRows_116 : decode cX0_layRows 116 = .ok (.iinc 4 1, 3) := dk_132 4 1 (dk_at dksX0_layRows_4 21 rfl rfl)
theorem dX0_layRows_119 : decode cX0_layRows 119 = .ok (.goto (-104), 3) := dk_167 255 152 (dk_at dksX0_layRows_5 0 rfl rfl)
theorem dX0_layRows_122 : decode cX0_layRows 122 = .ok (.aload_n 0, 1) := dk_42 (dk_at dksX0_layRows_5 3 rfl rfl)
theorem dX0_layRows_123 : decode cX0_layRows 123 = .ok (.getfield 95, 3) := dk_180 0 95 (dk_at dksX0_layRows_5 4 rfl rfl)
theorem dX0_layRows_126 : decode cX0_layRows 126 = .ok (.iload_n 3, 1) := dk_29 (dk_at dksX0_layRows_5 7 rfl rfl)
theorem dX0_layRows_127 : decode cX0_layRows 127 = .ok (.iconst 1, 1) := dk_4 (dk_at dksX0_layRows_5 8 rfl rfl)
theorem dX0_layRows_128 : decode cX0_layRows 128 = .ok (.bastore, 1) := dk_84 (dk_at dksX0_layRows_5 9 rfl rfl)
theorem dX0_layRows_129 : decode cX0_layRows 129 = .ok (.iconst 0, 1) := dk_3 (dk_at dksX0_layRows_5 10 rfl rfl)
theorem dX0_layRows_130 : decode cX0_layRows 130 = .ok (.istore 4, 2) := dk_54 4 (dk_at dksX0_layRows_5 11 rfl rfl)
theorem dX0_layRows_132 : decode cX0_layRows 132 = .ok (.iload 4, 2) := dk_21 4 (dk_at dksX0_layRows_5 13 rfl rfl)
theorem dX0_layRows_134 : decode cX0_layRows 134 = .ok (.aload_n 0, 1) := dk_42 (dk_at dksX0_layRows_5 15 rfl rfl)
theorem dX0_layRows_135 : decode cX0_layRows 135 = .ok (.getfield 88, 3) := dk_180 0 88 (dk_at dksX0_layRows_5 16 rfl rfl)
theorem dX0_layRows_138 : decode cX0_layRows 138 = .ok (.invokevirtual 3, 3) := dk_182 0 3 (dk_at dksX0_layRows_5 19 rfl rfl)
theorem dX0_layRows_141 : decode cX0_layRows 141 = .ok (.if_icmp .ge 41, 3) := dk_162 0 41 (dk_at dksX0_layRows_6 0 rfl rfl)
theorem dX0_layRows_144 : decode cX0_layRows 144 = .ok (.aload_n 0, 1) := dk_42 (dk_at dksX0_layRows_6 3 rfl rfl)
theorem dX0_layRows_145 : decode cX0_layRows 145 = .ok (.getfield 95, 3) := dk_180 0 95 (dk_at dksX0_layRows_6 4 rfl rfl)
theorem dX0_layRows_148 : decode cX0_layRows 148 = .ok (.iload_n 3, 1) := dk_29 (dk_at dksX0_layRows_6 7 rfl rfl)
theorem dX0_layRows_149 : decode cX0_layRows 149 = .ok (.baload, 1) := dk_51 (dk_at dksX0_layRows_6 8 rfl rfl)
theorem dX0_layRows_150 : decode cX0_layRows 150 = .ok (.ifCond .eq 32, 3) := dk_153 0 32 (dk_at dksX0_layRows_6 9 rfl rfl)
theorem dX0_layRows_153 : decode cX0_layRows 153 = .ok (.aload_n 0, 1) := dk_42 (dk_at dksX0_layRows_6 12 rfl rfl)
theorem dX0_layRows_154 : decode cX0_layRows 154 = .ok (.getfield 95, 3) := dk_180 0 95 (dk_at dksX0_layRows_6 13 rfl rfl)
theorem dX0_layRows_157 : decode cX0_layRows 157 = .ok (.iload_n 3, 1) := dk_29 (dk_at dksX0_layRows_6 16 rfl rfl)
theorem dX0_layRows_158 : decode cX0_layRows 158 = .ok (.aload_n 0, 1) := dk_42 (dk_at dksX0_layRows_6 17 rfl rfl)
theorem dX0_layRows_159 : decode cX0_layRows 159 = .ok (.getfield 88, 3) := dk_180 0 88 (dk_at dksX0_layRows_6 18 rfl rfl)
theorem dX0_layRows_162 : decode cX0_layRows 162 = .ok (.iload 4, 2) := dk_21 4 (dk_at dksX0_layRows_6 21 rfl rfl)
theorem dX0_layRows_164 : decode cX0_layRows 164 = .ok (.invokevirtual 9, 3) := dk_182 0 9 (dk_at dksX0_layRows_7 0 rfl rfl)
theorem dX0_layRows_167 : decode cX0_layRows 167 = .ok (.checkcast 337, 3) := dk_192 1 81 (dk_at dksX0_layRows_7 3 rfl rfl)
theorem dX0_layRows_170 : decode cX0_layRows 170 = .ok (.iload_n 3, 1) := dk_29 (dk_at dksX0_layRows_7 6 rfl rfl)
theorem dX0_layRows_171 : decode cX0_layRows 171 = .ok (.iload_n 1, 1) := dk_27 (dk_at dksX0_layRows_7 7 rfl rfl)
theorem dX0_layRows_172 : decode cX0_layRows 172 = .ok (.invokevirtual 362, 3) := dk_182 1 106 (dk_at dksX0_layRows_7 8 rfl rfl)
theorem dX0_layRows_175 : decode cX0_layRows 175 = .ok (.bastore, 1) := dk_84 (dk_at dksX0_layRows_7 11 rfl rfl)
theorem dX0_layRows_176 : decode cX0_layRows 176 = .ok (.iinc 4 1, 3) := dk_132 4 1 (dk_at dksX0_layRows_7 12 rfl rfl)
theorem dX0_layRows_179 : decode cX0_layRows 179 = .ok (.goto (-47), 3) := dk_167 255 209 (dk_at dksX0_layRows_7 15 rfl rfl)
theorem dX0_layRows_182 : decode cX0_layRows 182 = .ok (.iload_n 2, 1) := dk_28 (dk_at dksX0_layRows_7 18 rfl rfl)
theorem dX0_layRows_183 : decode cX0_layRows 183 = .ok (.aload_n 0, 1) := dk_42 (dk_at dksX0_layRows_7 19 rfl rfl)
theorem dX0_layRows_184 : decode cX0_layRows 184 = .ok (.getfield 95, 3) := dk_180 0 95 (dk_at dksX0_layRows_7 20 rfl rfl)
theorem dX0_layRows_187 : decode cX0_layRows 187 = .ok (.iload_n 3, 1) := dk_29 (dk_at dksX0_layRows_7 23 rfl rfl)
theorem dX0_layRows_188 : decode cX0_layRows 188 = .ok (.baload, 1) := dk_51 (dk_at dksX0_layRows_8 0 rfl rfl)
theorem dX0_layRows_189 : decode cX0_layRows 189 = .ok (.ifCond .eq 7, 3) := dk_153 0 7 (dk_at dksX0_layRows_8 1 rfl rfl)
theorem dX0_layRows_192 : decode cX0_layRows 192 = .ok (.iconst 1, 1) := dk_4 (dk_at dksX0_layRows_8 4 rfl rfl)
theorem dX0_layRows_193 : decode cX0_layRows 193 = .ok (.goto 4, 3) := dk_167 0 4 (dk_at dksX0_layRows_8 5 rfl rfl)
theorem dX0_layRows_196 : decode cX0_layRows 196 = .ok (.iconst 0, 1) := dk_3 (dk_at dksX0_layRows_8 8 rfl rfl)
theorem dX0_layRows_197 : decode cX0_layRows 197 = .ok (.iadd, 1) := dk_96 (dk_at dksX0_layRows_8 9 rfl rfl)
theorem dX0_layRows_198 : decode cX0_layRows 198 = .ok (.istore_n 2, 1) := dk_61 (dk_at dksX0_layRows_8 10 rfl rfl)
theorem dX0_layRows_199 : decode cX0_layRows 199 = .ok (.iinc 3 1, 3) := dk_132 3 1 (dk_at dksX0_layRows_8 11 rfl rfl)
theorem dX0_layRows_202 : decode cX0_layRows 202 = .ok (.goto (-198), 3) := dk_167 255 58 (dk_at dksX0_layRows_8 14 rfl rfl)
theorem dX0_layRows_205 : decode cX0_layRows 205 = .ok (.iload_n 2, 1) := dk_28 (dk_at dksX0_layRows_8 17 rfl rfl)
theorem dX0_layRows_206 : decode cX0_layRows 206 = .ok (.ireturn, 1) := dk_172 (dk_at dksX0_layRows_8 18 rfl rfl)
abbrev cX0_rowsInAll : ByteArray := prog_1_method_82_code
def yX0_rowsInAll : MethodName := ⟨RX0, "rowsInAll", "()I"⟩
def dkwX0_rowsInAll_1 : List UInt8 := [167, 0, 12, 42, 182, 1, 97, 42, 182, 1, 97, 104, 172]
abbrev dktX0_rowsInAll_1 : List UInt8 := dkwX0_rowsInAll_1 ++ []
def dkwX0_rowsInAll_0 : List UInt8 := [42, 182, 0, 140, 154, 0, 7, 3, 167, 0, 27, 42, 182, 0, 140, 4, 160, 0, 10, 42, 182, 1, 97]
abbrev dktX0_rowsInAll_0 : List UInt8 := dkwX0_rowsInAll_0 ++ dktX0_rowsInAll_1
theorem dksX0_rowsInAll_0 : cX0_rowsInAll.data.toList.drop 0 = dktX0_rowsInAll_0 := by decide +kernel
theorem dksX0_rowsInAll_1 : cX0_rowsInAll.data.toList.drop 23 = dktX0_rowsInAll_1 := dk_seg dksX0_rowsInAll_0 23 rfl rfl
theorem dX0_rowsInAll_0 : decode cX0_rowsInAll 0 = .ok (.aload_n 0, 1) := dk_42 (dk_at dksX0_rowsInAll_0 0 rfl rfl)
theorem dX0_rowsInAll_1 : decode cX0_rowsInAll 1 = .ok (.invokevirtual 140, 3) := dk_182 0 140 (dk_at dksX0_rowsInAll_0 1 rfl rfl)
theorem dX0_rowsInAll_4 : decode cX0_rowsInAll 4 = .ok (.ifCond .ne 7, 3) := dk_154 0 7 (dk_at dksX0_rowsInAll_0 4 rfl rfl)
theorem dX0_rowsInAll_7 : decode cX0_rowsInAll 7 = .ok (.iconst 0, 1) := dk_3 (dk_at dksX0_rowsInAll_0 7 rfl rfl)
theorem dX0_rowsInAll_8 : decode cX0_rowsInAll 8 = .ok (.goto 27, 3) := dk_167 0 27 (dk_at dksX0_rowsInAll_0 8 rfl rfl)
theorem dX0_rowsInAll_11 : decode cX0_rowsInAll 11 = .ok (.aload_n 0, 1) := dk_42 (dk_at dksX0_rowsInAll_0 11 rfl rfl)
theorem dX0_rowsInAll_12 : decode cX0_rowsInAll 12 = .ok (.invokevirtual 140, 3) := dk_182 0 140 (dk_at dksX0_rowsInAll_0 12 rfl rfl)
theorem dX0_rowsInAll_15 : decode cX0_rowsInAll 15 = .ok (.iconst 1, 1) := dk_4 (dk_at dksX0_rowsInAll_0 15 rfl rfl)
theorem dX0_rowsInAll_16 : decode cX0_rowsInAll 16 = .ok (.if_icmp .ne 10, 3) := dk_160 0 10 (dk_at dksX0_rowsInAll_0 16 rfl rfl)
theorem dX0_rowsInAll_19 : decode cX0_rowsInAll 19 = .ok (.aload_n 0, 1) := dk_42 (dk_at dksX0_rowsInAll_0 19 rfl rfl)
theorem dX0_rowsInAll_20 : decode cX0_rowsInAll 20 = .ok (.invokevirtual 353, 3) := dk_182 1 97 (dk_at dksX0_rowsInAll_0 20 rfl rfl)
theorem dX0_rowsInAll_23 : decode cX0_rowsInAll 23 = .ok (.goto 12, 3) := dk_167 0 12 (dk_at dksX0_rowsInAll_1 0 rfl rfl)
theorem dX0_rowsInAll_26 : decode cX0_rowsInAll 26 = .ok (.aload_n 0, 1) := dk_42 (dk_at dksX0_rowsInAll_1 3 rfl rfl)
theorem dX0_rowsInAll_27 : decode cX0_rowsInAll 27 = .ok (.invokevirtual 353, 3) := dk_182 1 97 (dk_at dksX0_rowsInAll_1 4 rfl rfl)
theorem dX0_rowsInAll_30 : decode cX0_rowsInAll 30 = .ok (.aload_n 0, 1) := dk_42 (dk_at dksX0_rowsInAll_1 7 rfl rfl)
theorem dX0_rowsInAll_31 : decode cX0_rowsInAll 31 = .ok (.invokevirtual 353, 3) := dk_182 1 97 (dk_at dksX0_rowsInAll_1 8 rfl rfl)
theorem dX0_rowsInAll_34 : decode cX0_rowsInAll 34 = .ok (.imul, 1) := dk_104 (dk_at dksX0_rowsInAll_1 11 rfl rfl)
theorem dX0_rowsInAll_35 : decode cX0_rowsInAll 35 = .ok (.ireturn, 1) := dk_172 (dk_at dksX0_rowsInAll_1 12 rfl rfl)
abbrev cX0_choices : ByteArray := prog_1_method_81_code
def yX0_choices : MethodName := ⟨RX0, "choices", "()I"⟩
def dkwX0_choices_0 : List UInt8 := [42, 182, 0, 153, 4, 96, 172]
abbrev dktX0_choices_0 : List UInt8 := dkwX0_choices_0 ++ []
theorem dksX0_choices_0 : cX0_choices.data.toList.drop 0 = dktX0_choices_0 := by decide +kernel
theorem dX0_choices_0 : decode cX0_choices 0 = .ok (.aload_n 0, 1) := dk_42 (dk_at dksX0_choices_0 0 rfl rfl)
theorem dX0_choices_1 : decode cX0_choices 1 = .ok (.invokevirtual 153, 3) := dk_182 0 153 (dk_at dksX0_choices_0 1 rfl rfl)
theorem dX0_choices_4 : decode cX0_choices 4 = .ok (.iconst 1, 1) := dk_4 (dk_at dksX0_choices_0 4 rfl rfl)
theorem dX0_choices_5 : decode cX0_choices 5 = .ok (.iadd, 1) := dk_96 (dk_at dksX0_choices_0 5 rfl rfl)
theorem dX0_choices_6 : decode cX0_choices 6 = .ok (.ireturn, 1) := dk_172 (dk_at dksX0_choices_0 6 rfl rfl)
abbrev cX0_choice : ByteArray := prog_1_method_83_code
def yX0_choice : MethodName := ⟨RX0, "choice", "(II)I"⟩
def dkwX0_choice_1 : List UInt8 := [182, 0, 153, 160, 0, 7, 2, 167, 0, 4, 29, 172]
abbrev dktX0_choice_1 : List UInt8 := dkwX0_choice_1 ++ []
def dkwX0_choice_0 : List UInt8 := [28, 154, 0, 12, 27, 42, 182, 1, 97, 112, 167, 0, 9, 27, 42, 182, 1, 97, 108, 62, 29, 42]
abbrev dktX0_choice_0 : List UInt8 := dkwX0_choice_0 ++ dktX0_choice_1
theorem dksX0_choice_0 : cX0_choice.data.toList.drop 0 = dktX0_choice_0 := by decide +kernel
theorem dksX0_choice_1 : cX0_choice.data.toList.drop 22 = dktX0_choice_1 := dk_seg dksX0_choice_0 22 rfl rfl
theorem dX0_choice_0 : decode cX0_choice 0 = .ok (.iload_n 2, 1) := dk_28 (dk_at dksX0_choice_0 0 rfl rfl)
theorem dX0_choice_1 : decode cX0_choice 1 = .ok (.ifCond .ne 12, 3) := dk_154 0 12 (dk_at dksX0_choice_0 1 rfl rfl)
theorem dX0_choice_4 : decode cX0_choice 4 = .ok (.iload_n 1, 1) := dk_27 (dk_at dksX0_choice_0 4 rfl rfl)
theorem dX0_choice_5 : decode cX0_choice 5 = .ok (.aload_n 0, 1) := dk_42 (dk_at dksX0_choice_0 5 rfl rfl)
theorem dX0_choice_6 : decode cX0_choice 6 = .ok (.invokevirtual 353, 3) := dk_182 1 97 (dk_at dksX0_choice_0 6 rfl rfl)
theorem dX0_choice_9 : decode cX0_choice 9 = .ok (.irem, 1) := dk_112 (dk_at dksX0_choice_0 9 rfl rfl)
theorem dX0_choice_10 : decode cX0_choice 10 = .ok (.goto 9, 3) := dk_167 0 9 (dk_at dksX0_choice_0 10 rfl rfl)
theorem dX0_choice_13 : decode cX0_choice 13 = .ok (.iload_n 1, 1) := dk_27 (dk_at dksX0_choice_0 13 rfl rfl)
theorem dX0_choice_14 : decode cX0_choice 14 = .ok (.aload_n 0, 1) := dk_42 (dk_at dksX0_choice_0 14 rfl rfl)
theorem dX0_choice_15 : decode cX0_choice 15 = .ok (.invokevirtual 353, 3) := dk_182 1 97 (dk_at dksX0_choice_0 15 rfl rfl)
theorem dX0_choice_18 : decode cX0_choice 18 = .ok (.idiv, 1) := dk_108 (dk_at dksX0_choice_0 18 rfl rfl)
theorem dX0_choice_19 : decode cX0_choice 19 = .ok (.istore_n 3, 1) := dk_62 (dk_at dksX0_choice_0 19 rfl rfl)
theorem dX0_choice_20 : decode cX0_choice 20 = .ok (.iload_n 3, 1) := dk_29 (dk_at dksX0_choice_0 20 rfl rfl)
theorem dX0_choice_21 : decode cX0_choice 21 = .ok (.aload_n 0, 1) := dk_42 (dk_at dksX0_choice_0 21 rfl rfl)
theorem dX0_choice_22 : decode cX0_choice 22 = .ok (.invokevirtual 153, 3) := dk_182 0 153 (dk_at dksX0_choice_1 0 rfl rfl)
theorem dX0_choice_25 : decode cX0_choice 25 = .ok (.if_icmp .ne 7, 3) := dk_160 0 7 (dk_at dksX0_choice_1 3 rfl rfl)
theorem dX0_choice_28 : decode cX0_choice 28 = .ok (.iconst (-1), 1) := dk_2 (dk_at dksX0_choice_1 6 rfl rfl)
theorem dX0_choice_29 : decode cX0_choice 29 = .ok (.goto 4, 3) := dk_167 0 4 (dk_at dksX0_choice_1 7 rfl rfl)
theorem dX0_choice_32 : decode cX0_choice 32 = .ok (.iload_n 3, 1) := dk_29 (dk_at dksX0_choice_1 10 rfl rfl)
theorem dX0_choice_33 : decode cX0_choice 33 = .ok (.ireturn, 1) := dk_172 (dk_at dksX0_choice_1 11 rfl rfl)
abbrev cX0_sure : ByteArray := prog_1_method_86_code
def yX0_sure : MethodName := ⟨RX0, "sure", "(II)I"⟩
def dkwX0_sure_4 : List UInt8 := [172]
abbrev dktX0_sure_4 : List UInt8 := dkwX0_sure_4 ++ []
def dkwX0_sure_3 : List UInt8 := [182, 1, 103, 159, 0, 6, 16, 254, 172, 42, 21, 4, 27, 182, 1, 103, 62, 132, 4, 1, 167, 255, 203, 29]
abbrev dktX0_sure_3 : List UInt8 := dkwX0_sure_3 ++ dktX0_sure_4
def dkwX0_sure_2 : List UInt8 := [180, 0, 95, 21, 4, 51, 154, 0, 6, 167, 0, 31, 29, 16, 253, 159, 0, 17, 29, 42, 21, 4, 27]
abbrev dktX0_sure_2 : List UInt8 := dkwX0_sure_2 ++ dktX0_sure_3
def dkwX0_sure_1 : List UInt8 := [154, 0, 6, 16, 253, 172, 16, 253, 62, 3, 54, 4, 21, 4, 42, 182, 1, 100, 162, 0, 50, 42]
abbrev dktX0_sure_1 : List UInt8 := dkwX0_sure_1 ++ dktX0_sure_2
def dkwX0_sure_0 : List UInt8 := [27, 3, 4, 42, 182, 0, 140, 4, 100, 184, 1, 112, 184, 0, 155, 153, 0, 11, 42, 28, 182, 1, 109]
abbrev dktX0_sure_0 : List UInt8 := dkwX0_sure_0 ++ dktX0_sure_1
theorem dksX0_sure_0 : cX0_sure.data.toList.drop 0 = dktX0_sure_0 := by decide +kernel
theorem dksX0_sure_1 : cX0_sure.data.toList.drop 23 = dktX0_sure_1 := dk_seg dksX0_sure_0 23 rfl rfl
theorem dksX0_sure_2 : cX0_sure.data.toList.drop 45 = dktX0_sure_2 := dk_seg dksX0_sure_1 22 rfl rfl
theorem dksX0_sure_3 : cX0_sure.data.toList.drop 68 = dktX0_sure_3 := dk_seg dksX0_sure_2 23 rfl rfl
theorem dksX0_sure_4 : cX0_sure.data.toList.drop 92 = dktX0_sure_4 := dk_seg dksX0_sure_3 24 rfl rfl
theorem dX0_sure_0 : decode cX0_sure 0 = .ok (.iload_n 1, 1) := dk_27 (dk_at dksX0_sure_0 0 rfl rfl)
theorem dX0_sure_1 : decode cX0_sure 1 = .ok (.iconst 0, 1) := dk_3 (dk_at dksX0_sure_0 1 rfl rfl)
theorem dX0_sure_2 : decode cX0_sure 2 = .ok (.iconst 1, 1) := dk_4 (dk_at dksX0_sure_0 2 rfl rfl)
theorem dX0_sure_3 : decode cX0_sure 3 = .ok (.aload_n 0, 1) := dk_42 (dk_at dksX0_sure_0 3 rfl rfl)
theorem dX0_sure_4 : decode cX0_sure 4 = .ok (.invokevirtual 140, 3) := dk_182 0 140 (dk_at dksX0_sure_0 4 rfl rfl)
theorem dX0_sure_7 : decode cX0_sure 7 = .ok (.iconst 1, 1) := dk_4 (dk_at dksX0_sure_0 7 rfl rfl)
theorem dX0_sure_8 : decode cX0_sure 8 = .ok (.isub, 1) := dk_100 (dk_at dksX0_sure_0 8 rfl rfl)
theorem dX0_sure_9 : decode cX0_sure 9 = .ok (.invokestatic 368, 3) := dk_184 1 112 (dk_at dksX0_sure_0 9 rfl rfl)
theorem dX0_sure_12 : decode cX0_sure 12 = .ok (.invokestatic 155, 3) := dk_184 0 155 (dk_at dksX0_sure_0 12 rfl rfl)
theorem dX0_sure_15 : decode cX0_sure 15 = .ok (.ifCond .eq 11, 3) := dk_153 0 11 (dk_at dksX0_sure_0 15 rfl rfl)
theorem dX0_sure_18 : decode cX0_sure 18 = .ok (.aload_n 0, 1) := dk_42 (dk_at dksX0_sure_0 18 rfl rfl)
theorem dX0_sure_19 : decode cX0_sure 19 = .ok (.iload_n 2, 1) := dk_28 (dk_at dksX0_sure_0 19 rfl rfl)
theorem dX0_sure_20 : decode cX0_sure 20 = .ok (.invokevirtual 365, 3) := dk_182 1 109 (dk_at dksX0_sure_0 20 rfl rfl)
theorem dX0_sure_23 : decode cX0_sure 23 = .ok (.ifCond .ne 6, 3) := dk_154 0 6 (dk_at dksX0_sure_1 0 rfl rfl)
theorem dX0_sure_26 : decode cX0_sure 26 = .ok (.bipush (-3), 2) := dk_16 253 (dk_at dksX0_sure_1 3 rfl rfl)
theorem dX0_sure_28 : decode cX0_sure 28 = .ok (.ireturn, 1) := dk_172 (dk_at dksX0_sure_1 5 rfl rfl)
theorem dX0_sure_29 : decode cX0_sure 29 = .ok (.bipush (-3), 2) := dk_16 253 (dk_at dksX0_sure_1 6 rfl rfl)
theorem dX0_sure_31 : decode cX0_sure 31 = .ok (.istore_n 3, 1) := dk_62 (dk_at dksX0_sure_1 8 rfl rfl)
theorem dX0_sure_32 : decode cX0_sure 32 = .ok (.iconst 0, 1) := dk_3 (dk_at dksX0_sure_1 9 rfl rfl)
theorem dX0_sure_33 : decode cX0_sure 33 = .ok (.istore 4, 2) := dk_54 4 (dk_at dksX0_sure_1 10 rfl rfl)
theorem dX0_sure_35 : decode cX0_sure 35 = .ok (.iload 4, 2) := dk_21 4 (dk_at dksX0_sure_1 12 rfl rfl)
theorem dX0_sure_37 : decode cX0_sure 37 = .ok (.aload_n 0, 1) := dk_42 (dk_at dksX0_sure_1 14 rfl rfl)
theorem dX0_sure_38 : decode cX0_sure 38 = .ok (.invokevirtual 356, 3) := dk_182 1 100 (dk_at dksX0_sure_1 15 rfl rfl)
theorem dX0_sure_41 : decode cX0_sure 41 = .ok (.if_icmp .ge 50, 3) := dk_162 0 50 (dk_at dksX0_sure_1 18 rfl rfl)
theorem dX0_sure_44 : decode cX0_sure 44 = .ok (.aload_n 0, 1) := dk_42 (dk_at dksX0_sure_1 21 rfl rfl)
theorem dX0_sure_45 : decode cX0_sure 45 = .ok (.getfield 95, 3) := dk_180 0 95 (dk_at dksX0_sure_2 0 rfl rfl)
theorem dX0_sure_48 : decode cX0_sure 48 = .ok (.iload 4, 2) := dk_21 4 (dk_at dksX0_sure_2 3 rfl rfl)
theorem dX0_sure_50 : decode cX0_sure 50 = .ok (.baload, 1) := dk_51 (dk_at dksX0_sure_2 5 rfl rfl)
theorem dX0_sure_51 : decode cX0_sure 51 = .ok (.ifCond .ne 6, 3) := dk_154 0 6 (dk_at dksX0_sure_2 6 rfl rfl)
theorem dX0_sure_54 : decode cX0_sure 54 = .ok (.goto 31, 3) := dk_167 0 31 (dk_at dksX0_sure_2 9 rfl rfl)
theorem dX0_sure_57 : decode cX0_sure 57 = .ok (.iload_n 3, 1) := dk_29 (dk_at dksX0_sure_2 12 rfl rfl)
theorem dX0_sure_58 : decode cX0_sure 58 = .ok (.bipush (-3), 2) := dk_16 253 (dk_at dksX0_sure_2 13 rfl rfl)
theorem dX0_sure_60 : decode cX0_sure 60 = .ok (.if_icmp .eq 17, 3) := dk_159 0 17 (dk_at dksX0_sure_2 15 rfl rfl)
theorem dX0_sure_63 : decode cX0_sure 63 = .ok (.iload_n 3, 1) := dk_29 (dk_at dksX0_sure_2 18 rfl rfl)
theorem dX0_sure_64 : decode cX0_sure 64 = .ok (.aload_n 0, 1) := dk_42 (dk_at dksX0_sure_2 19 rfl rfl)
theorem dX0_sure_65 : decode cX0_sure 65 = .ok (.iload 4, 2) := dk_21 4 (dk_at dksX0_sure_2 20 rfl rfl)
theorem dX0_sure_67 : decode cX0_sure 67 = .ok (.iload_n 1, 1) := dk_27 (dk_at dksX0_sure_2 22 rfl rfl)
theorem dX0_sure_68 : decode cX0_sure 68 = .ok (.invokevirtual 359, 3) := dk_182 1 103 (dk_at dksX0_sure_3 0 rfl rfl)
theorem dX0_sure_71 : decode cX0_sure 71 = .ok (.if_icmp .eq 6, 3) := dk_159 0 6 (dk_at dksX0_sure_3 3 rfl rfl)
theorem dX0_sure_74 : decode cX0_sure 74 = .ok (.bipush (-2), 2) := dk_16 254 (dk_at dksX0_sure_3 6 rfl rfl)
theorem dX0_sure_76 : decode cX0_sure 76 = .ok (.ireturn, 1) := dk_172 (dk_at dksX0_sure_3 8 rfl rfl)
theorem dX0_sure_77 : decode cX0_sure 77 = .ok (.aload_n 0, 1) := dk_42 (dk_at dksX0_sure_3 9 rfl rfl)
theorem dX0_sure_78 : decode cX0_sure 78 = .ok (.iload 4, 2) := dk_21 4 (dk_at dksX0_sure_3 10 rfl rfl)
theorem dX0_sure_80 : decode cX0_sure 80 = .ok (.iload_n 1, 1) := dk_27 (dk_at dksX0_sure_3 12 rfl rfl)
theorem dX0_sure_81 : decode cX0_sure 81 = .ok (.invokevirtual 359, 3) := dk_182 1 103 (dk_at dksX0_sure_3 13 rfl rfl)
theorem dX0_sure_84 : decode cX0_sure 84 = .ok (.istore_n 3, 1) := dk_62 (dk_at dksX0_sure_3 16 rfl rfl)
theorem dX0_sure_85 : decode cX0_sure 85 = .ok (.iinc 4 1, 3) := dk_132 4 1 (dk_at dksX0_sure_3 17 rfl rfl)
theorem dX0_sure_88 : decode cX0_sure 88 = .ok (.goto (-53), 3) := dk_167 255 203 (dk_at dksX0_sure_3 20 rfl rfl)
theorem dX0_sure_91 : decode cX0_sure 91 = .ok (.iload_n 3, 1) := dk_29 (dk_at dksX0_sure_3 23 rfl rfl)
theorem dX0_sure_92 : decode cX0_sure 92 = .ok (.ireturn, 1) := dk_172 (dk_at dksX0_sure_4 0 rfl rfl)
abbrev cX0_ask : ByteArray := prog_1_method_88_code
def yX0_ask : MethodName := ⟨RX0, "ask", "(II)I"⟩
def dkwX0_ask_3 : List UInt8 := [167, 0, 8, 42, 29, 182, 1, 120, 172]
abbrev dktX0_ask_3 : List UInt8 := dkwX0_ask_3 ++ []
def dkwX0_ask_2 : List UInt8 := [182, 1, 120, 162, 0, 8, 21, 4, 167, 0, 4, 29, 62, 132, 4, 1, 167, 255, 223, 27, 154, 0, 7, 29]
abbrev dktX0_ask_2 : List UInt8 := dkwX0_ask_2 ++ dktX0_ask_3
def dkwX0_ask_1 : List UInt8 := [2, 172, 3, 62, 4, 54, 4, 21, 4, 42, 182, 0, 153, 162, 0, 30, 42, 21, 4, 182, 1, 120, 42, 29]
abbrev dktX0_ask_1 : List UInt8 := dkwX0_ask_1 ++ dktX0_ask_2
def dkwX0_ask_0 : List UInt8 := [27, 3, 4, 184, 0, 155, 153, 0, 18, 42, 182, 0, 153, 153, 0, 11, 42, 28, 182, 1, 109, 154, 0, 5]
abbrev dktX0_ask_0 : List UInt8 := dkwX0_ask_0 ++ dktX0_ask_1
theorem dksX0_ask_0 : cX0_ask.data.toList.drop 0 = dktX0_ask_0 := by decide +kernel
theorem dksX0_ask_1 : cX0_ask.data.toList.drop 24 = dktX0_ask_1 := dk_seg dksX0_ask_0 24 rfl rfl
theorem dksX0_ask_2 : cX0_ask.data.toList.drop 48 = dktX0_ask_2 := dk_seg dksX0_ask_1 24 rfl rfl
theorem dksX0_ask_3 : cX0_ask.data.toList.drop 72 = dktX0_ask_3 := dk_seg dksX0_ask_2 24 rfl rfl
theorem dX0_ask_0 : decode cX0_ask 0 = .ok (.iload_n 1, 1) := dk_27 (dk_at dksX0_ask_0 0 rfl rfl)
theorem dX0_ask_1 : decode cX0_ask 1 = .ok (.iconst 0, 1) := dk_3 (dk_at dksX0_ask_0 1 rfl rfl)
theorem dX0_ask_2 : decode cX0_ask 2 = .ok (.iconst 1, 1) := dk_4 (dk_at dksX0_ask_0 2 rfl rfl)
theorem dX0_ask_3 : decode cX0_ask 3 = .ok (.invokestatic 155, 3) := dk_184 0 155 (dk_at dksX0_ask_0 3 rfl rfl)
theorem dX0_ask_6 : decode cX0_ask 6 = .ok (.ifCond .eq 18, 3) := dk_153 0 18 (dk_at dksX0_ask_0 6 rfl rfl)
theorem dX0_ask_9 : decode cX0_ask 9 = .ok (.aload_n 0, 1) := dk_42 (dk_at dksX0_ask_0 9 rfl rfl)
theorem dX0_ask_10 : decode cX0_ask 10 = .ok (.invokevirtual 153, 3) := dk_182 0 153 (dk_at dksX0_ask_0 10 rfl rfl)
theorem dX0_ask_13 : decode cX0_ask 13 = .ok (.ifCond .eq 11, 3) := dk_153 0 11 (dk_at dksX0_ask_0 13 rfl rfl)
theorem dX0_ask_16 : decode cX0_ask 16 = .ok (.aload_n 0, 1) := dk_42 (dk_at dksX0_ask_0 16 rfl rfl)
theorem dX0_ask_17 : decode cX0_ask 17 = .ok (.iload_n 2, 1) := dk_28 (dk_at dksX0_ask_0 17 rfl rfl)
theorem dX0_ask_18 : decode cX0_ask 18 = .ok (.invokevirtual 365, 3) := dk_182 1 109 (dk_at dksX0_ask_0 18 rfl rfl)
theorem dX0_ask_21 : decode cX0_ask 21 = .ok (.ifCond .ne 5, 3) := dk_154 0 5 (dk_at dksX0_ask_0 21 rfl rfl)
theorem dX0_ask_24 : decode cX0_ask 24 = .ok (.iconst (-1), 1) := dk_2 (dk_at dksX0_ask_1 0 rfl rfl)
theorem dX0_ask_25 : decode cX0_ask 25 = .ok (.ireturn, 1) := dk_172 (dk_at dksX0_ask_1 1 rfl rfl)
theorem dX0_ask_26 : decode cX0_ask 26 = .ok (.iconst 0, 1) := dk_3 (dk_at dksX0_ask_1 2 rfl rfl)
theorem dX0_ask_27 : decode cX0_ask 27 = .ok (.istore_n 3, 1) := dk_62 (dk_at dksX0_ask_1 3 rfl rfl)
theorem dX0_ask_28 : decode cX0_ask 28 = .ok (.iconst 1, 1) := dk_4 (dk_at dksX0_ask_1 4 rfl rfl)
theorem dX0_ask_29 : decode cX0_ask 29 = .ok (.istore 4, 2) := dk_54 4 (dk_at dksX0_ask_1 5 rfl rfl)
theorem dX0_ask_31 : decode cX0_ask 31 = .ok (.iload 4, 2) := dk_21 4 (dk_at dksX0_ask_1 7 rfl rfl)
theorem dX0_ask_33 : decode cX0_ask 33 = .ok (.aload_n 0, 1) := dk_42 (dk_at dksX0_ask_1 9 rfl rfl)
theorem dX0_ask_34 : decode cX0_ask 34 = .ok (.invokevirtual 153, 3) := dk_182 0 153 (dk_at dksX0_ask_1 10 rfl rfl)
theorem dX0_ask_37 : decode cX0_ask 37 = .ok (.if_icmp .ge 30, 3) := dk_162 0 30 (dk_at dksX0_ask_1 13 rfl rfl)
theorem dX0_ask_40 : decode cX0_ask 40 = .ok (.aload_n 0, 1) := dk_42 (dk_at dksX0_ask_1 16 rfl rfl)
theorem dX0_ask_41 : decode cX0_ask 41 = .ok (.iload 4, 2) := dk_21 4 (dk_at dksX0_ask_1 17 rfl rfl)
theorem dX0_ask_43 : decode cX0_ask 43 = .ok (.invokevirtual 376, 3) := dk_182 1 120 (dk_at dksX0_ask_1 19 rfl rfl)
theorem dX0_ask_46 : decode cX0_ask 46 = .ok (.aload_n 0, 1) := dk_42 (dk_at dksX0_ask_1 22 rfl rfl)
theorem dX0_ask_47 : decode cX0_ask 47 = .ok (.iload_n 3, 1) := dk_29 (dk_at dksX0_ask_1 23 rfl rfl)
theorem dX0_ask_48 : decode cX0_ask 48 = .ok (.invokevirtual 376, 3) := dk_182 1 120 (dk_at dksX0_ask_2 0 rfl rfl)
theorem dX0_ask_51 : decode cX0_ask 51 = .ok (.if_icmp .ge 8, 3) := dk_162 0 8 (dk_at dksX0_ask_2 3 rfl rfl)
theorem dX0_ask_54 : decode cX0_ask 54 = .ok (.iload 4, 2) := dk_21 4 (dk_at dksX0_ask_2 6 rfl rfl)
theorem dX0_ask_56 : decode cX0_ask 56 = .ok (.goto 4, 3) := dk_167 0 4 (dk_at dksX0_ask_2 8 rfl rfl)
theorem dX0_ask_59 : decode cX0_ask 59 = .ok (.iload_n 3, 1) := dk_29 (dk_at dksX0_ask_2 11 rfl rfl)
theorem dX0_ask_60 : decode cX0_ask 60 = .ok (.istore_n 3, 1) := dk_62 (dk_at dksX0_ask_2 12 rfl rfl)
theorem dX0_ask_61 : decode cX0_ask 61 = .ok (.iinc 4 1, 3) := dk_132 4 1 (dk_at dksX0_ask_2 13 rfl rfl)
theorem dX0_ask_64 : decode cX0_ask 64 = .ok (.goto (-33), 3) := dk_167 255 223 (dk_at dksX0_ask_2 16 rfl rfl)
theorem dX0_ask_67 : decode cX0_ask 67 = .ok (.iload_n 1, 1) := dk_27 (dk_at dksX0_ask_2 19 rfl rfl)
theorem dX0_ask_68 : decode cX0_ask 68 = .ok (.ifCond .ne 7, 3) := dk_154 0 7 (dk_at dksX0_ask_2 20 rfl rfl)
theorem dX0_ask_71 : decode cX0_ask 71 = .ok (.iload_n 3, 1) := dk_29 (dk_at dksX0_ask_2 23 rfl rfl)
theorem dX0_ask_72 : decode cX0_ask 72 = .ok (.goto 8, 3) := dk_167 0 8 (dk_at dksX0_ask_3 0 rfl rfl)
theorem dX0_ask_75 : decode cX0_ask 75 = .ok (.aload_n 0, 1) := dk_42 (dk_at dksX0_ask_3 3 rfl rfl)
theorem dX0_ask_76 : decode cX0_ask 76 = .ok (.iload_n 3, 1) := dk_29 (dk_at dksX0_ask_3 4 rfl rfl)
theorem dX0_ask_77 : decode cX0_ask 77 = .ok (.invokevirtual 376, 3) := dk_182 1 120 (dk_at dksX0_ask_3 5 rfl rfl)
theorem dX0_ask_80 : decode cX0_ask 80 = .ok (.ireturn, 1) := dk_172 (dk_at dksX0_ask_3 8 rfl rfl)
abbrev cX0_leftBy : ByteArray := prog_1_method_87_code
def yX0_leftBy : MethodName := ⟨RX0, "leftBy", "(I)I"⟩
def dkwX0_leftBy_3 : List UInt8 := [61, 132, 3, 1, 167, 255, 186, 28, 172]
abbrev dktX0_leftBy_3 : List UInt8 := dkwX0_leftBy_3 ++ []
def dkwX0_leftBy_2 : List UInt8 := [29, 160, 0, 7, 4, 167, 0, 4, 3, 96, 54, 4, 132, 5, 1, 167, 255, 211, 28, 21, 4, 184, 1, 117]
abbrev dktX0_leftBy_2 : List UInt8 := dkwX0_leftBy_2 ++ dktX0_leftBy_3
def dkwX0_leftBy_1 : List UInt8 := [162, 0, 42, 21, 4, 42, 180, 0, 95, 21, 5, 51, 153, 0, 20, 42, 180, 0, 92, 21, 5, 50, 27, 46]
abbrev dktX0_leftBy_1 : List UInt8 := dkwX0_leftBy_1 ++ dktX0_leftBy_2
def dkwX0_leftBy_0 : List UInt8 := [3, 61, 3, 62, 29, 16, 10, 163, 0, 70, 3, 54, 4, 3, 54, 5, 21, 5, 42, 182, 1, 100]
abbrev dktX0_leftBy_0 : List UInt8 := dkwX0_leftBy_0 ++ dktX0_leftBy_1
theorem dksX0_leftBy_0 : cX0_leftBy.data.toList.drop 0 = dktX0_leftBy_0 := by decide +kernel
theorem dksX0_leftBy_1 : cX0_leftBy.data.toList.drop 22 = dktX0_leftBy_1 := dk_seg dksX0_leftBy_0 22 rfl rfl
theorem dksX0_leftBy_2 : cX0_leftBy.data.toList.drop 46 = dktX0_leftBy_2 := dk_seg dksX0_leftBy_1 24 rfl rfl
theorem dksX0_leftBy_3 : cX0_leftBy.data.toList.drop 70 = dktX0_leftBy_3 := dk_seg dksX0_leftBy_2 24 rfl rfl
theorem dX0_leftBy_0 : decode cX0_leftBy 0 = .ok (.iconst 0, 1) := dk_3 (dk_at dksX0_leftBy_0 0 rfl rfl)
theorem dX0_leftBy_1 : decode cX0_leftBy 1 = .ok (.istore_n 2, 1) := dk_61 (dk_at dksX0_leftBy_0 1 rfl rfl)
theorem dX0_leftBy_2 : decode cX0_leftBy 2 = .ok (.iconst 0, 1) := dk_3 (dk_at dksX0_leftBy_0 2 rfl rfl)
theorem dX0_leftBy_3 : decode cX0_leftBy 3 = .ok (.istore_n 3, 1) := dk_62 (dk_at dksX0_leftBy_0 3 rfl rfl)
theorem dX0_leftBy_4 : decode cX0_leftBy 4 = .ok (.iload_n 3, 1) := dk_29 (dk_at dksX0_leftBy_0 4 rfl rfl)
theorem dX0_leftBy_5 : decode cX0_leftBy 5 = .ok (.bipush 10, 2) := dk_16 10 (dk_at dksX0_leftBy_0 5 rfl rfl)
theorem dX0_leftBy_7 : decode cX0_leftBy 7 = .ok (.if_icmp .gt 70, 3) := dk_163 0 70 (dk_at dksX0_leftBy_0 7 rfl rfl)
theorem dX0_leftBy_10 : decode cX0_leftBy 10 = .ok (.iconst 0, 1) := dk_3 (dk_at dksX0_leftBy_0 10 rfl rfl)
theorem dX0_leftBy_11 : decode cX0_leftBy 11 = .ok (.istore 4, 2) := dk_54 4 (dk_at dksX0_leftBy_0 11 rfl rfl)
theorem dX0_leftBy_13 : decode cX0_leftBy 13 = .ok (.iconst 0, 1) := dk_3 (dk_at dksX0_leftBy_0 13 rfl rfl)
theorem dX0_leftBy_14 : decode cX0_leftBy 14 = .ok (.istore 5, 2) := dk_54 5 (dk_at dksX0_leftBy_0 14 rfl rfl)
theorem dX0_leftBy_16 : decode cX0_leftBy 16 = .ok (.iload 5, 2) := dk_21 5 (dk_at dksX0_leftBy_0 16 rfl rfl)
theorem dX0_leftBy_18 : decode cX0_leftBy 18 = .ok (.aload_n 0, 1) := dk_42 (dk_at dksX0_leftBy_0 18 rfl rfl)
theorem dX0_leftBy_19 : decode cX0_leftBy 19 = .ok (.invokevirtual 356, 3) := dk_182 1 100 (dk_at dksX0_leftBy_0 19 rfl rfl)
theorem dX0_leftBy_22 : decode cX0_leftBy 22 = .ok (.if_icmp .ge 42, 3) := dk_162 0 42 (dk_at dksX0_leftBy_1 0 rfl rfl)
theorem dX0_leftBy_25 : decode cX0_leftBy 25 = .ok (.iload 4, 2) := dk_21 4 (dk_at dksX0_leftBy_1 3 rfl rfl)
theorem dX0_leftBy_27 : decode cX0_leftBy 27 = .ok (.aload_n 0, 1) := dk_42 (dk_at dksX0_leftBy_1 5 rfl rfl)
theorem dX0_leftBy_28 : decode cX0_leftBy 28 = .ok (.getfield 95, 3) := dk_180 0 95 (dk_at dksX0_leftBy_1 6 rfl rfl)
theorem dX0_leftBy_31 : decode cX0_leftBy 31 = .ok (.iload 5, 2) := dk_21 5 (dk_at dksX0_leftBy_1 9 rfl rfl)
theorem dX0_leftBy_33 : decode cX0_leftBy 33 = .ok (.baload, 1) := dk_51 (dk_at dksX0_leftBy_1 11 rfl rfl)
theorem dX0_leftBy_34 : decode cX0_leftBy 34 = .ok (.ifCond .eq 20, 3) := dk_153 0 20 (dk_at dksX0_leftBy_1 12 rfl rfl)
theorem dX0_leftBy_37 : decode cX0_leftBy 37 = .ok (.aload_n 0, 1) := dk_42 (dk_at dksX0_leftBy_1 15 rfl rfl)
theorem dX0_leftBy_38 : decode cX0_leftBy 38 = .ok (.getfield 92, 3) := dk_180 0 92 (dk_at dksX0_leftBy_1 16 rfl rfl)
theorem dX0_leftBy_41 : decode cX0_leftBy 41 = .ok (.iload 5, 2) := dk_21 5 (dk_at dksX0_leftBy_1 19 rfl rfl)
theorem dX0_leftBy_43 : decode cX0_leftBy 43 = .ok (.aaload, 1) := dk_50 (dk_at dksX0_leftBy_1 21 rfl rfl)
theorem dX0_leftBy_44 : decode cX0_leftBy 44 = .ok (.iload_n 1, 1) := dk_27 (dk_at dksX0_leftBy_1 22 rfl rfl)
theorem dX0_leftBy_45 : decode cX0_leftBy 45 = .ok (.iaload, 1) := dk_46 (dk_at dksX0_leftBy_1 23 rfl rfl)
theorem dX0_leftBy_46 : decode cX0_leftBy 46 = .ok (.iload_n 3, 1) := dk_29 (dk_at dksX0_leftBy_2 0 rfl rfl)
theorem dX0_leftBy_47 : decode cX0_leftBy 47 = .ok (.if_icmp .ne 7, 3) := dk_160 0 7 (dk_at dksX0_leftBy_2 1 rfl rfl)
theorem dX0_leftBy_50 : decode cX0_leftBy 50 = .ok (.iconst 1, 1) := dk_4 (dk_at dksX0_leftBy_2 4 rfl rfl)
theorem dX0_leftBy_51 : decode cX0_leftBy 51 = .ok (.goto 4, 3) := dk_167 0 4 (dk_at dksX0_leftBy_2 5 rfl rfl)
theorem dX0_leftBy_54 : decode cX0_leftBy 54 = .ok (.iconst 0, 1) := dk_3 (dk_at dksX0_leftBy_2 8 rfl rfl)
theorem dX0_leftBy_55 : decode cX0_leftBy 55 = .ok (.iadd, 1) := dk_96 (dk_at dksX0_leftBy_2 9 rfl rfl)
theorem dX0_leftBy_56 : decode cX0_leftBy 56 = .ok (.istore 4, 2) := dk_54 4 (dk_at dksX0_leftBy_2 10 rfl rfl)
theorem dX0_leftBy_58 : decode cX0_leftBy 58 = .ok (.iinc 5 1, 3) := dk_132 5 1 (dk_at dksX0_leftBy_2 12 rfl rfl)
theorem dX0_leftBy_61 : decode cX0_leftBy 61 = .ok (.goto (-45), 3) := dk_167 255 211 (dk_at dksX0_leftBy_2 15 rfl rfl)
theorem dX0_leftBy_64 : decode cX0_leftBy 64 = .ok (.iload_n 2, 1) := dk_28 (dk_at dksX0_leftBy_2 18 rfl rfl)
theorem dX0_leftBy_65 : decode cX0_leftBy 65 = .ok (.iload 4, 2) := dk_21 4 (dk_at dksX0_leftBy_2 19 rfl rfl)
theorem dX0_leftBy_67 : decode cX0_leftBy 67 = .ok (.invokestatic 373, 3) := dk_184 1 117 (dk_at dksX0_leftBy_2 21 rfl rfl)
theorem dX0_leftBy_70 : decode cX0_leftBy 70 = .ok (.istore_n 2, 1) := dk_61 (dk_at dksX0_leftBy_3 0 rfl rfl)
theorem dX0_leftBy_71 : decode cX0_leftBy 71 = .ok (.iinc 3 1, 3) := dk_132 3 1 (dk_at dksX0_leftBy_3 1 rfl rfl)
theorem dX0_leftBy_74 : decode cX0_leftBy 74 = .ok (.goto (-70), 3) := dk_167 255 186 (dk_at dksX0_leftBy_3 4 rfl rfl)
theorem dX0_leftBy_77 : decode cX0_leftBy 77 = .ok (.iload_n 2, 1) := dk_28 (dk_at dksX0_leftBy_3 7 rfl rfl)
theorem dX0_leftBy_78 : decode cX0_leftBy 78 = .ok (.ireturn, 1) := dk_172 (dk_at dksX0_leftBy_3 8 rfl rfl)
abbrev cX0_image : ByteArray := prog_1_method_90_code
def yX0_image : MethodName := ⟨RX0, "image", "(I)I"⟩
def dkwX0_image_1 : List UInt8 := [180, 0, 102, 27, 4, 84, 42, 180, 0, 53, 180, 0, 250, 172]
abbrev dktX0_image_1 : List UInt8 := dkwX0_image_1 ++ []
def dkwX0_image_0 : List UInt8 := [27, 184, 1, 123, 154, 0, 5, 2, 172, 42, 180, 0, 99, 27, 50, 42, 180, 0, 53, 182, 0, 230, 87, 42]
abbrev dktX0_image_0 : List UInt8 := dkwX0_image_0 ++ dktX0_image_1
theorem dksX0_image_0 : cX0_image.data.toList.drop 0 = dktX0_image_0 := by decide +kernel
theorem dksX0_image_1 : cX0_image.data.toList.drop 24 = dktX0_image_1 := dk_seg dksX0_image_0 24 rfl rfl
theorem dX0_image_0 : decode cX0_image 0 = .ok (.iload_n 1, 1) := dk_27 (dk_at dksX0_image_0 0 rfl rfl)
theorem dX0_image_1 : decode cX0_image 1 = .ok (.invokestatic 379, 3) := dk_184 1 123 (dk_at dksX0_image_0 1 rfl rfl)
theorem dX0_image_4 : decode cX0_image 4 = .ok (.ifCond .ne 5, 3) := dk_154 0 5 (dk_at dksX0_image_0 4 rfl rfl)
theorem dX0_image_7 : decode cX0_image 7 = .ok (.iconst (-1), 1) := dk_2 (dk_at dksX0_image_0 7 rfl rfl)
theorem dX0_image_8 : decode cX0_image 8 = .ok (.ireturn, 1) := dk_172 (dk_at dksX0_image_0 8 rfl rfl)
theorem dX0_image_9 : decode cX0_image 9 = .ok (.aload_n 0, 1) := dk_42 (dk_at dksX0_image_0 9 rfl rfl)
theorem dX0_image_10 : decode cX0_image 10 = .ok (.getfield 99, 3) := dk_180 0 99 (dk_at dksX0_image_0 10 rfl rfl)
theorem dX0_image_13 : decode cX0_image 13 = .ok (.iload_n 1, 1) := dk_27 (dk_at dksX0_image_0 13 rfl rfl)
theorem dX0_image_14 : decode cX0_image 14 = .ok (.aaload, 1) := dk_50 (dk_at dksX0_image_0 14 rfl rfl)
theorem dX0_image_15 : decode cX0_image 15 = .ok (.aload_n 0, 1) := dk_42 (dk_at dksX0_image_0 15 rfl rfl)
theorem dX0_image_16 : decode cX0_image 16 = .ok (.getfield 53, 3) := dk_180 0 53 (dk_at dksX0_image_0 16 rfl rfl)
theorem dX0_image_19 : decode cX0_image 19 = .ok (.invokevirtual 230, 3) := dk_182 0 230 (dk_at dksX0_image_0 19 rfl rfl)
theorem dX0_image_22 : decode cX0_image 22 = .ok (.pop, 1) := dk_87 (dk_at dksX0_image_0 22 rfl rfl)
theorem dX0_image_23 : decode cX0_image 23 = .ok (.aload_n 0, 1) := dk_42 (dk_at dksX0_image_0 23 rfl rfl)
theorem dX0_image_24 : decode cX0_image 24 = .ok (.getfield 102, 3) := dk_180 0 102 (dk_at dksX0_image_1 0 rfl rfl)
theorem dX0_image_27 : decode cX0_image 27 = .ok (.iload_n 1, 1) := dk_27 (dk_at dksX0_image_1 3 rfl rfl)
theorem dX0_image_28 : decode cX0_image 28 = .ok (.iconst 1, 1) := dk_4 (dk_at dksX0_image_1 4 rfl rfl)
theorem dX0_image_29 : decode cX0_image 29 = .ok (.bastore, 1) := dk_84 (dk_at dksX0_image_1 5 rfl rfl)
theorem dX0_image_30 : decode cX0_image 30 = .ok (.aload_n 0, 1) := dk_42 (dk_at dksX0_image_1 6 rfl rfl)
theorem dX0_image_31 : decode cX0_image 31 = .ok (.getfield 53, 3) := dk_180 0 53 (dk_at dksX0_image_1 7 rfl rfl)
theorem dX0_image_34 : decode cX0_image 34 = .ok (.getfield 250, 3) := dk_180 0 250 (dk_at dksX0_image_1 10 rfl rfl)
theorem dX0_image_37 : decode cX0_image 37 = .ok (.ireturn, 1) := dk_172 (dk_at dksX0_image_1 13 rfl rfl)
abbrev cX0_isBox : ByteArray := prog_1_method_89_code
def yX0_isBox : MethodName := ⟨RX0, "isBox", "(I)Z"⟩
def dkwX0_isBox_0 : List UInt8 := [26, 3, 5, 184, 0, 155, 172]
abbrev dktX0_isBox_0 : List UInt8 := dkwX0_isBox_0 ++ []
theorem dksX0_isBox_0 : cX0_isBox.data.toList.drop 0 = dktX0_isBox_0 := by decide +kernel
theorem dX0_isBox_0 : decode cX0_isBox 0 = .ok (.iload_n 0, 1) := dk_26 (dk_at dksX0_isBox_0 0 rfl rfl)
theorem dX0_isBox_1 : decode cX0_isBox 1 = .ok (.iconst 0, 1) := dk_3 (dk_at dksX0_isBox_0 1 rfl rfl)
theorem dX0_isBox_2 : decode cX0_isBox 2 = .ok (.iconst 2, 1) := dk_5 (dk_at dksX0_isBox_0 2 rfl rfl)
theorem dX0_isBox_3 : decode cX0_isBox 3 = .ok (.invokestatic 155, 3) := dk_184 0 155 (dk_at dksX0_isBox_0 3 rfl rfl)
theorem dX0_isBox_6 : decode cX0_isBox 6 = .ok (.ireturn, 1) := dk_172 (dk_at dksX0_isBox_0 6 rfl rfl)
abbrev cX0_back : ByteArray := prog_1_method_91_code
def yX0_back : MethodName := ⟨RX0, "back", "(I)I"⟩
def dkwX0_back_2 : List UInt8 := [180, 0, 250, 172]
abbrev dktX0_back_2 : List UInt8 := dkwX0_back_2 ++ []
def dkwX0_back_1 : List UInt8 := [180, 0, 99, 27, 50, 182, 0, 230, 87, 42, 3, 181, 0, 117, 42, 3, 181, 0, 120, 42, 180, 0, 53]
abbrev dktX0_back_1 : List UInt8 := dkwX0_back_1 ++ dktX0_back_2
def dkwX0_back_0 : List UInt8 := [27, 184, 1, 123, 153, 0, 12, 42, 180, 0, 102, 27, 51, 154, 0, 5, 2, 172, 42, 180, 0, 53, 42]
abbrev dktX0_back_0 : List UInt8 := dkwX0_back_0 ++ dktX0_back_1
theorem dksX0_back_0 : cX0_back.data.toList.drop 0 = dktX0_back_0 := by decide +kernel
theorem dksX0_back_1 : cX0_back.data.toList.drop 23 = dktX0_back_1 := dk_seg dksX0_back_0 23 rfl rfl
theorem dksX0_back_2 : cX0_back.data.toList.drop 46 = dktX0_back_2 := dk_seg dksX0_back_1 23 rfl rfl
theorem dX0_back_0 : decode cX0_back 0 = .ok (.iload_n 1, 1) := dk_27 (dk_at dksX0_back_0 0 rfl rfl)
theorem dX0_back_1 : decode cX0_back 1 = .ok (.invokestatic 379, 3) := dk_184 1 123 (dk_at dksX0_back_0 1 rfl rfl)
theorem dX0_back_4 : decode cX0_back 4 = .ok (.ifCond .eq 12, 3) := dk_153 0 12 (dk_at dksX0_back_0 4 rfl rfl)
theorem dX0_back_7 : decode cX0_back 7 = .ok (.aload_n 0, 1) := dk_42 (dk_at dksX0_back_0 7 rfl rfl)
theorem dX0_back_8 : decode cX0_back 8 = .ok (.getfield 102, 3) := dk_180 0 102 (dk_at dksX0_back_0 8 rfl rfl)
theorem dX0_back_11 : decode cX0_back 11 = .ok (.iload_n 1, 1) := dk_27 (dk_at dksX0_back_0 11 rfl rfl)
theorem dX0_back_12 : decode cX0_back 12 = .ok (.baload, 1) := dk_51 (dk_at dksX0_back_0 12 rfl rfl)
theorem dX0_back_13 : decode cX0_back 13 = .ok (.ifCond .ne 5, 3) := dk_154 0 5 (dk_at dksX0_back_0 13 rfl rfl)
theorem dX0_back_16 : decode cX0_back 16 = .ok (.iconst (-1), 1) := dk_2 (dk_at dksX0_back_0 16 rfl rfl)
theorem dX0_back_17 : decode cX0_back 17 = .ok (.ireturn, 1) := dk_172 (dk_at dksX0_back_0 17 rfl rfl)
theorem dX0_back_18 : decode cX0_back 18 = .ok (.aload_n 0, 1) := dk_42 (dk_at dksX0_back_0 18 rfl rfl)
theorem dX0_back_19 : decode cX0_back 19 = .ok (.getfield 53, 3) := dk_180 0 53 (dk_at dksX0_back_0 19 rfl rfl)
theorem dX0_back_22 : decode cX0_back 22 = .ok (.aload_n 0, 1) := dk_42 (dk_at dksX0_back_0 22 rfl rfl)
theorem dX0_back_23 : decode cX0_back 23 = .ok (.getfield 99, 3) := dk_180 0 99 (dk_at dksX0_back_1 0 rfl rfl)
theorem dX0_back_26 : decode cX0_back 26 = .ok (.iload_n 1, 1) := dk_27 (dk_at dksX0_back_1 3 rfl rfl)
theorem dX0_back_27 : decode cX0_back 27 = .ok (.aaload, 1) := dk_50 (dk_at dksX0_back_1 4 rfl rfl)
theorem dX0_back_28 : decode cX0_back 28 = .ok (.invokevirtual 230, 3) := dk_182 0 230 (dk_at dksX0_back_1 5 rfl rfl)
theorem dX0_back_31 : decode cX0_back 31 = .ok (.pop, 1) := dk_87 (dk_at dksX0_back_1 8 rfl rfl)
theorem dX0_back_32 : decode cX0_back 32 = .ok (.aload_n 0, 1) := dk_42 (dk_at dksX0_back_1 9 rfl rfl)
theorem dX0_back_33 : decode cX0_back 33 = .ok (.iconst 0, 1) := dk_3 (dk_at dksX0_back_1 10 rfl rfl)
theorem dX0_back_34 : decode cX0_back 34 = .ok (.putfield 117, 3) := dk_181 0 117 (dk_at dksX0_back_1 11 rfl rfl)
theorem dX0_back_37 : decode cX0_back 37 = .ok (.aload_n 0, 1) := dk_42 (dk_at dksX0_back_1 14 rfl rfl)
theorem dX0_back_38 : decode cX0_back 38 = .ok (.iconst 0, 1) := dk_3 (dk_at dksX0_back_1 15 rfl rfl)
theorem dX0_back_39 : decode cX0_back 39 = .ok (.putfield 120, 3) := dk_181 0 120 (dk_at dksX0_back_1 16 rfl rfl)
theorem dX0_back_42 : decode cX0_back 42 = .ok (.aload_n 0, 1) := dk_42 (dk_at dksX0_back_1 19 rfl rfl)
theorem dX0_back_43 : decode cX0_back 43 = .ok (.getfield 53, 3) := dk_180 0 53 (dk_at dksX0_back_1 20 rfl rfl)
theorem dX0_back_46 : decode cX0_back 46 = .ok (.getfield 250, 3) := dk_180 0 250 (dk_at dksX0_back_2 0 rfl rfl)
theorem dX0_back_49 : decode cX0_back 49 = .ok (.ireturn, 1) := dk_172 (dk_at dksX0_back_2 3 rfl rfl)
abbrev cX0_about : ByteArray := prog_1_method_92_code
def yX0_about : MethodName := ⟨RX0, "about", "(I)I"⟩
def dkwX0_about_6 : List UInt8 := [172, 42, 180, 0, 42, 42, 182, 0, 181, 182, 0, 209, 172, 2, 172]
abbrev dktX0_about_6 : List UInt8 := dkwX0_about_6 ++ []
def dkwX0_about_5 : List UInt8 := [180, 0, 105, 172, 42, 180, 0, 42, 180, 1, 129, 172, 42, 180, 0, 123, 172, 42, 180, 0, 42, 180, 1, 75]
abbrev dktX0_about_5 : List UInt8 := dkwX0_about_5 ++ dktX0_about_6
def dkwX0_about_4 : List UInt8 := [180, 0, 117, 172, 42, 180, 0, 120, 172, 42, 180, 0, 88, 182, 0, 3, 172, 42, 180, 1, 93, 172, 42]
abbrev dktX0_about_4 : List UInt8 := dkwX0_about_4 ++ dktX0_about_5
def dkwX0_about_3 : List UInt8 := [180, 0, 53, 180, 0, 162, 172, 42, 180, 0, 53, 180, 0, 250, 172, 42, 180, 0, 53, 180, 1, 126, 172, 42]
abbrev dktX0_about_3 : List UInt8 := dkwX0_about_3 ++ dktX0_about_4
def dkwX0_about_2 : List UInt8 := [42, 182, 0, 140, 172, 42, 182, 0, 151, 172, 42, 182, 0, 153, 172, 42, 180, 0, 53, 180, 0, 237, 172, 42]
abbrev dktX0_about_2 : List UInt8 := dkwX0_about_2 ++ dktX0_about_3
def dkwX0_about_1 : List UInt8 := [170, 0, 0, 0, 0, 0, 187, 0, 0, 0, 0, 0, 0, 0, 15, 0, 0, 0, 79, 0, 0, 0, 84, 0, 0, 0, 89, 0, 0, 0, 94, 0, 0, 0, 102, 0, 0, 0, 110, 0, 0, 0, 118, 0, 0, 0, 126, 0, 0, 0, 131, 0, 0, 0, 136, 0, 0, 0, 144, 0, 0, 0, 149, 0, 0, 0, 154, 0, 0, 0, 162, 0, 0, 0, 167, 0, 0, 0, 175]
abbrev dktX0_about_1 : List UInt8 := dkwX0_about_1 ++ dktX0_about_2
def dkwX0_about_0 : List UInt8 := [27]
abbrev dktX0_about_0 : List UInt8 := dkwX0_about_0 ++ dktX0_about_1
theorem dksX0_about_0 : cX0_about.data.toList.drop 0 = dktX0_about_0 := by decide +kernel
theorem dksX0_about_1 : cX0_about.data.toList.drop 1 = dktX0_about_1 := dk_seg dksX0_about_0 1 rfl rfl
theorem dksX0_about_2 : cX0_about.data.toList.drop 80 = dktX0_about_2 := dk_seg dksX0_about_1 79 rfl rfl
theorem dksX0_about_3 : cX0_about.data.toList.drop 104 = dktX0_about_3 := dk_seg dksX0_about_2 24 rfl rfl
theorem dksX0_about_4 : cX0_about.data.toList.drop 128 = dktX0_about_4 := dk_seg dksX0_about_3 24 rfl rfl
theorem dksX0_about_5 : cX0_about.data.toList.drop 151 = dktX0_about_5 := dk_seg dksX0_about_4 23 rfl rfl
theorem dksX0_about_6 : cX0_about.data.toList.drop 175 = dktX0_about_6 := dk_seg dksX0_about_5 24 rfl rfl
theorem dX0_about_0 : decode cX0_about 0 = .ok (.iload_n 1, 1) := dk_27 (dk_at dksX0_about_0 0 rfl rfl)
theorem dX0_about_1 : decode cX0_about 1 = .ok (.tableswitch 187 0 15 #[79, 84, 89, 94, 102, 110, 118, 126, 131, 136, 144, 149, 154, 162, 167, 175], 79) := by decide +kernel
theorem dX0_about_80 : decode cX0_about 80 = .ok (.aload_n 0, 1) := dk_42 (dk_at dksX0_about_2 0 rfl rfl)
theorem dX0_about_81 : decode cX0_about 81 = .ok (.invokevirtual 140, 3) := dk_182 0 140 (dk_at dksX0_about_2 1 rfl rfl)
theorem dX0_about_84 : decode cX0_about 84 = .ok (.ireturn, 1) := dk_172 (dk_at dksX0_about_2 4 rfl rfl)
theorem dX0_about_85 : decode cX0_about 85 = .ok (.aload_n 0, 1) := dk_42 (dk_at dksX0_about_2 5 rfl rfl)
theorem dX0_about_86 : decode cX0_about 86 = .ok (.invokevirtual 151, 3) := dk_182 0 151 (dk_at dksX0_about_2 6 rfl rfl)
theorem dX0_about_89 : decode cX0_about 89 = .ok (.ireturn, 1) := dk_172 (dk_at dksX0_about_2 9 rfl rfl)
theorem dX0_about_90 : decode cX0_about 90 = .ok (.aload_n 0, 1) := dk_42 (dk_at dksX0_about_2 10 rfl rfl)
theorem dX0_about_91 : decode cX0_about 91 = .ok (.invokevirtual 153, 3) := dk_182 0 153 (dk_at dksX0_about_2 11 rfl rfl)
theorem dX0_about_94 : decode cX0_about 94 = .ok (.ireturn, 1) := dk_172 (dk_at dksX0_about_2 14 rfl rfl)
theorem dX0_about_95 : decode cX0_about 95 = .ok (.aload_n 0, 1) := dk_42 (dk_at dksX0_about_2 15 rfl rfl)
theorem dX0_about_96 : decode cX0_about 96 = .ok (.getfield 53, 3) := dk_180 0 53 (dk_at dksX0_about_2 16 rfl rfl)
theorem dX0_about_99 : decode cX0_about 99 = .ok (.getfield 237, 3) := dk_180 0 237 (dk_at dksX0_about_2 19 rfl rfl)
theorem dX0_about_102 : decode cX0_about 102 = .ok (.ireturn, 1) := dk_172 (dk_at dksX0_about_2 22 rfl rfl)
theorem dX0_about_103 : decode cX0_about 103 = .ok (.aload_n 0, 1) := dk_42 (dk_at dksX0_about_2 23 rfl rfl)
theorem dX0_about_104 : decode cX0_about 104 = .ok (.getfield 53, 3) := dk_180 0 53 (dk_at dksX0_about_3 0 rfl rfl)
theorem dX0_about_107 : decode cX0_about 107 = .ok (.getfield 162, 3) := dk_180 0 162 (dk_at dksX0_about_3 3 rfl rfl)
theorem dX0_about_110 : decode cX0_about 110 = .ok (.ireturn, 1) := dk_172 (dk_at dksX0_about_3 6 rfl rfl)
theorem dX0_about_111 : decode cX0_about 111 = .ok (.aload_n 0, 1) := dk_42 (dk_at dksX0_about_3 7 rfl rfl)
theorem dX0_about_112 : decode cX0_about 112 = .ok (.getfield 53, 3) := dk_180 0 53 (dk_at dksX0_about_3 8 rfl rfl)
theorem dX0_about_115 : decode cX0_about 115 = .ok (.getfield 250, 3) := dk_180 0 250 (dk_at dksX0_about_3 11 rfl rfl)
theorem dX0_about_118 : decode cX0_about 118 = .ok (.ireturn, 1) := dk_172 (dk_at dksX0_about_3 14 rfl rfl)
theorem dX0_about_119 : decode cX0_about 119 = .ok (.aload_n 0, 1) := dk_42 (dk_at dksX0_about_3 15 rfl rfl)
theorem dX0_about_120 : decode cX0_about 120 = .ok (.getfield 53, 3) := dk_180 0 53 (dk_at dksX0_about_3 16 rfl rfl)
theorem dX0_about_123 : decode cX0_about 123 = .ok (.getfield 382, 3) := dk_180 1 126 (dk_at dksX0_about_3 19 rfl rfl)
theorem dX0_about_126 : decode cX0_about 126 = .ok (.ireturn, 1) := dk_172 (dk_at dksX0_about_3 22 rfl rfl)
theorem dX0_about_127 : decode cX0_about 127 = .ok (.aload_n 0, 1) := dk_42 (dk_at dksX0_about_3 23 rfl rfl)
theorem dX0_about_128 : decode cX0_about 128 = .ok (.getfield 117, 3) := dk_180 0 117 (dk_at dksX0_about_4 0 rfl rfl)
theorem dX0_about_131 : decode cX0_about 131 = .ok (.ireturn, 1) := dk_172 (dk_at dksX0_about_4 3 rfl rfl)
theorem dX0_about_132 : decode cX0_about 132 = .ok (.aload_n 0, 1) := dk_42 (dk_at dksX0_about_4 4 rfl rfl)
theorem dX0_about_133 : decode cX0_about 133 = .ok (.getfield 120, 3) := dk_180 0 120 (dk_at dksX0_about_4 5 rfl rfl)
theorem dX0_about_136 : decode cX0_about 136 = .ok (.ireturn, 1) := dk_172 (dk_at dksX0_about_4 8 rfl rfl)
theorem dX0_about_137 : decode cX0_about 137 = .ok (.aload_n 0, 1) := dk_42 (dk_at dksX0_about_4 9 rfl rfl)
theorem dX0_about_138 : decode cX0_about 138 = .ok (.getfield 88, 3) := dk_180 0 88 (dk_at dksX0_about_4 10 rfl rfl)
theorem dX0_about_141 : decode cX0_about 141 = .ok (.invokevirtual 3, 3) := dk_182 0 3 (dk_at dksX0_about_4 13 rfl rfl)
theorem dX0_about_144 : decode cX0_about 144 = .ok (.ireturn, 1) := dk_172 (dk_at dksX0_about_4 16 rfl rfl)
theorem dX0_about_145 : decode cX0_about 145 = .ok (.aload_n 0, 1) := dk_42 (dk_at dksX0_about_4 17 rfl rfl)
theorem dX0_about_146 : decode cX0_about 146 = .ok (.getfield 349, 3) := dk_180 1 93 (dk_at dksX0_about_4 18 rfl rfl)
theorem dX0_about_149 : decode cX0_about 149 = .ok (.ireturn, 1) := dk_172 (dk_at dksX0_about_4 21 rfl rfl)
theorem dX0_about_150 : decode cX0_about 150 = .ok (.aload_n 0, 1) := dk_42 (dk_at dksX0_about_4 22 rfl rfl)
theorem dX0_about_151 : decode cX0_about 151 = .ok (.getfield 105, 3) := dk_180 0 105 (dk_at dksX0_about_5 0 rfl rfl)
theorem dX0_about_154 : decode cX0_about 154 = .ok (.ireturn, 1) := dk_172 (dk_at dksX0_about_5 3 rfl rfl)
theorem dX0_about_155 : decode cX0_about 155 = .ok (.aload_n 0, 1) := dk_42 (dk_at dksX0_about_5 4 rfl rfl)
theorem dX0_about_156 : decode cX0_about 156 = .ok (.getfield 42, 3) := dk_180 0 42 (dk_at dksX0_about_5 5 rfl rfl)
theorem dX0_about_159 : decode cX0_about 159 = .ok (.getfield 385, 3) := dk_180 1 129 (dk_at dksX0_about_5 8 rfl rfl)
theorem dX0_about_162 : decode cX0_about 162 = .ok (.ireturn, 1) := dk_172 (dk_at dksX0_about_5 11 rfl rfl)
theorem dX0_about_163 : decode cX0_about 163 = .ok (.aload_n 0, 1) := dk_42 (dk_at dksX0_about_5 12 rfl rfl)
theorem dX0_about_164 : decode cX0_about 164 = .ok (.getfield 123, 3) := dk_180 0 123 (dk_at dksX0_about_5 13 rfl rfl)
theorem dX0_about_167 : decode cX0_about 167 = .ok (.ireturn, 1) := dk_172 (dk_at dksX0_about_5 16 rfl rfl)
theorem dX0_about_168 : decode cX0_about 168 = .ok (.aload_n 0, 1) := dk_42 (dk_at dksX0_about_5 17 rfl rfl)
theorem dX0_about_169 : decode cX0_about 169 = .ok (.getfield 42, 3) := dk_180 0 42 (dk_at dksX0_about_5 18 rfl rfl)
theorem dX0_about_172 : decode cX0_about 172 = .ok (.getfield 331, 3) := dk_180 1 75 (dk_at dksX0_about_5 21 rfl rfl)
theorem dX0_about_175 : decode cX0_about 175 = .ok (.ireturn, 1) := dk_172 (dk_at dksX0_about_6 0 rfl rfl)
theorem dX0_about_176 : decode cX0_about 176 = .ok (.aload_n 0, 1) := dk_42 (dk_at dksX0_about_6 1 rfl rfl)
theorem dX0_about_177 : decode cX0_about 177 = .ok (.getfield 42, 3) := dk_180 0 42 (dk_at dksX0_about_6 2 rfl rfl)
theorem dX0_about_180 : decode cX0_about 180 = .ok (.aload_n 0, 1) := dk_42 (dk_at dksX0_about_6 5 rfl rfl)
theorem dX0_about_181 : decode cX0_about 181 = .ok (.invokevirtual 181, 3) := dk_182 0 181 (dk_at dksX0_about_6 6 rfl rfl)
theorem dX0_about_184 : decode cX0_about 184 = .ok (.invokevirtual 209, 3) := dk_182 0 209 (dk_at dksX0_about_6 9 rfl rfl)
theorem dX0_about_187 : decode cX0_about 187 = .ok (.ireturn, 1) := dk_172 (dk_at dksX0_about_6 12 rfl rfl)
theorem dX0_about_188 : decode cX0_about 188 = .ok (.iconst (-1), 1) := dk_2 (dk_at dksX0_about_6 13 rfl rfl)
theorem dX0_about_189 : decode cX0_about 189 = .ok (.ireturn, 1) := dk_172 (dk_at dksX0_about_6 14 rfl rfl)
theorem q136 : (Jvm.Cond.initialized "PepperTables") ∈ lw_all := lw_g (lw_at lw_m1 1 rfl) rfl
theorem q170 : (Jvm.Cond.instantiable "PepperTables" (24 : Nat)) ∈ lw_all := lw_g (lw_at lw_m1 35 rfl) rfl
theorem q172 : (Jvm.Cond.instanceMethod ({ cls := "PepperTables", name := "<init>", desc := "()V" } : Jvm.MethodName)) ∈ lw_all := lw_g (lw_at lw_m1 37 rfl) rfl
theorem q173 : (Jvm.Cond.code ({ cls := "PepperTables", name := "<init>", desc := "()V" } : Jvm.MethodName) prog_1_method_3_code (2 : Nat) (Option.none : Option Jvm.ClassFile.FieldType)) ∈ lw_all := lw_g (lw_at lw_m1 38 rfl) rfl
theorem q174 : (Jvm.Cond.methodLink "PepperTables" (25 : Nat) ({ cls := "java/lang/Object", name := "<init>", desc := "()V" } : Jvm.MethodName)) ∈ lw_all := lw_g (lw_at lw_m1 39 rfl) rfl
theorem q177 : (Jvm.Cond.classLink "PepperTables" (39 : Nat) "PepperTables$Book") ∈ lw_all := lw_g (lw_at lw_m1 42 rfl) rfl
theorem q179 : (Jvm.Cond.methodLinkNest "PepperTables" (41 : Nat) ({ cls := "PepperTables$Book", name := "<init>", desc := "()V" } : Jvm.MethodName) "PepperTables") ∈ lw_tbl := lw_at lw_m1 44 rfl
theorem q244 : (Jvm.Cond.fieldLink "PepperTables" (143 : Nat) "PepperTables$Book" "people" "Ljava/util/ArrayList;") ∈ lw_all := lw_g (lw_at lw_m1 109 rfl) rfl
theorem q247 : (Jvm.Cond.fieldLink "PepperTables" (146 : Nat) "PepperTables$Book" "sacks" "Ljava/util/ArrayList;") ∈ lw_all := lw_g (lw_at lw_m1 112 rfl) rfl
theorem q252 : (Jvm.Cond.fieldLink "PepperTables" (149 : Nat) "PepperTables$Book" "things" "Ljava/util/ArrayList;") ∈ lw_all := lw_g (lw_at lw_m1 117 rfl) rfl
theorem q260 : (Jvm.Cond.fieldLink "PepperTables" (331 : Nat) "PepperTables$Book" "sneeze" "I") ∈ lw_all := lw_g (lw_at lw_m1 125 rfl) rfl
theorem q264 : (Jvm.Cond.fieldLink "PepperTables" (385 : Nat) "PepperTables$Book" "units" "I") ∈ lw_all := lw_g (lw_at lw_m1 129 rfl) rfl
theorem q282 : (Jvm.Cond.classLink "PepperTables" (46 : Nat) "PepperTables$Table") ∈ lw_all := lw_g (lw_at lw_m1 147 rfl) rfl
theorem q284 : (Jvm.Cond.methodLinkNest "PepperTables" (48 : Nat) ({ cls := "PepperTables$Table", name := "<init>", desc := "()V" } : Jvm.MethodName) "PepperTables") ∈ lw_tbl := lw_at lw_m1 149 rfl
theorem q289 : (Jvm.Cond.fieldLink "PepperTables" (199 : Nat) "PepperTables$Table" "in" "[I") ∈ lw_all := lw_g (lw_at lw_m1 154 rfl) rfl
theorem q291 : (Jvm.Cond.fieldLink "PepperTables" (218 : Nat) "PepperTables$Table" "ground" "[I") ∈ lw_all := lw_g (lw_at lw_m1 156 rfl) rfl
theorem q293 : (Jvm.Cond.fieldLink "PepperTables" (292 : Nat) "PepperTables$Table" "shy" "I") ∈ lw_all := lw_g (lw_at lw_m1 158 rfl) rfl
theorem q295 : (Jvm.Cond.fieldLink "PepperTables" (237 : Nat) "PepperTables$Table" "sits" "I") ∈ lw_all := lw_g (lw_at lw_m1 160 rfl) rfl
theorem q297 : (Jvm.Cond.fieldLink "PepperTables" (162 : Nat) "PepperTables$Table" "said" "I") ∈ lw_all := lw_g (lw_at lw_m1 162 rfl) rfl
theorem q299 : (Jvm.Cond.fieldLink "PepperTables" (250 : Nat) "PepperTables$Table" "course" "I") ∈ lw_all := lw_g (lw_at lw_m1 164 rfl) rfl
theorem q301 : (Jvm.Cond.fieldLink "PepperTables" (382 : Nat) "PepperTables$Table" "seed" "I") ∈ lw_all := lw_g (lw_at lw_m1 166 rfl) rfl
theorem q318 : (Jvm.Cond.methodLink "PepperTables" (49 : Nat) ({ cls := "PepperTables$Table", name := "begin", desc := "(LPepperTables$Book;)LPepperTables$Table;" } : Jvm.MethodName)) ∈ lw_all := lw_g (lw_at lw_m1 183 rfl) rfl
theorem q342 : (Jvm.Cond.classLink "PepperTables" (77 : Nat) "[[I") ∈ lw_all := lw_g (lw_at lw_m1 207 rfl) rfl
theorem q344 : (Jvm.Cond.classLink "PepperTables" (4 : Nat) "java/util/ArrayList") ∈ lw_all := lw_g (lw_at lw_m1 209 rfl) rfl
theorem q345 : (Jvm.Cond.methodLink "PepperTables" (85 : Nat) ({ cls := "java/util/ArrayList", name := "<init>", desc := "(I)V" } : Jvm.MethodName)) ∈ lw_all := lw_g (lw_at lw_m1 210 rfl) rfl
theorem q347 : (Jvm.Cond.fieldLink "PepperTables" (31 : Nat) "PepperTables" "tape" "[B") ∈ lw_all := lw_g (lw_at lw_m1 212 rfl) rfl
theorem q349 : (Jvm.Cond.fieldLink "PepperTables" (105 : Nat) "PepperTables" "taped" "I") ∈ lw_all := lw_g (lw_at lw_m1 214 rfl) rfl
theorem q350 : (Jvm.Cond.fieldLink "PepperTables" (134 : Nat) "PepperTables" "faultKind" "I") ∈ lw_all := lw_g (lw_at lw_m1 215 rfl) rfl
theorem q351 : (Jvm.Cond.fieldLink "PepperTables" (35 : Nat) "PepperTables" "faultPlace" "I") ∈ lw_all := lw_g (lw_at lw_m1 216 rfl) rfl
theorem q352 : (Jvm.Cond.fieldLink "PepperTables" (42 : Nat) "PepperTables" "book" "LPepperTables$Book;") ∈ lw_all := lw_g (lw_at lw_m1 217 rfl) rfl
theorem q353 : (Jvm.Cond.fieldLink "PepperTables" (53 : Nat) "PepperTables" "now" "LPepperTables$Table;") ∈ lw_all := lw_g (lw_at lw_m1 218 rfl) rfl
theorem q354 : (Jvm.Cond.fieldLink "PepperTables" (57 : Nat) "PepperTables" "spare" "LPepperTables$Table;") ∈ lw_all := lw_g (lw_at lw_m1 219 rfl) rfl
theorem q355 : (Jvm.Cond.fieldLink "PepperTables" (60 : Nat) "PepperTables" "tried" "LPepperTables$Table;") ∈ lw_all := lw_g (lw_at lw_m1 220 rfl) rfl
theorem q357 : (Jvm.Cond.fieldLink "PepperTables" (349 : Nat) "PepperTables" "time" "I") ∈ lw_all := lw_g (lw_at lw_m1 222 rfl) rfl
theorem q358 : (Jvm.Cond.fieldLink "PepperTables" (63 : Nat) "PepperTables" "were" "[LPepperTables$Table;") ∈ lw_all := lw_g (lw_at lw_m1 223 rfl) rfl
theorem q359 : (Jvm.Cond.fieldLink "PepperTables" (117 : Nat) "PepperTables" "acts" "I") ∈ lw_all := lw_g (lw_at lw_m1 224 rfl) rfl
theorem q360 : (Jvm.Cond.fieldLink "PepperTables" (120 : Nat) "PepperTables" "undone" "I") ∈ lw_all := lw_g (lw_at lw_m1 225 rfl) rfl
theorem q361 : (Jvm.Cond.fieldLink "PepperTables" (67 : Nat) "PepperTables" "lies" "[I") ∈ lw_all := lw_g (lw_at lw_m1 226 rfl) rfl
theorem q362 : (Jvm.Cond.fieldLink "PepperTables" (71 : Nat) "PepperTables" "row" "[I") ∈ lw_all := lw_g (lw_at lw_m1 227 rfl) rfl
theorem q363 : (Jvm.Cond.fieldLink "PepperTables" (74 : Nat) "PepperTables" "bestRow" "[I") ∈ lw_all := lw_g (lw_at lw_m1 228 rfl) rfl
theorem q364 : (Jvm.Cond.fieldLink "PepperTables" (123 : Nat) "PepperTables" "lain" "I") ∈ lw_all := lw_g (lw_at lw_m1 229 rfl) rfl
theorem q365 : (Jvm.Cond.fieldLink "PepperTables" (79 : Nat) "PepperTables" "ones" "[[I") ∈ lw_all := lw_g (lw_at lw_m1 230 rfl) rfl
theorem q366 : (Jvm.Cond.fieldLink "PepperTables" (82 : Nat) "PepperTables" "others" "[[I") ∈ lw_all := lw_g (lw_at lw_m1 231 rfl) rfl
theorem q367 : (Jvm.Cond.fieldLink "PepperTables" (311 : Nat) "PepperTables" "longest" "I") ∈ lw_all := lw_g (lw_at lw_m1 232 rfl) rfl
theorem q368 : (Jvm.Cond.fieldLink "PepperTables" (88 : Nat) "PepperTables" "noises" "Ljava/util/ArrayList;") ∈ lw_all := lw_g (lw_at lw_m1 233 rfl) rfl
theorem q370 : (Jvm.Cond.fieldLink "PepperTables" (92 : Nat) "PepperTables" "counts" "[[I") ∈ lw_all := lw_g (lw_at lw_m1 235 rfl) rfl
theorem q371 : (Jvm.Cond.fieldLink "PepperTables" (95 : Nat) "PepperTables" "isFit" "[Z") ∈ lw_all := lw_g (lw_at lw_m1 236 rfl) rfl
theorem q372 : (Jvm.Cond.fieldLink "PepperTables" (99 : Nat) "PepperTables" "boxes" "[LPepperTables$Table;") ∈ lw_all := lw_g (lw_at lw_m1 237 rfl) rfl
theorem q373 : (Jvm.Cond.fieldLink "PepperTables" (102 : Nat) "PepperTables" "isThere" "[Z") ∈ lw_all := lw_g (lw_at lw_m1 238 rfl) rfl
theorem q374 : (Jvm.Cond.laysFinal "PepperTables" "PepperTables" "tape" "[B") ∈ lw_all := lw_g (lw_at lw_m1 239 rfl) rfl
theorem q375 : (Jvm.Cond.soleField "PepperTables" "tape") ∈ lw_all := lw_g (lw_at lw_m2 0 rfl) rfl
theorem q376 : (Jvm.Cond.lays "PepperTables" "PepperTables" "taped" "I") ∈ lw_all := lw_g (lw_at lw_m2 1 rfl) rfl
theorem q377 : (Jvm.Cond.soleField "PepperTables" "taped") ∈ lw_all := lw_g (lw_at lw_m2 2 rfl) rfl
theorem q378 : (Jvm.Cond.lays "PepperTables" "PepperTables" "faultKind" "I") ∈ lw_all := lw_g (lw_at lw_m2 3 rfl) rfl
theorem q379 : (Jvm.Cond.soleField "PepperTables" "faultKind") ∈ lw_all := lw_g (lw_at lw_m2 4 rfl) rfl
theorem q380 : (Jvm.Cond.lays "PepperTables" "PepperTables" "faultPlace" "I") ∈ lw_all := lw_g (lw_at lw_m2 5 rfl) rfl
theorem q381 : (Jvm.Cond.soleField "PepperTables" "faultPlace") ∈ lw_all := lw_g (lw_at lw_m2 6 rfl) rfl
theorem q382 : (Jvm.Cond.lays "PepperTables" "PepperTables" "book" "LPepperTables$Book;") ∈ lw_all := lw_g (lw_at lw_m2 7 rfl) rfl
theorem q383 : (Jvm.Cond.soleField "PepperTables" "book") ∈ lw_all := lw_g (lw_at lw_m2 8 rfl) rfl
theorem q384 : (Jvm.Cond.laysFinal "PepperTables" "PepperTables" "now" "LPepperTables$Table;") ∈ lw_all := lw_g (lw_at lw_m2 9 rfl) rfl
theorem q385 : (Jvm.Cond.soleField "PepperTables" "now") ∈ lw_all := lw_g (lw_at lw_m2 10 rfl) rfl
theorem q386 : (Jvm.Cond.laysFinal "PepperTables" "PepperTables" "spare" "LPepperTables$Table;") ∈ lw_all := lw_g (lw_at lw_m2 11 rfl) rfl
theorem q387 : (Jvm.Cond.soleField "PepperTables" "spare") ∈ lw_all := lw_g (lw_at lw_m2 12 rfl) rfl
theorem q388 : (Jvm.Cond.laysFinal "PepperTables" "PepperTables" "tried" "LPepperTables$Table;") ∈ lw_all := lw_g (lw_at lw_m2 13 rfl) rfl
theorem q389 : (Jvm.Cond.soleField "PepperTables" "tried") ∈ lw_all := lw_g (lw_at lw_m2 14 rfl) rfl
theorem q390 : (Jvm.Cond.lays "PepperTables" "PepperTables" "time" "I") ∈ lw_all := lw_g (lw_at lw_m2 15 rfl) rfl
theorem q391 : (Jvm.Cond.soleField "PepperTables" "time") ∈ lw_all := lw_g (lw_at lw_m2 16 rfl) rfl
theorem q392 : (Jvm.Cond.laysFinal "PepperTables" "PepperTables" "were" "[LPepperTables$Table;") ∈ lw_all := lw_g (lw_at lw_m2 17 rfl) rfl
theorem q393 : (Jvm.Cond.soleField "PepperTables" "were") ∈ lw_all := lw_g (lw_at lw_m2 18 rfl) rfl
theorem q394 : (Jvm.Cond.lays "PepperTables" "PepperTables" "acts" "I") ∈ lw_all := lw_g (lw_at lw_m2 19 rfl) rfl
theorem q395 : (Jvm.Cond.soleField "PepperTables" "acts") ∈ lw_all := lw_g (lw_at lw_m2 20 rfl) rfl
theorem q396 : (Jvm.Cond.lays "PepperTables" "PepperTables" "undone" "I") ∈ lw_all := lw_g (lw_at lw_m2 21 rfl) rfl
theorem q397 : (Jvm.Cond.soleField "PepperTables" "undone") ∈ lw_all := lw_g (lw_at lw_m2 22 rfl) rfl
theorem q398 : (Jvm.Cond.laysFinal "PepperTables" "PepperTables" "lies" "[I") ∈ lw_all := lw_g (lw_at lw_m2 23 rfl) rfl
theorem q399 : (Jvm.Cond.soleField "PepperTables" "lies") ∈ lw_all := lw_g (lw_at lw_m2 24 rfl) rfl
theorem q400 : (Jvm.Cond.laysFinal "PepperTables" "PepperTables" "row" "[I") ∈ lw_all := lw_g (lw_at lw_m2 25 rfl) rfl
theorem q401 : (Jvm.Cond.soleField "PepperTables" "row") ∈ lw_all := lw_g (lw_at lw_m2 26 rfl) rfl
theorem q402 : (Jvm.Cond.laysFinal "PepperTables" "PepperTables" "bestRow" "[I") ∈ lw_all := lw_g (lw_at lw_m2 27 rfl) rfl
theorem q403 : (Jvm.Cond.soleField "PepperTables" "bestRow") ∈ lw_all := lw_g (lw_at lw_m2 28 rfl) rfl
theorem q404 : (Jvm.Cond.lays "PepperTables" "PepperTables" "lain" "I") ∈ lw_all := lw_g (lw_at lw_m2 29 rfl) rfl
theorem q405 : (Jvm.Cond.soleField "PepperTables" "lain") ∈ lw_all := lw_g (lw_at lw_m2 30 rfl) rfl
theorem q406 : (Jvm.Cond.laysFinal "PepperTables" "PepperTables" "ones" "[[I") ∈ lw_all := lw_g (lw_at lw_m2 31 rfl) rfl
theorem q407 : (Jvm.Cond.soleField "PepperTables" "ones") ∈ lw_all := lw_g (lw_at lw_m2 32 rfl) rfl
theorem q408 : (Jvm.Cond.laysFinal "PepperTables" "PepperTables" "others" "[[I") ∈ lw_all := lw_g (lw_at lw_m2 33 rfl) rfl
theorem q409 : (Jvm.Cond.soleField "PepperTables" "others") ∈ lw_all := lw_g (lw_at lw_m2 34 rfl) rfl
theorem q410 : (Jvm.Cond.lays "PepperTables" "PepperTables" "longest" "I") ∈ lw_all := lw_g (lw_at lw_m2 35 rfl) rfl
theorem q411 : (Jvm.Cond.soleField "PepperTables" "longest") ∈ lw_all := lw_g (lw_at lw_m2 36 rfl) rfl
theorem q412 : (Jvm.Cond.laysFinal "PepperTables" "PepperTables" "noises" "Ljava/util/ArrayList;") ∈ lw_all := lw_g (lw_at lw_m2 37 rfl) rfl
theorem q413 : (Jvm.Cond.soleField "PepperTables" "noises") ∈ lw_all := lw_g (lw_at lw_m2 38 rfl) rfl
theorem q414 : (Jvm.Cond.laysFinal "PepperTables" "PepperTables" "counts" "[[I") ∈ lw_all := lw_g (lw_at lw_m2 39 rfl) rfl
theorem q415 : (Jvm.Cond.soleField "PepperTables" "counts") ∈ lw_all := lw_g (lw_at lw_m2 40 rfl) rfl
theorem q416 : (Jvm.Cond.laysFinal "PepperTables" "PepperTables" "isFit" "[Z") ∈ lw_all := lw_g (lw_at lw_m2 41 rfl) rfl
theorem q417 : (Jvm.Cond.soleField "PepperTables" "isFit") ∈ lw_all := lw_g (lw_at lw_m2 42 rfl) rfl
theorem q418 : (Jvm.Cond.laysFinal "PepperTables" "PepperTables" "boxes" "[LPepperTables$Table;") ∈ lw_all := lw_g (lw_at lw_m2 43 rfl) rfl
theorem q419 : (Jvm.Cond.soleField "PepperTables" "boxes") ∈ lw_all := lw_g (lw_at lw_m2 44 rfl) rfl
theorem q420 : (Jvm.Cond.laysFinal "PepperTables" "PepperTables" "isThere" "[Z") ∈ lw_all := lw_g (lw_at lw_m2 45 rfl) rfl
theorem q421 : (Jvm.Cond.soleField "PepperTables" "isThere") ∈ lw_all := lw_g (lw_at lw_m2 46 rfl) rfl
theorem q422 : (Jvm.Cond.superclass "PepperTables" "java/lang/Object") ∈ lw_all := lw_g (lw_at lw_m2 47 rfl) rfl
theorem q425 : (Jvm.Cond.instanceMethod ({ cls := "PepperTables", name := "feed", desc := "(IIIII)I" } : Jvm.MethodName)) ∈ lw_all := lw_g (lw_at lw_m2 50 rfl) rfl
theorem q426 : (Jvm.Cond.selects "PepperTables" ({ cls := "PepperTables", name := "feed", desc := "(IIIII)I" } : Jvm.MethodName) ({ cls := "PepperTables", name := "feed", desc := "(IIIII)I" } : Jvm.MethodName)) ∈ lw_all := lw_g (lw_at lw_m2 51 rfl) rfl
theorem q427 : (Jvm.Cond.code ({ cls := "PepperTables", name := "feed", desc := "(IIIII)I" } : Jvm.MethodName) prog_1_method_4_code (12 : Nat) (Option.some Jvm.ClassFile.FieldType.int)) ∈ lw_all := lw_g (lw_at lw_m2 52 rfl) rfl
theorem q429 : (Jvm.Cond.instanceMethod ({ cls := "PepperTables", name := "end", desc := "(I)I" } : Jvm.MethodName)) ∈ lw_all := lw_g (lw_at lw_m2 54 rfl) rfl
theorem q430 : (Jvm.Cond.selects "PepperTables" ({ cls := "PepperTables", name := "end", desc := "(I)I" } : Jvm.MethodName) ({ cls := "PepperTables", name := "end", desc := "(I)I" } : Jvm.MethodName)) ∈ lw_all := lw_g (lw_at lw_m2 55 rfl) rfl
theorem q431 : (Jvm.Cond.code ({ cls := "PepperTables", name := "end", desc := "(I)I" } : Jvm.MethodName) prog_1_method_5_code (2 : Nat) (Option.some Jvm.ClassFile.FieldType.int)) ∈ lw_all := lw_g (lw_at lw_m2 56 rfl) rfl
theorem q433 : (Jvm.Cond.instanceMethod ({ cls := "PepperTables", name := "store", desc := "()I" } : Jvm.MethodName)) ∈ lw_all := lw_g (lw_at lw_m2 58 rfl) rfl
theorem q434 : (Jvm.Cond.selects "PepperTables" ({ cls := "PepperTables", name := "store", desc := "()I" } : Jvm.MethodName) ({ cls := "PepperTables", name := "store", desc := "()I" } : Jvm.MethodName)) ∈ lw_all := lw_g (lw_at lw_m2 59 rfl) rfl
theorem q435 : (Jvm.Cond.codeWith ({ cls := "PepperTables", name := "store", desc := "()I" } : Jvm.MethodName) prog_1_method_6_code (3 : Nat) (Option.some Jvm.ClassFile.FieldType.int) [((2 : Nat), (71 : Nat), (74 : Nat), (129 : Nat))]) ∈ lw_all := lw_g (lw_at lw_m2 60 rfl) rfl
theorem q436 : (Jvm.Cond.classLink "PepperTables" (129 : Nat) "PepperTables$Wrong") ∈ lw_all := lw_g (lw_at lw_m2 61 rfl) rfl
theorem q437 : (Jvm.Cond.classLink "PepperTables" (108 : Nat) "PepperTables$Reader") ∈ lw_all := lw_g (lw_at lw_m2 62 rfl) rfl
theorem q439 : (Jvm.Cond.methodLinkNest "PepperTables" (110 : Nat) ({ cls := "PepperTables$Reader", name := "<init>", desc := "(LPepperTables;)V" } : Jvm.MethodName) "PepperTables") ∈ lw_tbl := lw_at lw_m2 64 rfl
theorem q480 : (Jvm.Cond.methodLink "PepperTables" (113 : Nat) ({ cls := "PepperTables$Reader", name := "text", desc := "()LPepperTables$Book;" } : Jvm.MethodName)) ∈ lw_all := lw_g (lw_at lw_m2 105 rfl) rfl
theorem q843 : (Jvm.Cond.fieldLink "PepperTables" (131 : Nat) "PepperTables$Wrong" "kind" "I") ∈ lw_all := lw_g (lw_at lw_m3 228 rfl) rfl
theorem q845 : (Jvm.Cond.fieldLink "PepperTables" (137 : Nat) "PepperTables$Wrong" "place" "I") ∈ lw_all := lw_g (lw_at lw_m3 230 rfl) rfl
theorem q864 : (Jvm.Cond.static ({ cls := "PepperTables", name := "find", desc := "(Ljava/util/ArrayList;Ljava/lang/String;)I" } : Jvm.MethodName)) ∈ lw_all := lw_g (lw_at lw_m4 9 rfl) rfl
theorem q865 : (Jvm.Cond.code ({ cls := "PepperTables", name := "find", desc := "(Ljava/util/ArrayList;Ljava/lang/String;)I" } : Jvm.MethodName) prog_1_method_1_code (4 : Nat) (Option.some Jvm.ClassFile.FieldType.int)) ∈ lw_all := lw_g (lw_at lw_m4 10 rfl) rfl
theorem q866 : (Jvm.Cond.methodLink "PepperTables" (3 : Nat) ({ cls := "java/util/ArrayList", name := "size", desc := "()I" } : Jvm.MethodName)) ∈ lw_all := lw_g (lw_at lw_m4 11 rfl) rfl
theorem q867 : (Jvm.Cond.methodLink "PepperTables" (9 : Nat) ({ cls := "java/util/ArrayList", name := "get", desc := "(I)Ljava/lang/Object;" } : Jvm.MethodName)) ∈ lw_all := lw_g (lw_at lw_m4 12 rfl) rfl
theorem q868 : (Jvm.Cond.classLink "PepperTables" (13 : Nat) "PepperTables$Named") ∈ lw_all := lw_g (lw_at lw_m4 13 rfl) rfl
theorem q869 : (Jvm.Cond.methodLink "PepperTables" (19 : Nat) ({ cls := "java/lang/String", name := "equals", desc := "(Ljava/lang/Object;)Z" } : Jvm.MethodName)) ∈ lw_all := lw_g (lw_at lw_m4 14 rfl) rfl
theorem q878 : (Jvm.Cond.fieldLink "PepperTables" (171 : Nat) "PepperTables$Person" "shy" "I") ∈ lw_all := lw_g (lw_at lw_m4 23 rfl) rfl
theorem q881 : (Jvm.Cond.fieldLink "PepperTables" (15 : Nat) "PepperTables$Named" "name" "Ljava/lang/String;") ∈ lw_all := lw_g (lw_at lw_m4 26 rfl) rfl
theorem q928 : (Jvm.Cond.selects "PepperTables" ({ cls := "java/lang/Object", name := "getClass", desc := "()Ljava/lang/Class;" } : Jvm.MethodName) ({ cls := "java/lang/Object", name := "getClass", desc := "()Ljava/lang/Class;" } : Jvm.MethodName)) ∈ lw_all := lw_g (lw_at lw_m4 73 rfl) rfl
theorem q1089 : (Jvm.Cond.methodLink "PepperTables" (126 : Nat) ({ cls := "java/util/ArrayList", name := "clear", desc := "()V" } : Jvm.MethodName)) ∈ lw_all := lw_g (lw_at lw_m4 234 rfl) rfl
theorem q1093 : (Jvm.Cond.methodLink "PepperTables" (140 : Nat) ({ cls := "PepperTables", name := "things", desc := "()I" } : Jvm.MethodName)) ∈ lw_all := lw_g (lw_at lw_m4 238 rfl) rfl
theorem q1094 : (Jvm.Cond.privateMethod ({ cls := "PepperTables", name := "things", desc := "()I" } : Jvm.MethodName)) ∈ lw_tbl := lw_at lw_m4 239 rfl
theorem q1095 : (Jvm.Cond.instanceMethod ({ cls := "PepperTables", name := "things", desc := "()I" } : Jvm.MethodName)) ∈ lw_all := lw_g (lw_at lw_m5 0 rfl) rfl
theorem q1096 : (Jvm.Cond.code ({ cls := "PepperTables", name := "things", desc := "()I" } : Jvm.MethodName) prog_1_method_10_code (1 : Nat) (Option.some Jvm.ClassFile.FieldType.int)) ∈ lw_all := lw_g (lw_at lw_m5 1 rfl) rfl
theorem q1098 : (Jvm.Cond.instanceMethod ({ cls := "PepperTables", name := "fault", desc := "(I)I" } : Jvm.MethodName)) ∈ lw_all := lw_g (lw_at lw_m5 3 rfl) rfl
theorem q1099 : (Jvm.Cond.selects "PepperTables" ({ cls := "PepperTables", name := "fault", desc := "(I)I" } : Jvm.MethodName) ({ cls := "PepperTables", name := "fault", desc := "(I)I" } : Jvm.MethodName)) ∈ lw_all := lw_g (lw_at lw_m5 4 rfl) rfl
theorem q1100 : (Jvm.Cond.code ({ cls := "PepperTables", name := "fault", desc := "(I)I" } : Jvm.MethodName) prog_1_method_7_code (2 : Nat) (Option.some Jvm.ClassFile.FieldType.int)) ∈ lw_all := lw_g (lw_at lw_m5 5 rfl) rfl
theorem q1102 : (Jvm.Cond.instanceMethod ({ cls := "PepperTables", name := "person", desc := "(II)I" } : Jvm.MethodName)) ∈ lw_all := lw_g (lw_at lw_m5 7 rfl) rfl
theorem q1103 : (Jvm.Cond.selects "PepperTables" ({ cls := "PepperTables", name := "person", desc := "(II)I" } : Jvm.MethodName) ({ cls := "PepperTables", name := "person", desc := "(II)I" } : Jvm.MethodName)) ∈ lw_all := lw_g (lw_at lw_m5 8 rfl) rfl
theorem q1104 : (Jvm.Cond.code ({ cls := "PepperTables", name := "person", desc := "(II)I" } : Jvm.MethodName) prog_1_method_17_code (3 : Nat) (Option.some Jvm.ClassFile.FieldType.int)) ∈ lw_all := lw_g (lw_at lw_m5 9 rfl) rfl
theorem q1105 : (Jvm.Cond.methodLink "PepperTables" (165 : Nat) ({ cls := "PepperTables", name := "isPerson", desc := "(I)Z" } : Jvm.MethodName)) ∈ lw_all := lw_g (lw_at lw_m5 10 rfl) rfl
theorem q1106 : (Jvm.Cond.privateMethod ({ cls := "PepperTables", name := "isPerson", desc := "(I)Z" } : Jvm.MethodName)) ∈ lw_tbl := lw_at lw_m5 11 rfl
theorem q1107 : (Jvm.Cond.instanceMethod ({ cls := "PepperTables", name := "isPerson", desc := "(I)Z" } : Jvm.MethodName)) ∈ lw_all := lw_g (lw_at lw_m5 12 rfl) rfl
theorem q1108 : (Jvm.Cond.code ({ cls := "PepperTables", name := "isPerson", desc := "(I)Z" } : Jvm.MethodName) prog_1_method_13_code (2 : Nat) (Option.some Jvm.ClassFile.FieldType.boolean)) ∈ lw_all := lw_g (lw_at lw_m5 13 rfl) rfl
theorem q1109 : (Jvm.Cond.methodLink "PepperTables" (151 : Nat) ({ cls := "PepperTables", name := "people", desc := "()I" } : Jvm.MethodName)) ∈ lw_all := lw_g (lw_at lw_m5 14 rfl) rfl
theorem q1110 : (Jvm.Cond.privateMethod ({ cls := "PepperTables", name := "people", desc := "()I" } : Jvm.MethodName)) ∈ lw_tbl := lw_at lw_m5 15 rfl
theorem q1111 : (Jvm.Cond.instanceMethod ({ cls := "PepperTables", name := "people", desc := "()I" } : Jvm.MethodName)) ∈ lw_all := lw_g (lw_at lw_m5 16 rfl) rfl
theorem q1112 : (Jvm.Cond.code ({ cls := "PepperTables", name := "people", desc := "()I" } : Jvm.MethodName) prog_1_method_8_code (1 : Nat) (Option.some Jvm.ClassFile.FieldType.int)) ∈ lw_all := lw_g (lw_at lw_m5 17 rfl) rfl
theorem q1113 : (Jvm.Cond.methodLink "PepperTables" (155 : Nat) ({ cls := "PepperTables", name := "isIn", desc := "(III)Z" } : Jvm.MethodName)) ∈ lw_all := lw_g (lw_at lw_m5 18 rfl) rfl
theorem q1114 : (Jvm.Cond.static ({ cls := "PepperTables", name := "isIn", desc := "(III)Z" } : Jvm.MethodName)) ∈ lw_all := lw_g (lw_at lw_m5 19 rfl) rfl
theorem q1115 : (Jvm.Cond.code ({ cls := "PepperTables", name := "isIn", desc := "(III)Z" } : Jvm.MethodName) prog_1_method_2_code (3 : Nat) (Option.some Jvm.ClassFile.FieldType.boolean)) ∈ lw_all := lw_g (lw_at lw_m5 20 rfl) rfl
theorem q1116 : (Jvm.Cond.classLink "PepperTables" (169 : Nat) "PepperTables$Person") ∈ lw_all := lw_g (lw_at lw_m5 21 rfl) rfl
theorem q1117 : (Jvm.Cond.methodLink "PepperTables" (174 : Nat) ({ cls := "PepperTables$Table", name := "sits", desc := "(I)Z" } : Jvm.MethodName)) ∈ lw_all := lw_g (lw_at lw_m5 22 rfl) rfl
theorem q1121 : (Jvm.Cond.methodLink "PepperTables" (177 : Nat) ({ cls := "PepperTables$Book", name := "allBy", desc := "(I)I" } : Jvm.MethodName)) ∈ lw_all := lw_g (lw_at lw_m5 26 rfl) rfl
theorem q1132 : (Jvm.Cond.methodLink "PepperTables" (181 : Nat) ({ cls := "PepperTables", name := "kept", desc := "()I" } : Jvm.MethodName)) ∈ lw_all := lw_g (lw_at lw_m5 37 rfl) rfl
theorem q1133 : (Jvm.Cond.privateMethod ({ cls := "PepperTables", name := "kept", desc := "()I" } : Jvm.MethodName)) ∈ lw_tbl := lw_at lw_m5 38 rfl
theorem q1134 : (Jvm.Cond.instanceMethod ({ cls := "PepperTables", name := "kept", desc := "()I" } : Jvm.MethodName)) ∈ lw_all := lw_g (lw_at lw_m5 39 rfl) rfl
theorem q1135 : (Jvm.Cond.code ({ cls := "PepperTables", name := "kept", desc := "()I" } : Jvm.MethodName) prog_1_method_16_code (1 : Nat) (Option.some Jvm.ClassFile.FieldType.int)) ∈ lw_all := lw_g (lw_at lw_m5 40 rfl) rfl
theorem q1136 : (Jvm.Cond.methodLink "PepperTables" (159 : Nat) ({ cls := "PepperTables$Book", name := "all", desc := "()I" } : Jvm.MethodName)) ∈ lw_all := lw_g (lw_at lw_m5 41 rfl) rfl
theorem q1140 : (Jvm.Cond.methodLink "PepperTables" (184 : Nat) ({ cls := "PepperTables$Book", name := "allTo", desc := "(I)I" } : Jvm.MethodName)) ∈ lw_all := lw_g (lw_at lw_m5 45 rfl) rfl
theorem q1149 : (Jvm.Cond.instanceMethod ({ cls := "PepperTables", name := "thing", desc := "(II)I" } : Jvm.MethodName)) ∈ lw_all := lw_g (lw_at lw_m5 54 rfl) rfl
theorem q1150 : (Jvm.Cond.selects "PepperTables" ({ cls := "PepperTables", name := "thing", desc := "(II)I" } : Jvm.MethodName) ({ cls := "PepperTables", name := "thing", desc := "(II)I" } : Jvm.MethodName)) ∈ lw_all := lw_g (lw_at lw_m5 55 rfl) rfl
theorem q1151 : (Jvm.Cond.code ({ cls := "PepperTables", name := "thing", desc := "(II)I" } : Jvm.MethodName) prog_1_method_18_code (3 : Nat) (Option.some Jvm.ClassFile.FieldType.int)) ∈ lw_all := lw_g (lw_at lw_m5 56 rfl) rfl
theorem q1152 : (Jvm.Cond.methodLink "PepperTables" (187 : Nat) ({ cls := "PepperTables", name := "isThing", desc := "(I)Z" } : Jvm.MethodName)) ∈ lw_all := lw_g (lw_at lw_m5 57 rfl) rfl
theorem q1153 : (Jvm.Cond.privateMethod ({ cls := "PepperTables", name := "isThing", desc := "(I)Z" } : Jvm.MethodName)) ∈ lw_tbl := lw_at lw_m5 58 rfl
theorem q1154 : (Jvm.Cond.instanceMethod ({ cls := "PepperTables", name := "isThing", desc := "(I)Z" } : Jvm.MethodName)) ∈ lw_all := lw_g (lw_at lw_m5 59 rfl) rfl
theorem q1155 : (Jvm.Cond.code ({ cls := "PepperTables", name := "isThing", desc := "(I)Z" } : Jvm.MethodName) prog_1_method_15_code (2 : Nat) (Option.some Jvm.ClassFile.FieldType.boolean)) ∈ lw_all := lw_g (lw_at lw_m5 60 rfl) rfl
theorem q1156 : (Jvm.Cond.methodLink "PepperTables" (190 : Nat) ({ cls := "PepperTables$Book", name := "by", desc := "(I)I" } : Jvm.MethodName)) ∈ lw_all := lw_g (lw_at lw_m5 61 rfl) rfl
theorem q1157 : (Jvm.Cond.methodLink "PepperTables" (193 : Nat) ({ cls := "PepperTables$Book", name := "to", desc := "(I)I" } : Jvm.MethodName)) ∈ lw_all := lw_g (lw_at lw_m5 62 rfl) rfl
theorem q1158 : (Jvm.Cond.methodLink "PepperTables" (196 : Nat) ({ cls := "PepperTables$Book", name := "hot", desc := "(I)I" } : Jvm.MethodName)) ∈ lw_all := lw_g (lw_at lw_m5 63 rfl) rfl
theorem q1162 : (Jvm.Cond.methodLink "PepperTables" (202 : Nat) ({ cls := "PepperTables$Table", name := "isSaid", desc := "(I)Z" } : Jvm.MethodName)) ∈ lw_all := lw_g (lw_at lw_m5 67 rfl) rfl
theorem q1167 : (Jvm.Cond.instanceMethod ({ cls := "PepperTables", name := "sack", desc := "(II)I" } : Jvm.MethodName)) ∈ lw_all := lw_g (lw_at lw_m5 72 rfl) rfl
theorem q1168 : (Jvm.Cond.selects "PepperTables" ({ cls := "PepperTables", name := "sack", desc := "(II)I" } : Jvm.MethodName) ({ cls := "PepperTables", name := "sack", desc := "(II)I" } : Jvm.MethodName)) ∈ lw_all := lw_g (lw_at lw_m5 73 rfl) rfl
theorem q1169 : (Jvm.Cond.code ({ cls := "PepperTables", name := "sack", desc := "(II)I" } : Jvm.MethodName) prog_1_method_20_code (3 : Nat) (Option.some Jvm.ClassFile.FieldType.int)) ∈ lw_all := lw_g (lw_at lw_m5 74 rfl) rfl
theorem q1170 : (Jvm.Cond.methodLink "PepperTables" (212 : Nat) ({ cls := "PepperTables", name := "isSack", desc := "(I)Z" } : Jvm.MethodName)) ∈ lw_all := lw_g (lw_at lw_m5 75 rfl) rfl
theorem q1171 : (Jvm.Cond.privateMethod ({ cls := "PepperTables", name := "isSack", desc := "(I)Z" } : Jvm.MethodName)) ∈ lw_tbl := lw_at lw_m5 76 rfl
theorem q1172 : (Jvm.Cond.instanceMethod ({ cls := "PepperTables", name := "isSack", desc := "(I)Z" } : Jvm.MethodName)) ∈ lw_all := lw_g (lw_at lw_m5 77 rfl) rfl
theorem q1173 : (Jvm.Cond.code ({ cls := "PepperTables", name := "isSack", desc := "(I)Z" } : Jvm.MethodName) prog_1_method_14_code (2 : Nat) (Option.some Jvm.ClassFile.FieldType.boolean)) ∈ lw_all := lw_g (lw_at lw_m5 78 rfl) rfl
theorem q1174 : (Jvm.Cond.methodLink "PepperTables" (153 : Nat) ({ cls := "PepperTables", name := "sacks", desc := "()I" } : Jvm.MethodName)) ∈ lw_all := lw_g (lw_at lw_m5 79 rfl) rfl
theorem q1175 : (Jvm.Cond.privateMethod ({ cls := "PepperTables", name := "sacks", desc := "()I" } : Jvm.MethodName)) ∈ lw_tbl := lw_at lw_m5 80 rfl
theorem q1176 : (Jvm.Cond.instanceMethod ({ cls := "PepperTables", name := "sacks", desc := "()I" } : Jvm.MethodName)) ∈ lw_all := lw_g (lw_at lw_m5 81 rfl) rfl
theorem q1177 : (Jvm.Cond.code ({ cls := "PepperTables", name := "sacks", desc := "()I" } : Jvm.MethodName) prog_1_method_9_code (1 : Nat) (Option.some Jvm.ClassFile.FieldType.int)) ∈ lw_all := lw_g (lw_at lw_m5 82 rfl) rfl
theorem q1178 : (Jvm.Cond.methodLink "PepperTables" (215 : Nat) ({ cls := "PepperTables", name := "heatOf", desc := "(I)I" } : Jvm.MethodName)) ∈ lw_all := lw_g (lw_at lw_m5 83 rfl) rfl
theorem q1179 : (Jvm.Cond.privateMethod ({ cls := "PepperTables", name := "heatOf", desc := "(I)I" } : Jvm.MethodName)) ∈ lw_tbl := lw_at lw_m5 84 rfl
theorem q1180 : (Jvm.Cond.instanceMethod ({ cls := "PepperTables", name := "heatOf", desc := "(I)I" } : Jvm.MethodName)) ∈ lw_all := lw_g (lw_at lw_m5 85 rfl) rfl
theorem q1181 : (Jvm.Cond.code ({ cls := "PepperTables", name := "heatOf", desc := "(I)I" } : Jvm.MethodName) prog_1_method_19_code (2 : Nat) (Option.some Jvm.ClassFile.FieldType.int)) ∈ lw_all := lw_g (lw_at lw_m5 86 rfl) rfl
theorem q1182 : (Jvm.Cond.methodLink "PepperTables" (205 : Nat) ({ cls := "PepperTables$Table", name := "inside", desc := "(LPepperTables$Book;I)I" } : Jvm.MethodName)) ∈ lw_all := lw_g (lw_at lw_m5 87 rfl) rfl
theorem q1187 : (Jvm.Cond.methodLink "PepperTables" (209 : Nat) ({ cls := "PepperTables$Book", name := "heat", desc := "(I)I" } : Jvm.MethodName)) ∈ lw_all := lw_g (lw_at lw_m5 92 rfl) rfl
theorem q1193 : (Jvm.Cond.instanceMethod ({ cls := "PepperTables", name := "would", desc := "(I)I" } : Jvm.MethodName)) ∈ lw_all := lw_g (lw_at lw_m5 98 rfl) rfl
theorem q1194 : (Jvm.Cond.selects "PepperTables" ({ cls := "PepperTables", name := "would", desc := "(I)I" } : Jvm.MethodName) ({ cls := "PepperTables", name := "would", desc := "(I)I" } : Jvm.MethodName)) ∈ lw_all := lw_g (lw_at lw_m5 99 rfl) rfl
theorem q1195 : (Jvm.Cond.code ({ cls := "PepperTables", name := "would", desc := "(I)I" } : Jvm.MethodName) prog_1_method_21_code (2 : Nat) (Option.some Jvm.ClassFile.FieldType.int)) ∈ lw_all := lw_g (lw_at lw_m5 100 rfl) rfl
theorem q1196 : (Jvm.Cond.methodLink "PepperTables" (221 : Nat) ({ cls := "PepperTables$Table", name := "out", desc := "(LPepperTables$Book;I)I" } : Jvm.MethodName)) ∈ lw_all := lw_g (lw_at lw_m5 101 rfl) rfl
theorem q1284 : (Jvm.Cond.instanceMethod ({ cls := "PepperTables", name := "sit", desc := "(I)I" } : Jvm.MethodName)) ∈ lw_all := lw_g (lw_at lw_m5 189 rfl) rfl
theorem q1285 : (Jvm.Cond.selects "PepperTables" ({ cls := "PepperTables", name := "sit", desc := "(I)I" } : Jvm.MethodName) ({ cls := "PepperTables", name := "sit", desc := "(I)I" } : Jvm.MethodName)) ∈ lw_all := lw_g (lw_at lw_m5 190 rfl) rfl
theorem q1286 : (Jvm.Cond.code ({ cls := "PepperTables", name := "sit", desc := "(I)I" } : Jvm.MethodName) prog_1_method_25_code (2 : Nat) (Option.some Jvm.ClassFile.FieldType.int)) ∈ lw_all := lw_g (lw_at lw_m5 191 rfl) rfl
theorem q1287 : (Jvm.Cond.methodLink "PepperTables" (244 : Nat) ({ cls := "PepperTables", name := "change", desc := "(I)I" } : Jvm.MethodName)) ∈ lw_all := lw_g (lw_at lw_m5 192 rfl) rfl
theorem q1288 : (Jvm.Cond.privateMethod ({ cls := "PepperTables", name := "change", desc := "(I)I" } : Jvm.MethodName)) ∈ lw_tbl := lw_at lw_m5 193 rfl
theorem q1289 : (Jvm.Cond.instanceMethod ({ cls := "PepperTables", name := "change", desc := "(I)I" } : Jvm.MethodName)) ∈ lw_all := lw_g (lw_at lw_m5 194 rfl) rfl
theorem q1290 : (Jvm.Cond.code ({ cls := "PepperTables", name := "change", desc := "(I)I" } : Jvm.MethodName) prog_1_method_24_code (2 : Nat) (Option.some Jvm.ClassFile.FieldType.int)) ∈ lw_all := lw_g (lw_at lw_m5 195 rfl) rfl
theorem q1291 : (Jvm.Cond.methodLink "PepperTables" (234 : Nat) ({ cls := "PepperTables", name := "act", desc := "()V" } : Jvm.MethodName)) ∈ lw_all := lw_g (lw_at lw_m5 196 rfl) rfl
theorem q1292 : (Jvm.Cond.privateMethod ({ cls := "PepperTables", name := "act", desc := "()V" } : Jvm.MethodName)) ∈ lw_tbl := lw_at lw_m5 197 rfl
theorem q1293 : (Jvm.Cond.instanceMethod ({ cls := "PepperTables", name := "act", desc := "()V" } : Jvm.MethodName)) ∈ lw_all := lw_g (lw_at lw_m5 198 rfl) rfl
theorem q1294 : (Jvm.Cond.code ({ cls := "PepperTables", name := "act", desc := "()V" } : Jvm.MethodName) prog_1_method_22_code (2 : Nat) (Option.none : Option Jvm.ClassFile.FieldType)) ∈ lw_all := lw_g (lw_at lw_m5 199 rfl) rfl
theorem q1295 : (Jvm.Cond.methodLink "PepperTables" (224 : Nat) ({ cls := "java/lang/System", name := "arraycopy", desc := "(Ljava/lang/Object;ILjava/lang/Object;II)V" } : Jvm.MethodName)) ∈ lw_all := lw_g (lw_at lw_m5 200 rfl) rfl
theorem q1296 : (Jvm.Cond.methodLink "PepperTables" (230 : Nat) ({ cls := "PepperTables$Table", name := "copy", desc := "(LPepperTables$Table;)LPepperTables$Table;" } : Jvm.MethodName)) ∈ lw_all := lw_g (lw_at lw_m5 201 rfl) rfl
theorem q1301 : (Jvm.Cond.methodLink "PepperTables" (239 : Nat) ({ cls := "java/lang/Integer", name := "bitCount", desc := "(I)I" } : Jvm.MethodName)) ∈ lw_all := lw_g (lw_at lw_m5 206 rfl) rfl
theorem q1303 : (Jvm.Cond.instanceMethod ({ cls := "PepperTables", name := "rise", desc := "(I)I" } : Jvm.MethodName)) ∈ lw_all := lw_g (lw_at lw_m5 208 rfl) rfl
theorem q1304 : (Jvm.Cond.selects "PepperTables" ({ cls := "PepperTables", name := "rise", desc := "(I)I" } : Jvm.MethodName) ({ cls := "PepperTables", name := "rise", desc := "(I)I" } : Jvm.MethodName)) ∈ lw_all := lw_g (lw_at lw_m5 209 rfl) rfl
theorem q1305 : (Jvm.Cond.code ({ cls := "PepperTables", name := "rise", desc := "(I)I" } : Jvm.MethodName) prog_1_method_26_code (2 : Nat) (Option.some Jvm.ClassFile.FieldType.int)) ∈ lw_all := lw_g (lw_at lw_m5 210 rfl) rfl
theorem q1307 : (Jvm.Cond.instanceMethod ({ cls := "PepperTables", name := "grind", desc := "(I)I" } : Jvm.MethodName)) ∈ lw_all := lw_g (lw_at lw_m5 212 rfl) rfl
theorem q1308 : (Jvm.Cond.selects "PepperTables" ({ cls := "PepperTables", name := "grind", desc := "(I)I" } : Jvm.MethodName) ({ cls := "PepperTables", name := "grind", desc := "(I)I" } : Jvm.MethodName)) ∈ lw_all := lw_g (lw_at lw_m5 213 rfl) rfl
theorem q1309 : (Jvm.Cond.code ({ cls := "PepperTables", name := "grind", desc := "(I)I" } : Jvm.MethodName) prog_1_method_27_code (2 : Nat) (Option.some Jvm.ClassFile.FieldType.int)) ∈ lw_all := lw_g (lw_at lw_m5 214 rfl) rfl
theorem q1310 : (Jvm.Cond.methodLink "PepperTables" (247 : Nat) ({ cls := "PepperTables$Table", name := "grind", desc := "(LPepperTables$Book;I)I" } : Jvm.MethodName)) ∈ lw_all := lw_g (lw_at lw_m5 215 rfl) rfl
theorem q1317 : (Jvm.Cond.instanceMethod ({ cls := "PepperTables", name := "pour", desc := "(II)I" } : Jvm.MethodName)) ∈ lw_all := lw_g (lw_at lw_m5 222 rfl) rfl
theorem q1318 : (Jvm.Cond.selects "PepperTables" ({ cls := "PepperTables", name := "pour", desc := "(II)I" } : Jvm.MethodName) ({ cls := "PepperTables", name := "pour", desc := "(II)I" } : Jvm.MethodName)) ∈ lw_all := lw_g (lw_at lw_m5 223 rfl) rfl
theorem q1319 : (Jvm.Cond.code ({ cls := "PepperTables", name := "pour", desc := "(II)I" } : Jvm.MethodName) prog_1_method_28_code (4 : Nat) (Option.some Jvm.ClassFile.FieldType.int)) ∈ lw_all := lw_g (lw_at lw_m5 224 rfl) rfl
theorem q1321 : (Jvm.Cond.instanceMethod ({ cls := "PepperTables", name := "course", desc := "()I" } : Jvm.MethodName)) ∈ lw_all := lw_g (lw_at lw_m5 226 rfl) rfl
theorem q1322 : (Jvm.Cond.selects "PepperTables" ({ cls := "PepperTables", name := "course", desc := "()I" } : Jvm.MethodName) ({ cls := "PepperTables", name := "course", desc := "()I" } : Jvm.MethodName)) ∈ lw_all := lw_g (lw_at lw_m5 227 rfl) rfl
theorem q1323 : (Jvm.Cond.code ({ cls := "PepperTables", name := "course", desc := "()I" } : Jvm.MethodName) prog_1_method_29_code (2 : Nat) (Option.some Jvm.ClassFile.FieldType.int)) ∈ lw_all := lw_g (lw_at lw_m5 228 rfl) rfl
theorem q1324 : (Jvm.Cond.methodLink "PepperTables" (253 : Nat) ({ cls := "PepperTables$Table", name := "draw", desc := "(LPepperTables$Book;)Z" } : Jvm.MethodName)) ∈ lw_all := lw_g (lw_at lw_m5 229 rfl) rfl
theorem q1328 : (Jvm.Cond.methodLink "PepperTables" (257 : Nat) ({ cls := "PepperTables$Table", name := "next", desc := "(LPepperTables$Book;)I" } : Jvm.MethodName)) ∈ lw_all := lw_g (lw_at lw_m5 233 rfl) rfl
theorem q1333 : (Jvm.Cond.instanceMethod ({ cls := "PepperTables", name := "undo", desc := "()Z" } : Jvm.MethodName)) ∈ lw_all := lw_g (lw_at lw_m5 238 rfl) rfl
theorem q1334 : (Jvm.Cond.selects "PepperTables" ({ cls := "PepperTables", name := "undo", desc := "()Z" } : Jvm.MethodName) ({ cls := "PepperTables", name := "undo", desc := "()Z" } : Jvm.MethodName)) ∈ lw_all := lw_g (lw_at lw_m5 239 rfl) rfl
theorem q1335 : (Jvm.Cond.code ({ cls := "PepperTables", name := "undo", desc := "()Z" } : Jvm.MethodName) prog_1_method_30_code (1 : Nat) (Option.some Jvm.ClassFile.FieldType.boolean)) ∈ lw_all := lw_g (lw_at lw_m6 0 rfl) rfl
theorem q1336 : (Jvm.Cond.methodLink "PepperTables" (261 : Nat) ({ cls := "PepperTables", name := "turnAbout", desc := "(LPepperTables$Table;)V" } : Jvm.MethodName)) ∈ lw_all := lw_g (lw_at lw_m6 1 rfl) rfl
theorem q1337 : (Jvm.Cond.privateMethod ({ cls := "PepperTables", name := "turnAbout", desc := "(LPepperTables$Table;)V" } : Jvm.MethodName)) ∈ lw_tbl := lw_at lw_m6 2 rfl
theorem q1338 : (Jvm.Cond.instanceMethod ({ cls := "PepperTables", name := "turnAbout", desc := "(LPepperTables$Table;)V" } : Jvm.MethodName)) ∈ lw_all := lw_g (lw_at lw_m6 3 rfl) rfl
theorem q1339 : (Jvm.Cond.code ({ cls := "PepperTables", name := "turnAbout", desc := "(LPepperTables$Table;)V" } : Jvm.MethodName) prog_1_method_23_code (2 : Nat) (Option.none : Option Jvm.ClassFile.FieldType)) ∈ lw_all := lw_g (lw_at lw_m6 4 rfl) rfl
theorem q1341 : (Jvm.Cond.instanceMethod ({ cls := "PepperTables", name := "redo", desc := "()Z" } : Jvm.MethodName)) ∈ lw_all := lw_g (lw_at lw_m6 6 rfl) rfl
theorem q1342 : (Jvm.Cond.selects "PepperTables" ({ cls := "PepperTables", name := "redo", desc := "()Z" } : Jvm.MethodName) ({ cls := "PepperTables", name := "redo", desc := "()Z" } : Jvm.MethodName)) ∈ lw_all := lw_g (lw_at lw_m6 7 rfl) rfl
theorem q1343 : (Jvm.Cond.code ({ cls := "PepperTables", name := "redo", desc := "()Z" } : Jvm.MethodName) prog_1_method_31_code (1 : Nat) (Option.some Jvm.ClassFile.FieldType.boolean)) ∈ lw_all := lw_g (lw_at lw_m6 8 rfl) rfl
theorem q1345 : (Jvm.Cond.instanceMethod ({ cls := "PepperTables", name := "table", desc := "(III)I" } : Jvm.MethodName)) ∈ lw_all := lw_g (lw_at lw_m6 10 rfl) rfl
theorem q1346 : (Jvm.Cond.selects "PepperTables" ({ cls := "PepperTables", name := "table", desc := "(III)I" } : Jvm.MethodName) ({ cls := "PepperTables", name := "table", desc := "(III)I" } : Jvm.MethodName)) ∈ lw_all := lw_g (lw_at lw_m6 11 rfl) rfl
theorem q1347 : (Jvm.Cond.code ({ cls := "PepperTables", name := "table", desc := "(III)I" } : Jvm.MethodName) prog_1_method_34_code (6 : Nat) (Option.some Jvm.ClassFile.FieldType.int)) ∈ lw_all := lw_g (lw_at lw_m6 12 rfl) rfl
theorem q1348 : (Jvm.Cond.methodLink "PepperTables" (269 : Nat) ({ cls := "PepperTables", name := "allPeople", desc := "()I" } : Jvm.MethodName)) ∈ lw_all := lw_g (lw_at lw_m6 13 rfl) rfl
theorem q1349 : (Jvm.Cond.privateMethod ({ cls := "PepperTables", name := "allPeople", desc := "()I" } : Jvm.MethodName)) ∈ lw_tbl := lw_at lw_m6 14 rfl
theorem q1350 : (Jvm.Cond.instanceMethod ({ cls := "PepperTables", name := "allPeople", desc := "()I" } : Jvm.MethodName)) ∈ lw_all := lw_g (lw_at lw_m6 15 rfl) rfl
theorem q1351 : (Jvm.Cond.code ({ cls := "PepperTables", name := "allPeople", desc := "()I" } : Jvm.MethodName) prog_1_method_11_code (1 : Nat) (Option.some Jvm.ClassFile.FieldType.int)) ∈ lw_all := lw_g (lw_at lw_m6 16 rfl) rfl
theorem q1352 : (Jvm.Cond.methodLink "PepperTables" (272 : Nat) ({ cls := "PepperTables", name := "isFewer", desc := "(II)Z" } : Jvm.MethodName)) ∈ lw_all := lw_g (lw_at lw_m6 17 rfl) rfl
theorem q1353 : (Jvm.Cond.static ({ cls := "PepperTables", name := "isFewer", desc := "(II)Z" } : Jvm.MethodName)) ∈ lw_all := lw_g (lw_at lw_m6 18 rfl) rfl
theorem q1354 : (Jvm.Cond.code ({ cls := "PepperTables", name := "isFewer", desc := "(II)Z" } : Jvm.MethodName) prog_1_method_32_code (2 : Nat) (Option.some Jvm.ClassFile.FieldType.boolean)) ∈ lw_all := lw_g (lw_at lw_m6 19 rfl) rfl
theorem q1355 : (Jvm.Cond.methodLink "PepperTables" (276 : Nat) ({ cls := "PepperTables", name := "outAt", desc := "(II)I" } : Jvm.MethodName)) ∈ lw_all := lw_g (lw_at lw_m6 20 rfl) rfl
theorem q1356 : (Jvm.Cond.privateMethod ({ cls := "PepperTables", name := "outAt", desc := "(II)I" } : Jvm.MethodName)) ∈ lw_tbl := lw_at lw_m6 21 rfl
theorem q1357 : (Jvm.Cond.instanceMethod ({ cls := "PepperTables", name := "outAt", desc := "(II)I" } : Jvm.MethodName)) ∈ lw_all := lw_g (lw_at lw_m6 22 rfl) rfl
theorem q1358 : (Jvm.Cond.code ({ cls := "PepperTables", name := "outAt", desc := "(II)I" } : Jvm.MethodName) prog_1_method_33_code (3 : Nat) (Option.some Jvm.ClassFile.FieldType.int)) ∈ lw_all := lw_g (lw_at lw_m6 23 rfl) rfl
theorem q1359 : (Jvm.Cond.methodLink "PepperTables" (265 : Nat) ({ cls := "PepperTables$Table", name := "seat", desc := "(I)LPepperTables$Table;" } : Jvm.MethodName)) ∈ lw_all := lw_g (lw_at lw_m6 24 rfl) rfl
theorem q1364 : (Jvm.Cond.instanceMethod ({ cls := "PepperTables", name := "mute", desc := "()I" } : Jvm.MethodName)) ∈ lw_all := lw_g (lw_at lw_m6 29 rfl) rfl
theorem q1365 : (Jvm.Cond.selects "PepperTables" ({ cls := "PepperTables", name := "mute", desc := "()I" } : Jvm.MethodName) ({ cls := "PepperTables", name := "mute", desc := "()I" } : Jvm.MethodName)) ∈ lw_all := lw_g (lw_at lw_m6 30 rfl) rfl
theorem q1366 : (Jvm.Cond.code ({ cls := "PepperTables", name := "mute", desc := "()I" } : Jvm.MethodName) prog_1_method_35_code (4 : Nat) (Option.some Jvm.ClassFile.FieldType.int)) ∈ lw_all := lw_g (lw_at lw_m6 31 rfl) rfl
theorem q1368 : (Jvm.Cond.instanceMethod ({ cls := "PepperTables", name := "send", desc := "(II)I" } : Jvm.MethodName)) ∈ lw_all := lw_g (lw_at lw_m6 33 rfl) rfl
theorem q1369 : (Jvm.Cond.selects "PepperTables" ({ cls := "PepperTables", name := "send", desc := "(II)I" } : Jvm.MethodName) ({ cls := "PepperTables", name := "send", desc := "(II)I" } : Jvm.MethodName)) ∈ lw_all := lw_g (lw_at lw_m6 34 rfl) rfl
theorem q1370 : (Jvm.Cond.code ({ cls := "PepperTables", name := "send", desc := "(II)I" } : Jvm.MethodName) prog_1_method_36_code (5 : Nat) (Option.some Jvm.ClassFile.FieldType.int)) ∈ lw_all := lw_g (lw_at lw_m6 35 rfl) rfl
theorem q1372 : (Jvm.Cond.instanceMethod ({ cls := "PepperTables", name := "spark", desc := "(I)I" } : Jvm.MethodName)) ∈ lw_all := lw_g (lw_at lw_m6 37 rfl) rfl
theorem q1373 : (Jvm.Cond.selects "PepperTables" ({ cls := "PepperTables", name := "spark", desc := "(I)I" } : Jvm.MethodName) ({ cls := "PepperTables", name := "spark", desc := "(I)I" } : Jvm.MethodName)) ∈ lw_all := lw_g (lw_at lw_m6 38 rfl) rfl
theorem q1374 : (Jvm.Cond.code ({ cls := "PepperTables", name := "spark", desc := "(I)I" } : Jvm.MethodName) prog_1_method_37_code (4 : Nat) (Option.some Jvm.ClassFile.FieldType.int)) ∈ lw_all := lw_g (lw_at lw_m6 39 rfl) rfl
theorem q1376 : (Jvm.Cond.instanceMethod ({ cls := "PepperTables", name := "spine", desc := "(I)I" } : Jvm.MethodName)) ∈ lw_all := lw_g (lw_at lw_m6 41 rfl) rfl
theorem q1377 : (Jvm.Cond.selects "PepperTables" ({ cls := "PepperTables", name := "spine", desc := "(I)I" } : Jvm.MethodName) ({ cls := "PepperTables", name := "spine", desc := "(I)I" } : Jvm.MethodName)) ∈ lw_all := lw_g (lw_at lw_m6 42 rfl) rfl
theorem q1378 : (Jvm.Cond.code ({ cls := "PepperTables", name := "spine", desc := "(I)I" } : Jvm.MethodName) prog_1_method_38_code (4 : Nat) (Option.some Jvm.ClassFile.FieldType.int)) ∈ lw_all := lw_g (lw_at lw_m6 43 rfl) rfl
theorem q1380 : (Jvm.Cond.instanceMethod ({ cls := "PepperTables", name := "idle", desc := "()I" } : Jvm.MethodName)) ∈ lw_all := lw_g (lw_at lw_m6 45 rfl) rfl
theorem q1381 : (Jvm.Cond.selects "PepperTables" ({ cls := "PepperTables", name := "idle", desc := "()I" } : Jvm.MethodName) ({ cls := "PepperTables", name := "idle", desc := "()I" } : Jvm.MethodName)) ∈ lw_all := lw_g (lw_at lw_m6 46 rfl) rfl
theorem q1382 : (Jvm.Cond.code ({ cls := "PepperTables", name := "idle", desc := "()I" } : Jvm.MethodName) prog_1_method_39_code (3 : Nat) (Option.some Jvm.ClassFile.FieldType.int)) ∈ lw_all := lw_g (lw_at lw_m6 47 rfl) rfl
theorem q1384 : (Jvm.Cond.instanceMethod ({ cls := "PepperTables", name := "storm", desc := "()I" } : Jvm.MethodName)) ∈ lw_all := lw_g (lw_at lw_m6 49 rfl) rfl
theorem q1385 : (Jvm.Cond.selects "PepperTables" ({ cls := "PepperTables", name := "storm", desc := "()I" } : Jvm.MethodName) ({ cls := "PepperTables", name := "storm", desc := "()I" } : Jvm.MethodName)) ∈ lw_all := lw_g (lw_at lw_m6 50 rfl) rfl
theorem q1386 : (Jvm.Cond.code ({ cls := "PepperTables", name := "storm", desc := "()I" } : Jvm.MethodName) prog_1_method_40_code (1 : Nat) (Option.some Jvm.ClassFile.FieldType.int)) ∈ lw_all := lw_g (lw_at lw_m6 51 rfl) rfl
theorem q1387 : (Jvm.Cond.methodLink "PepperTables" (280 : Nat) ({ cls := "PepperTables", name := "allSacks", desc := "()I" } : Jvm.MethodName)) ∈ lw_all := lw_g (lw_at lw_m6 52 rfl) rfl
theorem q1388 : (Jvm.Cond.privateMethod ({ cls := "PepperTables", name := "allSacks", desc := "()I" } : Jvm.MethodName)) ∈ lw_tbl := lw_at lw_m6 53 rfl
theorem q1389 : (Jvm.Cond.instanceMethod ({ cls := "PepperTables", name := "allSacks", desc := "()I" } : Jvm.MethodName)) ∈ lw_all := lw_g (lw_at lw_m6 54 rfl) rfl
theorem q1390 : (Jvm.Cond.code ({ cls := "PepperTables", name := "allSacks", desc := "()I" } : Jvm.MethodName) prog_1_method_12_code (1 : Nat) (Option.some Jvm.ClassFile.FieldType.int)) ∈ lw_all := lw_g (lw_at lw_m6 55 rfl) rfl
theorem q1391 : (Jvm.Cond.methodLink "PepperTables" (283 : Nat) ({ cls := "PepperTables", name := "saidBySome", desc := "(I)I" } : Jvm.MethodName)) ∈ lw_all := lw_g (lw_at lw_m6 56 rfl) rfl
theorem q1392 : (Jvm.Cond.privateMethod ({ cls := "PepperTables", name := "saidBySome", desc := "(I)I" } : Jvm.MethodName)) ∈ lw_tbl := lw_at lw_m6 57 rfl
theorem q1393 : (Jvm.Cond.instanceMethod ({ cls := "PepperTables", name := "saidBySome", desc := "(I)I" } : Jvm.MethodName)) ∈ lw_all := lw_g (lw_at lw_m6 58 rfl) rfl
theorem q1394 : (Jvm.Cond.code ({ cls := "PepperTables", name := "saidBySome", desc := "(I)I" } : Jvm.MethodName) prog_1_method_43_code (2 : Nat) (Option.some Jvm.ClassFile.FieldType.int)) ∈ lw_all := lw_g (lw_at lw_m6 59 rfl) rfl
theorem q1395 : (Jvm.Cond.methodLink "PepperTables" (289 : Nat) ({ cls := "PepperTables$Table", name := "grindSome", desc := "(LPepperTables$Book;I)I" } : Jvm.MethodName)) ∈ lw_all := lw_g (lw_at lw_m6 60 rfl) rfl
theorem q1401 : (Jvm.Cond.instanceMethod ({ cls := "PepperTables", name := "round", desc := "(II)I" } : Jvm.MethodName)) ∈ lw_all := lw_g (lw_at lw_m6 66 rfl) rfl
theorem q1402 : (Jvm.Cond.selects "PepperTables" ({ cls := "PepperTables", name := "round", desc := "(II)I" } : Jvm.MethodName) ({ cls := "PepperTables", name := "round", desc := "(II)I" } : Jvm.MethodName)) ∈ lw_all := lw_g (lw_at lw_m6 67 rfl) rfl
theorem q1403 : (Jvm.Cond.code ({ cls := "PepperTables", name := "round", desc := "(II)I" } : Jvm.MethodName) prog_1_method_42_code (10 : Nat) (Option.some Jvm.ClassFile.FieldType.int)) ∈ lw_all := lw_g (lw_at lw_m6 68 rfl) rfl
theorem q1404 : (Jvm.Cond.methodLink "PepperTables" (286 : Nat) ({ cls := "PepperTables", name := "saidBy", desc := "(II)I" } : Jvm.MethodName)) ∈ lw_all := lw_g (lw_at lw_m6 69 rfl) rfl
theorem q1405 : (Jvm.Cond.privateMethod ({ cls := "PepperTables", name := "saidBy", desc := "(II)I" } : Jvm.MethodName)) ∈ lw_tbl := lw_at lw_m6 70 rfl
theorem q1406 : (Jvm.Cond.instanceMethod ({ cls := "PepperTables", name := "saidBy", desc := "(II)I" } : Jvm.MethodName)) ∈ lw_all := lw_g (lw_at lw_m6 71 rfl) rfl
theorem q1407 : (Jvm.Cond.code ({ cls := "PepperTables", name := "saidBy", desc := "(II)I" } : Jvm.MethodName) prog_1_method_41_code (6 : Nat) (Option.some Jvm.ClassFile.FieldType.int)) ∈ lw_all := lw_g (lw_at lw_m6 72 rfl) rfl
theorem q1409 : (Jvm.Cond.instanceMethod ({ cls := "PepperTables", name := "fewest", desc := "(I)I" } : Jvm.MethodName)) ∈ lw_all := lw_g (lw_at lw_m6 74 rfl) rfl
theorem q1410 : (Jvm.Cond.selects "PepperTables" ({ cls := "PepperTables", name := "fewest", desc := "(I)I" } : Jvm.MethodName) ({ cls := "PepperTables", name := "fewest", desc := "(I)I" } : Jvm.MethodName)) ∈ lw_all := lw_g (lw_at lw_m6 75 rfl) rfl
theorem q1411 : (Jvm.Cond.code ({ cls := "PepperTables", name := "fewest", desc := "(I)I" } : Jvm.MethodName) prog_1_method_44_code (5 : Nat) (Option.some Jvm.ClassFile.FieldType.int)) ∈ lw_all := lw_g (lw_at lw_m6 76 rfl) rfl
theorem q1413 : (Jvm.Cond.instanceMethod ({ cls := "PepperTables", name := "hide", desc := "(II)I" } : Jvm.MethodName)) ∈ lw_all := lw_g (lw_at lw_m6 78 rfl) rfl
theorem q1414 : (Jvm.Cond.selects "PepperTables" ({ cls := "PepperTables", name := "hide", desc := "(II)I" } : Jvm.MethodName) ({ cls := "PepperTables", name := "hide", desc := "(II)I" } : Jvm.MethodName)) ∈ lw_all := lw_g (lw_at lw_m6 79 rfl) rfl
theorem q1415 : (Jvm.Cond.code ({ cls := "PepperTables", name := "hide", desc := "(II)I" } : Jvm.MethodName) prog_1_method_45_code (7 : Nat) (Option.some Jvm.ClassFile.FieldType.int)) ∈ lw_all := lw_g (lw_at lw_m6 80 rfl) rfl
theorem q1417 : (Jvm.Cond.instanceMethod ({ cls := "PepperTables", name := "shyest", desc := "(I)I" } : Jvm.MethodName)) ∈ lw_all := lw_g (lw_at lw_m6 82 rfl) rfl
theorem q1418 : (Jvm.Cond.selects "PepperTables" ({ cls := "PepperTables", name := "shyest", desc := "(I)I" } : Jvm.MethodName) ({ cls := "PepperTables", name := "shyest", desc := "(I)I" } : Jvm.MethodName)) ∈ lw_all := lw_g (lw_at lw_m6 83 rfl) rfl
theorem q1419 : (Jvm.Cond.code ({ cls := "PepperTables", name := "shyest", desc := "(I)I" } : Jvm.MethodName) prog_1_method_46_code (4 : Nat) (Option.some Jvm.ClassFile.FieldType.int)) ∈ lw_all := lw_g (lw_at lw_m6 84 rfl) rfl
theorem q1421 : (Jvm.Cond.instanceMethod ({ cls := "PepperTables", name := "law", desc := "(II)I" } : Jvm.MethodName)) ∈ lw_all := lw_g (lw_at lw_m6 86 rfl) rfl
theorem q1422 : (Jvm.Cond.selects "PepperTables" ({ cls := "PepperTables", name := "law", desc := "(II)I" } : Jvm.MethodName) ({ cls := "PepperTables", name := "law", desc := "(II)I" } : Jvm.MethodName)) ∈ lw_all := lw_g (lw_at lw_m6 87 rfl) rfl
theorem q1423 : (Jvm.Cond.code ({ cls := "PepperTables", name := "law", desc := "(II)I" } : Jvm.MethodName) prog_1_method_47_code (3 : Nat) (Option.some Jvm.ClassFile.FieldType.int)) ∈ lw_all := lw_g (lw_at lw_m6 88 rfl) rfl
theorem q1425 : (Jvm.Cond.instanceMethod ({ cls := "PepperTables", name := "invite", desc := "(I)I" } : Jvm.MethodName)) ∈ lw_all := lw_g (lw_at lw_m6 90 rfl) rfl
theorem q1426 : (Jvm.Cond.selects "PepperTables" ({ cls := "PepperTables", name := "invite", desc := "(I)I" } : Jvm.MethodName) ({ cls := "PepperTables", name := "invite", desc := "(I)I" } : Jvm.MethodName)) ∈ lw_all := lw_g (lw_at lw_m6 91 rfl) rfl
theorem q1427 : (Jvm.Cond.code ({ cls := "PepperTables", name := "invite", desc := "(I)I" } : Jvm.MethodName) prog_1_method_49_code (6 : Nat) (Option.some Jvm.ClassFile.FieldType.int)) ∈ lw_all := lw_g (lw_at lw_m6 92 rfl) rfl
theorem q1428 : (Jvm.Cond.methodLink "PepperTables" (293 : Nat) ({ cls := "PepperTables", name := "allSaidAt", desc := "(I)I" } : Jvm.MethodName)) ∈ lw_all := lw_g (lw_at lw_m6 93 rfl) rfl
theorem q1429 : (Jvm.Cond.privateMethod ({ cls := "PepperTables", name := "allSaidAt", desc := "(I)I" } : Jvm.MethodName)) ∈ lw_tbl := lw_at lw_m6 94 rfl
theorem q1430 : (Jvm.Cond.instanceMethod ({ cls := "PepperTables", name := "allSaidAt", desc := "(I)I" } : Jvm.MethodName)) ∈ lw_all := lw_g (lw_at lw_m6 95 rfl) rfl
theorem q1431 : (Jvm.Cond.code ({ cls := "PepperTables", name := "allSaidAt", desc := "(I)I" } : Jvm.MethodName) prog_1_method_48_code (2 : Nat) (Option.some Jvm.ClassFile.FieldType.int)) ∈ lw_all := lw_g (lw_at lw_m6 96 rfl) rfl
theorem q1433 : (Jvm.Cond.instanceMethod ({ cls := "PepperTables", name := "blend", desc := "(II)I" } : Jvm.MethodName)) ∈ lw_all := lw_g (lw_at lw_m6 98 rfl) rfl
theorem q1434 : (Jvm.Cond.selects "PepperTables" ({ cls := "PepperTables", name := "blend", desc := "(II)I" } : Jvm.MethodName) ({ cls := "PepperTables", name := "blend", desc := "(II)I" } : Jvm.MethodName)) ∈ lw_all := lw_g (lw_at lw_m6 99 rfl) rfl
theorem q1435 : (Jvm.Cond.code ({ cls := "PepperTables", name := "blend", desc := "(II)I" } : Jvm.MethodName) prog_1_method_50_code (4 : Nat) (Option.some Jvm.ClassFile.FieldType.int)) ∈ lw_all := lw_g (lw_at lw_m6 100 rfl) rfl
theorem q1437 : (Jvm.Cond.instanceMethod ({ cls := "PepperTables", name := "exchange", desc := "(I)I" } : Jvm.MethodName)) ∈ lw_all := lw_g (lw_at lw_m6 102 rfl) rfl
theorem q1438 : (Jvm.Cond.selects "PepperTables" ({ cls := "PepperTables", name := "exchange", desc := "(I)I" } : Jvm.MethodName) ({ cls := "PepperTables", name := "exchange", desc := "(I)I" } : Jvm.MethodName)) ∈ lw_all := lw_g (lw_at lw_m6 103 rfl) rfl
theorem q1439 : (Jvm.Cond.code ({ cls := "PepperTables", name := "exchange", desc := "(I)I" } : Jvm.MethodName) prog_1_method_52_code (8 : Nat) (Option.some Jvm.ClassFile.FieldType.int)) ∈ lw_all := lw_g (lw_at lw_m6 104 rfl) rfl
theorem q1440 : (Jvm.Cond.methodLink "PepperTables" (296 : Nat) ({ cls := "PepperTables", name := "isInSack", desc := "(I)Z" } : Jvm.MethodName)) ∈ lw_all := lw_g (lw_at lw_m6 105 rfl) rfl
theorem q1441 : (Jvm.Cond.privateMethod ({ cls := "PepperTables", name := "isInSack", desc := "(I)Z" } : Jvm.MethodName)) ∈ lw_tbl := lw_at lw_m6 106 rfl
theorem q1442 : (Jvm.Cond.instanceMethod ({ cls := "PepperTables", name := "isInSack", desc := "(I)Z" } : Jvm.MethodName)) ∈ lw_all := lw_g (lw_at lw_m6 107 rfl) rfl
theorem q1443 : (Jvm.Cond.code ({ cls := "PepperTables", name := "isInSack", desc := "(I)Z" } : Jvm.MethodName) prog_1_method_51_code (2 : Nat) (Option.some Jvm.ClassFile.FieldType.boolean)) ∈ lw_all := lw_g (lw_at lw_m6 108 rfl) rfl
theorem q1445 : (Jvm.Cond.instanceMethod ({ cls := "PepperTables", name := "after", desc := "(I)I" } : Jvm.MethodName)) ∈ lw_all := lw_g (lw_at lw_m6 110 rfl) rfl
theorem q1446 : (Jvm.Cond.selects "PepperTables" ({ cls := "PepperTables", name := "after", desc := "(I)I" } : Jvm.MethodName) ({ cls := "PepperTables", name := "after", desc := "(I)I" } : Jvm.MethodName)) ∈ lw_all := lw_g (lw_at lw_m6 111 rfl) rfl
theorem q1447 : (Jvm.Cond.code ({ cls := "PepperTables", name := "after", desc := "(I)I" } : Jvm.MethodName) prog_1_method_53_code (3 : Nat) (Option.some Jvm.ClassFile.FieldType.int)) ∈ lw_all := lw_g (lw_at lw_m6 112 rfl) rfl
theorem q1449 : (Jvm.Cond.instanceMethod ({ cls := "PepperTables", name := "pairs", desc := "()I" } : Jvm.MethodName)) ∈ lw_all := lw_g (lw_at lw_m6 114 rfl) rfl
theorem q1450 : (Jvm.Cond.selects "PepperTables" ({ cls := "PepperTables", name := "pairs", desc := "()I" } : Jvm.MethodName) ({ cls := "PepperTables", name := "pairs", desc := "()I" } : Jvm.MethodName)) ∈ lw_all := lw_g (lw_at lw_m6 115 rfl) rfl
theorem q1451 : (Jvm.Cond.code ({ cls := "PepperTables", name := "pairs", desc := "()I" } : Jvm.MethodName) prog_1_method_55_code (4 : Nat) (Option.some Jvm.ClassFile.FieldType.int)) ∈ lw_all := lw_g (lw_at lw_m6 116 rfl) rfl
theorem q1452 : (Jvm.Cond.methodLink "PepperTables" (299 : Nat) ({ cls := "PepperTables", name := "hasTold", desc := "(II)Z" } : Jvm.MethodName)) ∈ lw_all := lw_g (lw_at lw_m6 117 rfl) rfl
theorem q1453 : (Jvm.Cond.privateMethod ({ cls := "PepperTables", name := "hasTold", desc := "(II)Z" } : Jvm.MethodName)) ∈ lw_tbl := lw_at lw_m6 118 rfl
theorem q1454 : (Jvm.Cond.instanceMethod ({ cls := "PepperTables", name := "hasTold", desc := "(II)Z" } : Jvm.MethodName)) ∈ lw_all := lw_g (lw_at lw_m6 119 rfl) rfl
theorem q1455 : (Jvm.Cond.code ({ cls := "PepperTables", name := "hasTold", desc := "(II)Z" } : Jvm.MethodName) prog_1_method_54_code (3 : Nat) (Option.some Jvm.ClassFile.FieldType.boolean)) ∈ lw_all := lw_g (lw_at lw_m6 120 rfl) rfl
theorem q1457 : (Jvm.Cond.instanceMethod ({ cls := "PepperTables", name := "rumour", desc := "(II)I" } : Jvm.MethodName)) ∈ lw_all := lw_g (lw_at lw_m6 122 rfl) rfl
theorem q1458 : (Jvm.Cond.selects "PepperTables" ({ cls := "PepperTables", name := "rumour", desc := "(II)I" } : Jvm.MethodName) ({ cls := "PepperTables", name := "rumour", desc := "(II)I" } : Jvm.MethodName)) ∈ lw_all := lw_g (lw_at lw_m6 123 rfl) rfl
theorem q1459 : (Jvm.Cond.code ({ cls := "PepperTables", name := "rumour", desc := "(II)I" } : Jvm.MethodName) prog_1_method_56_code (7 : Nat) (Option.some Jvm.ClassFile.FieldType.int)) ∈ lw_all := lw_g (lw_at lw_m6 124 rfl) rfl
theorem q1461 : (Jvm.Cond.instanceMethod ({ cls := "PepperTables", name := "keeps", desc := "(II)I" } : Jvm.MethodName)) ∈ lw_all := lw_g (lw_at lw_m6 126 rfl) rfl
theorem q1462 : (Jvm.Cond.selects "PepperTables" ({ cls := "PepperTables", name := "keeps", desc := "(II)I" } : Jvm.MethodName) ({ cls := "PepperTables", name := "keeps", desc := "(II)I" } : Jvm.MethodName)) ∈ lw_all := lw_g (lw_at lw_m6 127 rfl) rfl
theorem q1463 : (Jvm.Cond.code ({ cls := "PepperTables", name := "keeps", desc := "(II)I" } : Jvm.MethodName) prog_1_method_57_code (3 : Nat) (Option.some Jvm.ClassFile.FieldType.int)) ∈ lw_all := lw_g (lw_at lw_m6 128 rfl) rfl
theorem q1465 : (Jvm.Cond.instanceMethod ({ cls := "PepperTables", name := "dupe", desc := "()I" } : Jvm.MethodName)) ∈ lw_all := lw_g (lw_at lw_m6 130 rfl) rfl
theorem q1466 : (Jvm.Cond.selects "PepperTables" ({ cls := "PepperTables", name := "dupe", desc := "()I" } : Jvm.MethodName) ({ cls := "PepperTables", name := "dupe", desc := "()I" } : Jvm.MethodName)) ∈ lw_all := lw_g (lw_at lw_m6 131 rfl) rfl
theorem q1467 : (Jvm.Cond.code ({ cls := "PepperTables", name := "dupe", desc := "()I" } : Jvm.MethodName) prog_1_method_59_code (3 : Nat) (Option.some Jvm.ClassFile.FieldType.int)) ∈ lw_all := lw_g (lw_at lw_m6 132 rfl) rfl
theorem q1468 : (Jvm.Cond.methodLink "PepperTables" (302 : Nat) ({ cls := "PepperTables", name := "keptTo", desc := "(I)I" } : Jvm.MethodName)) ∈ lw_all := lw_g (lw_at lw_m6 133 rfl) rfl
theorem q1469 : (Jvm.Cond.privateMethod ({ cls := "PepperTables", name := "keptTo", desc := "(I)I" } : Jvm.MethodName)) ∈ lw_tbl := lw_at lw_m6 134 rfl
theorem q1470 : (Jvm.Cond.instanceMethod ({ cls := "PepperTables", name := "keptTo", desc := "(I)I" } : Jvm.MethodName)) ∈ lw_all := lw_g (lw_at lw_m6 135 rfl) rfl
theorem q1471 : (Jvm.Cond.code ({ cls := "PepperTables", name := "keptTo", desc := "(I)I" } : Jvm.MethodName) prog_1_method_58_code (2 : Nat) (Option.some Jvm.ClassFile.FieldType.int)) ∈ lw_all := lw_g (lw_at lw_m6 136 rfl) rfl
theorem q1473 : (Jvm.Cond.instanceMethod ({ cls := "PepperTables", name := "gain", desc := "(I)I" } : Jvm.MethodName)) ∈ lw_all := lw_g (lw_at lw_m6 138 rfl) rfl
theorem q1474 : (Jvm.Cond.selects "PepperTables" ({ cls := "PepperTables", name := "gain", desc := "(I)I" } : Jvm.MethodName) ({ cls := "PepperTables", name := "gain", desc := "(I)I" } : Jvm.MethodName)) ∈ lw_all := lw_g (lw_at lw_m6 139 rfl) rfl
theorem q1475 : (Jvm.Cond.code ({ cls := "PepperTables", name := "gain", desc := "(I)I" } : Jvm.MethodName) prog_1_method_60_code (2 : Nat) (Option.some Jvm.ClassFile.FieldType.int)) ∈ lw_all := lw_g (lw_at lw_m6 140 rfl) rfl
theorem q1477 : (Jvm.Cond.instanceMethod ({ cls := "PepperTables", name := "feast", desc := "(II)I" } : Jvm.MethodName)) ∈ lw_all := lw_g (lw_at lw_m6 142 rfl) rfl
theorem q1478 : (Jvm.Cond.selects "PepperTables" ({ cls := "PepperTables", name := "feast", desc := "(II)I" } : Jvm.MethodName) ({ cls := "PepperTables", name := "feast", desc := "(II)I" } : Jvm.MethodName)) ∈ lw_all := lw_g (lw_at lw_m6 143 rfl) rfl
theorem q1479 : (Jvm.Cond.code ({ cls := "PepperTables", name := "feast", desc := "(II)I" } : Jvm.MethodName) prog_1_method_63_code (7 : Nat) (Option.some Jvm.ClassFile.FieldType.int)) ∈ lw_all := lw_g (lw_at lw_m6 144 rfl) rfl
theorem q1480 : (Jvm.Cond.methodLink "PepperTables" (305 : Nat) ({ cls := "PepperTables", name := "has", desc := "(II)I" } : Jvm.MethodName)) ∈ lw_all := lw_g (lw_at lw_m6 145 rfl) rfl
theorem q1481 : (Jvm.Cond.privateMethod ({ cls := "PepperTables", name := "has", desc := "(II)I" } : Jvm.MethodName)) ∈ lw_tbl := lw_at lw_m6 146 rfl
theorem q1482 : (Jvm.Cond.instanceMethod ({ cls := "PepperTables", name := "has", desc := "(II)I" } : Jvm.MethodName)) ∈ lw_all := lw_g (lw_at lw_m6 147 rfl) rfl
theorem q1483 : (Jvm.Cond.code ({ cls := "PepperTables", name := "has", desc := "(II)I" } : Jvm.MethodName) prog_1_method_61_code (3 : Nat) (Option.some Jvm.ClassFile.FieldType.int)) ∈ lw_all := lw_g (lw_at lw_m6 148 rfl) rfl
theorem q1484 : (Jvm.Cond.methodLink "PepperTables" (308 : Nat) ({ cls := "PepperTables", name := "rests", desc := "(II)Z" } : Jvm.MethodName)) ∈ lw_all := lw_g (lw_at lw_m6 149 rfl) rfl
theorem q1485 : (Jvm.Cond.privateMethod ({ cls := "PepperTables", name := "rests", desc := "(II)Z" } : Jvm.MethodName)) ∈ lw_tbl := lw_at lw_m6 150 rfl
theorem q1486 : (Jvm.Cond.instanceMethod ({ cls := "PepperTables", name := "rests", desc := "(II)Z" } : Jvm.MethodName)) ∈ lw_all := lw_g (lw_at lw_m6 151 rfl) rfl
theorem q1487 : (Jvm.Cond.code ({ cls := "PepperTables", name := "rests", desc := "(II)Z" } : Jvm.MethodName) prog_1_method_62_code (3 : Nat) (Option.some Jvm.ClassFile.FieldType.boolean)) ∈ lw_all := lw_g (lw_at lw_m6 152 rfl) rfl
theorem q1489 : (Jvm.Cond.instanceMethod ({ cls := "PepperTables", name := "line", desc := "()I" } : Jvm.MethodName)) ∈ lw_all := lw_g (lw_at lw_m6 154 rfl) rfl
theorem q1490 : (Jvm.Cond.selects "PepperTables" ({ cls := "PepperTables", name := "line", desc := "()I" } : Jvm.MethodName) ({ cls := "PepperTables", name := "line", desc := "()I" } : Jvm.MethodName)) ∈ lw_all := lw_g (lw_at lw_m6 155 rfl) rfl
theorem q1491 : (Jvm.Cond.code ({ cls := "PepperTables", name := "line", desc := "()I" } : Jvm.MethodName) prog_1_method_66_code (1 : Nat) (Option.some Jvm.ClassFile.FieldType.int)) ∈ lw_all := lw_g (lw_at lw_m6 156 rfl) rfl
theorem q1492 : (Jvm.Cond.methodLink "PepperTables" (317 : Nat) ({ cls := "PepperTables", name := "lineUp", desc := "(II)V" } : Jvm.MethodName)) ∈ lw_all := lw_g (lw_at lw_m6 157 rfl) rfl
theorem q1493 : (Jvm.Cond.privateMethod ({ cls := "PepperTables", name := "lineUp", desc := "(II)V" } : Jvm.MethodName)) ∈ lw_tbl := lw_at lw_m6 158 rfl
theorem q1494 : (Jvm.Cond.instanceMethod ({ cls := "PepperTables", name := "lineUp", desc := "(II)V" } : Jvm.MethodName)) ∈ lw_all := lw_g (lw_at lw_m6 159 rfl) rfl
theorem q1495 : (Jvm.Cond.code ({ cls := "PepperTables", name := "lineUp", desc := "(II)V" } : Jvm.MethodName) prog_1_method_65_code (4 : Nat) (Option.none : Option Jvm.ClassFile.FieldType)) ∈ lw_all := lw_g (lw_at lw_m6 160 rfl) rfl
theorem q1496 : (Jvm.Cond.methodLink "PepperTables" (314 : Nat) ({ cls := "PepperTables", name := "keepsFrom", desc := "(II)Z" } : Jvm.MethodName)) ∈ lw_all := lw_g (lw_at lw_m6 161 rfl) rfl
theorem q1497 : (Jvm.Cond.privateMethod ({ cls := "PepperTables", name := "keepsFrom", desc := "(II)Z" } : Jvm.MethodName)) ∈ lw_tbl := lw_at lw_m6 162 rfl
theorem q1498 : (Jvm.Cond.instanceMethod ({ cls := "PepperTables", name := "keepsFrom", desc := "(II)Z" } : Jvm.MethodName)) ∈ lw_all := lw_g (lw_at lw_m6 163 rfl) rfl
theorem q1499 : (Jvm.Cond.code ({ cls := "PepperTables", name := "keepsFrom", desc := "(II)Z" } : Jvm.MethodName) prog_1_method_64_code (3 : Nat) (Option.some Jvm.ClassFile.FieldType.boolean)) ∈ lw_all := lw_g (lw_at lw_m6 164 rfl) rfl
theorem q1501 : (Jvm.Cond.instanceMethod ({ cls := "PepperTables", name := "hottest", desc := "()I" } : Jvm.MethodName)) ∈ lw_all := lw_g (lw_at lw_m6 166 rfl) rfl
theorem q1502 : (Jvm.Cond.selects "PepperTables" ({ cls := "PepperTables", name := "hottest", desc := "()I" } : Jvm.MethodName) ({ cls := "PepperTables", name := "hottest", desc := "()I" } : Jvm.MethodName)) ∈ lw_all := lw_g (lw_at lw_m6 167 rfl) rfl
theorem q1503 : (Jvm.Cond.code ({ cls := "PepperTables", name := "hottest", desc := "()I" } : Jvm.MethodName) prog_1_method_67_code (3 : Nat) (Option.some Jvm.ClassFile.FieldType.int)) ∈ lw_all := lw_g (lw_at lw_m6 168 rfl) rfl
theorem q1505 : (Jvm.Cond.instanceMethod ({ cls := "PepperTables", name := "closest", desc := "()I" } : Jvm.MethodName)) ∈ lw_all := lw_g (lw_at lw_m6 170 rfl) rfl
theorem q1506 : (Jvm.Cond.selects "PepperTables" ({ cls := "PepperTables", name := "closest", desc := "()I" } : Jvm.MethodName) ({ cls := "PepperTables", name := "closest", desc := "()I" } : Jvm.MethodName)) ∈ lw_all := lw_g (lw_at lw_m6 171 rfl) rfl
theorem q1507 : (Jvm.Cond.code ({ cls := "PepperTables", name := "closest", desc := "()I" } : Jvm.MethodName) prog_1_method_69_code (3 : Nat) (Option.some Jvm.ClassFile.FieldType.int)) ∈ lw_all := lw_g (lw_at lw_m6 172 rfl) rfl
theorem q1508 : (Jvm.Cond.methodLink "PepperTables" (321 : Nat) ({ cls := "PepperTables", name := "manyBy", desc := "(I)I" } : Jvm.MethodName)) ∈ lw_all := lw_g (lw_at lw_m6 173 rfl) rfl
theorem q1509 : (Jvm.Cond.privateMethod ({ cls := "PepperTables", name := "manyBy", desc := "(I)I" } : Jvm.MethodName)) ∈ lw_tbl := lw_at lw_m6 174 rfl
theorem q1510 : (Jvm.Cond.instanceMethod ({ cls := "PepperTables", name := "manyBy", desc := "(I)I" } : Jvm.MethodName)) ∈ lw_all := lw_g (lw_at lw_m6 175 rfl) rfl
theorem q1511 : (Jvm.Cond.code ({ cls := "PepperTables", name := "manyBy", desc := "(I)I" } : Jvm.MethodName) prog_1_method_68_code (2 : Nat) (Option.some Jvm.ClassFile.FieldType.int)) ∈ lw_all := lw_g (lw_at lw_m6 176 rfl) rfl
theorem q1513 : (Jvm.Cond.instanceMethod ({ cls := "PepperTables", name := "rank", desc := "()I" } : Jvm.MethodName)) ∈ lw_all := lw_g (lw_at lw_m6 178 rfl) rfl
theorem q1514 : (Jvm.Cond.selects "PepperTables" ({ cls := "PepperTables", name := "rank", desc := "()I" } : Jvm.MethodName) ({ cls := "PepperTables", name := "rank", desc := "()I" } : Jvm.MethodName)) ∈ lw_all := lw_g (lw_at lw_m6 179 rfl) rfl
theorem q1515 : (Jvm.Cond.code ({ cls := "PepperTables", name := "rank", desc := "()I" } : Jvm.MethodName) prog_1_method_71_code (5 : Nat) (Option.some Jvm.ClassFile.FieldType.int)) ∈ lw_all := lw_g (lw_at lw_m6 180 rfl) rfl
theorem q1516 : (Jvm.Cond.methodLink "PepperTables" (324 : Nat) ({ cls := "PepperTables", name := "heatBy", desc := "(I)I" } : Jvm.MethodName)) ∈ lw_all := lw_g (lw_at lw_m6 181 rfl) rfl
theorem q1517 : (Jvm.Cond.privateMethod ({ cls := "PepperTables", name := "heatBy", desc := "(I)I" } : Jvm.MethodName)) ∈ lw_tbl := lw_at lw_m6 182 rfl
theorem q1518 : (Jvm.Cond.instanceMethod ({ cls := "PepperTables", name := "heatBy", desc := "(I)I" } : Jvm.MethodName)) ∈ lw_all := lw_g (lw_at lw_m6 183 rfl) rfl
theorem q1519 : (Jvm.Cond.code ({ cls := "PepperTables", name := "heatBy", desc := "(I)I" } : Jvm.MethodName) prog_1_method_70_code (2 : Nat) (Option.some Jvm.ClassFile.FieldType.int)) ∈ lw_all := lw_g (lw_at lw_m6 184 rfl) rfl
theorem q1521 : (Jvm.Cond.instanceMethod ({ cls := "PepperTables", name := "near", desc := "()I" } : Jvm.MethodName)) ∈ lw_all := lw_g (lw_at lw_m6 186 rfl) rfl
theorem q1522 : (Jvm.Cond.selects "PepperTables" ({ cls := "PepperTables", name := "near", desc := "()I" } : Jvm.MethodName) ({ cls := "PepperTables", name := "near", desc := "()I" } : Jvm.MethodName)) ∈ lw_all := lw_g (lw_at lw_m6 187 rfl) rfl
theorem q1523 : (Jvm.Cond.code ({ cls := "PepperTables", name := "near", desc := "()I" } : Jvm.MethodName) prog_1_method_72_code (3 : Nat) (Option.some Jvm.ClassFile.FieldType.int)) ∈ lw_all := lw_g (lw_at lw_m6 188 rfl) rfl
theorem q1524 : (Jvm.Cond.methodLink "PepperTables" (327 : Nat) ({ cls := "PepperTables$Table", name := "areNear", desc := "(LPepperTables$Book;I)Z" } : Jvm.MethodName)) ∈ lw_all := lw_g (lw_at lw_m6 189 rfl) rfl
theorem q1526 : (Jvm.Cond.instanceMethod ({ cls := "PepperTables", name := "scandal", desc := "()I" } : Jvm.MethodName)) ∈ lw_all := lw_g (lw_at lw_m6 191 rfl) rfl
theorem q1527 : (Jvm.Cond.selects "PepperTables" ({ cls := "PepperTables", name := "scandal", desc := "()I" } : Jvm.MethodName) ({ cls := "PepperTables", name := "scandal", desc := "()I" } : Jvm.MethodName)) ∈ lw_all := lw_g (lw_at lw_m6 192 rfl) rfl
theorem q1528 : (Jvm.Cond.code ({ cls := "PepperTables", name := "scandal", desc := "()I" } : Jvm.MethodName) prog_1_method_73_code (1 : Nat) (Option.some Jvm.ClassFile.FieldType.int)) ∈ lw_all := lw_g (lw_at lw_m6 193 rfl) rfl
theorem q1530 : (Jvm.Cond.instanceMethod ({ cls := "PepperTables", name := "next", desc := "()I" } : Jvm.MethodName)) ∈ lw_all := lw_g (lw_at lw_m6 195 rfl) rfl
theorem q1531 : (Jvm.Cond.selects "PepperTables" ({ cls := "PepperTables", name := "next", desc := "()I" } : Jvm.MethodName) ({ cls := "PepperTables", name := "next", desc := "()I" } : Jvm.MethodName)) ∈ lw_all := lw_g (lw_at lw_m6 196 rfl) rfl
theorem q1532 : (Jvm.Cond.code ({ cls := "PepperTables", name := "next", desc := "()I" } : Jvm.MethodName) prog_1_method_74_code (1 : Nat) (Option.some Jvm.ClassFile.FieldType.int)) ∈ lw_all := lw_g (lw_at lw_m6 197 rfl) rfl
theorem q1534 : (Jvm.Cond.instanceMethod ({ cls := "PepperTables", name := "odds", desc := "(II)I" } : Jvm.MethodName)) ∈ lw_all := lw_g (lw_at lw_m6 199 rfl) rfl
theorem q1535 : (Jvm.Cond.selects "PepperTables" ({ cls := "PepperTables", name := "odds", desc := "(II)I" } : Jvm.MethodName) ({ cls := "PepperTables", name := "odds", desc := "(II)I" } : Jvm.MethodName)) ∈ lw_all := lw_g (lw_at lw_m6 200 rfl) rfl
theorem q1536 : (Jvm.Cond.code ({ cls := "PepperTables", name := "odds", desc := "(II)I" } : Jvm.MethodName) prog_1_method_76_code (6 : Nat) (Option.some Jvm.ClassFile.FieldType.int)) ∈ lw_all := lw_g (lw_at lw_m6 201 rfl) rfl
theorem q1537 : (Jvm.Cond.methodLink "PepperTables" (334 : Nat) ({ cls := "PepperTables", name := "common", desc := "(II)I" } : Jvm.MethodName)) ∈ lw_all := lw_g (lw_at lw_m6 202 rfl) rfl
theorem q1538 : (Jvm.Cond.static ({ cls := "PepperTables", name := "common", desc := "(II)I" } : Jvm.MethodName)) ∈ lw_all := lw_g (lw_at lw_m6 203 rfl) rfl
theorem q1539 : (Jvm.Cond.code ({ cls := "PepperTables", name := "common", desc := "(II)I" } : Jvm.MethodName) prog_1_method_75_code (5 : Nat) (Option.some Jvm.ClassFile.FieldType.int)) ∈ lw_all := lw_g (lw_at lw_m6 204 rfl) rfl
theorem q1541 : (Jvm.Cond.instanceMethod ({ cls := "PepperTables", name := "lies", desc := "(I)I" } : Jvm.MethodName)) ∈ lw_all := lw_g (lw_at lw_m6 206 rfl) rfl
theorem q1542 : (Jvm.Cond.selects "PepperTables" ({ cls := "PepperTables", name := "lies", desc := "(I)I" } : Jvm.MethodName) ({ cls := "PepperTables", name := "lies", desc := "(I)I" } : Jvm.MethodName)) ∈ lw_all := lw_g (lw_at lw_m6 207 rfl) rfl
theorem q1543 : (Jvm.Cond.code ({ cls := "PepperTables", name := "lies", desc := "(I)I" } : Jvm.MethodName) prog_1_method_77_code (2 : Nat) (Option.some Jvm.ClassFile.FieldType.int)) ∈ lw_all := lw_g (lw_at lw_m6 208 rfl) rfl
theorem q1545 : (Jvm.Cond.instanceMethod ({ cls := "PepperTables", name := "heard", desc := "(IIZ)I" } : Jvm.MethodName)) ∈ lw_all := lw_g (lw_at lw_m6 210 rfl) rfl
theorem q1546 : (Jvm.Cond.selects "PepperTables" ({ cls := "PepperTables", name := "heard", desc := "(IIZ)I" } : Jvm.MethodName) ({ cls := "PepperTables", name := "heard", desc := "(IIZ)I" } : Jvm.MethodName)) ∈ lw_all := lw_g (lw_at lw_m6 211 rfl) rfl
theorem q1547 : (Jvm.Cond.code ({ cls := "PepperTables", name := "heard", desc := "(IIZ)I" } : Jvm.MethodName) prog_1_method_78_code (4 : Nat) (Option.some Jvm.ClassFile.FieldType.int)) ∈ lw_all := lw_g (lw_at lw_m6 212 rfl) rfl
theorem q1548 : (Jvm.Cond.classLink "PepperTables" (337 : Nat) "PepperTables$Noise") ∈ lw_all := lw_g (lw_at lw_m6 213 rfl) rfl
theorem q1550 : (Jvm.Cond.methodLink "PepperTables" (339 : Nat) ({ cls := "PepperTables$Noise", name := "<init>", desc := "(LPepperTables;IIZ)V" } : Jvm.MethodName)) ∈ lw_all := lw_g (lw_at lw_m6 215 rfl) rfl
theorem q1573 : (Jvm.Cond.methodLink "PepperTables" (342 : Nat) ({ cls := "java/util/ArrayList", name := "add", desc := "(Ljava/lang/Object;)Z" } : Jvm.MethodName)) ∈ lw_all := lw_g (lw_at lw_m6 238 rfl) rfl
theorem q1575 : (Jvm.Cond.instanceMethod ({ cls := "PepperTables", name := "untell", desc := "(I)Z" } : Jvm.MethodName)) ∈ lw_all := lw_g (lw_at lw_m7 0 rfl) rfl
theorem q1576 : (Jvm.Cond.selects "PepperTables" ({ cls := "PepperTables", name := "untell", desc := "(I)Z" } : Jvm.MethodName) ({ cls := "PepperTables", name := "untell", desc := "(I)Z" } : Jvm.MethodName)) ∈ lw_all := lw_g (lw_at lw_m7 1 rfl) rfl
theorem q1577 : (Jvm.Cond.code ({ cls := "PepperTables", name := "untell", desc := "(I)Z" } : Jvm.MethodName) prog_1_method_79_code (2 : Nat) (Option.some Jvm.ClassFile.FieldType.boolean)) ∈ lw_all := lw_g (lw_at lw_m7 2 rfl) rfl
theorem q1578 : (Jvm.Cond.methodLink "PepperTables" (345 : Nat) ({ cls := "PepperTables$Noise", name := "untell", desc := "()Z" } : Jvm.MethodName)) ∈ lw_all := lw_g (lw_at lw_m7 3 rfl) rfl
theorem q1583 : (Jvm.Cond.instanceMethod ({ cls := "PepperTables", name := "later", desc := "(I)I" } : Jvm.MethodName)) ∈ lw_all := lw_g (lw_at lw_m7 8 rfl) rfl
theorem q1584 : (Jvm.Cond.selects "PepperTables" ({ cls := "PepperTables", name := "later", desc := "(I)I" } : Jvm.MethodName) ({ cls := "PepperTables", name := "later", desc := "(I)I" } : Jvm.MethodName)) ∈ lw_all := lw_g (lw_at lw_m7 9 rfl) rfl
theorem q1585 : (Jvm.Cond.code ({ cls := "PepperTables", name := "later", desc := "(I)I" } : Jvm.MethodName) prog_1_method_80_code (2 : Nat) (Option.some Jvm.ClassFile.FieldType.int)) ∈ lw_all := lw_g (lw_at lw_m7 10 rfl) rfl
theorem q1586 : (Jvm.Cond.constant "PepperTables" (352 : Nat) (100000 : Int32)) ∈ lw_all := lw_g (lw_at lw_m7 11 rfl) rfl
theorem q1588 : (Jvm.Cond.instanceMethod ({ cls := "PepperTables", name := "rows", desc := "(I)I" } : Jvm.MethodName)) ∈ lw_all := lw_g (lw_at lw_m7 13 rfl) rfl
theorem q1589 : (Jvm.Cond.selects "PepperTables" ({ cls := "PepperTables", name := "rows", desc := "(I)I" } : Jvm.MethodName) ({ cls := "PepperTables", name := "rows", desc := "(I)I" } : Jvm.MethodName)) ∈ lw_all := lw_g (lw_at lw_m7 14 rfl) rfl
theorem q1590 : (Jvm.Cond.code ({ cls := "PepperTables", name := "rows", desc := "(I)I" } : Jvm.MethodName) prog_1_method_85_code (2 : Nat) (Option.some Jvm.ClassFile.FieldType.int)) ∈ lw_all := lw_g (lw_at lw_m7 15 rfl) rfl
theorem q1591 : (Jvm.Cond.methodLink "PepperTables" (365 : Nat) ({ cls := "PepperTables", name := "layRows", desc := "(I)I" } : Jvm.MethodName)) ∈ lw_all := lw_g (lw_at lw_m7 16 rfl) rfl
theorem q1592 : (Jvm.Cond.privateMethod ({ cls := "PepperTables", name := "layRows", desc := "(I)I" } : Jvm.MethodName)) ∈ lw_tbl := lw_at lw_m7 17 rfl
theorem q1593 : (Jvm.Cond.instanceMethod ({ cls := "PepperTables", name := "layRows", desc := "(I)I" } : Jvm.MethodName)) ∈ lw_all := lw_g (lw_at lw_m7 18 rfl) rfl
theorem q1594 : (Jvm.Cond.code ({ cls := "PepperTables", name := "layRows", desc := "(I)I" } : Jvm.MethodName) prog_1_method_84_code (5 : Nat) (Option.some Jvm.ClassFile.FieldType.int)) ∈ lw_all := lw_g (lw_at lw_m7 19 rfl) rfl
theorem q1595 : (Jvm.Cond.methodLink "PepperTables" (356 : Nat) ({ cls := "PepperTables", name := "rowsInAll", desc := "()I" } : Jvm.MethodName)) ∈ lw_all := lw_g (lw_at lw_m7 20 rfl) rfl
theorem q1596 : (Jvm.Cond.privateMethod ({ cls := "PepperTables", name := "rowsInAll", desc := "()I" } : Jvm.MethodName)) ∈ lw_tbl := lw_at lw_m7 21 rfl
theorem q1597 : (Jvm.Cond.instanceMethod ({ cls := "PepperTables", name := "rowsInAll", desc := "()I" } : Jvm.MethodName)) ∈ lw_all := lw_g (lw_at lw_m7 22 rfl) rfl
theorem q1598 : (Jvm.Cond.code ({ cls := "PepperTables", name := "rowsInAll", desc := "()I" } : Jvm.MethodName) prog_1_method_82_code (1 : Nat) (Option.some Jvm.ClassFile.FieldType.int)) ∈ lw_all := lw_g (lw_at lw_m7 23 rfl) rfl
theorem q1599 : (Jvm.Cond.methodLink "PepperTables" (353 : Nat) ({ cls := "PepperTables", name := "choices", desc := "()I" } : Jvm.MethodName)) ∈ lw_all := lw_g (lw_at lw_m7 24 rfl) rfl
theorem q1600 : (Jvm.Cond.privateMethod ({ cls := "PepperTables", name := "choices", desc := "()I" } : Jvm.MethodName)) ∈ lw_tbl := lw_at lw_m7 25 rfl
theorem q1601 : (Jvm.Cond.instanceMethod ({ cls := "PepperTables", name := "choices", desc := "()I" } : Jvm.MethodName)) ∈ lw_all := lw_g (lw_at lw_m7 26 rfl) rfl
theorem q1602 : (Jvm.Cond.code ({ cls := "PepperTables", name := "choices", desc := "()I" } : Jvm.MethodName) prog_1_method_81_code (1 : Nat) (Option.some Jvm.ClassFile.FieldType.int)) ∈ lw_all := lw_g (lw_at lw_m7 27 rfl) rfl
theorem q1603 : (Jvm.Cond.methodLink "PepperTables" (359 : Nat) ({ cls := "PepperTables", name := "choice", desc := "(II)I" } : Jvm.MethodName)) ∈ lw_all := lw_g (lw_at lw_m7 28 rfl) rfl
theorem q1604 : (Jvm.Cond.privateMethod ({ cls := "PepperTables", name := "choice", desc := "(II)I" } : Jvm.MethodName)) ∈ lw_tbl := lw_at lw_m7 29 rfl
theorem q1605 : (Jvm.Cond.instanceMethod ({ cls := "PepperTables", name := "choice", desc := "(II)I" } : Jvm.MethodName)) ∈ lw_all := lw_g (lw_at lw_m7 30 rfl) rfl
theorem q1606 : (Jvm.Cond.code ({ cls := "PepperTables", name := "choice", desc := "(II)I" } : Jvm.MethodName) prog_1_method_83_code (4 : Nat) (Option.some Jvm.ClassFile.FieldType.int)) ∈ lw_all := lw_g (lw_at lw_m7 31 rfl) rfl
theorem q1607 : (Jvm.Cond.methodLink "PepperTables" (362 : Nat) ({ cls := "PepperTables$Noise", name := "allows", desc := "(II)Z" } : Jvm.MethodName)) ∈ lw_all := lw_g (lw_at lw_m7 32 rfl) rfl
theorem q1612 : (Jvm.Cond.instanceMethod ({ cls := "PepperTables", name := "sure", desc := "(II)I" } : Jvm.MethodName)) ∈ lw_all := lw_g (lw_at lw_m7 37 rfl) rfl
theorem q1613 : (Jvm.Cond.selects "PepperTables" ({ cls := "PepperTables", name := "sure", desc := "(II)I" } : Jvm.MethodName) ({ cls := "PepperTables", name := "sure", desc := "(II)I" } : Jvm.MethodName)) ∈ lw_all := lw_g (lw_at lw_m7 38 rfl) rfl
theorem q1614 : (Jvm.Cond.code ({ cls := "PepperTables", name := "sure", desc := "(II)I" } : Jvm.MethodName) prog_1_method_86_code (5 : Nat) (Option.some Jvm.ClassFile.FieldType.int)) ∈ lw_all := lw_g (lw_at lw_m7 39 rfl) rfl
theorem q1615 : (Jvm.Cond.methodLink "PepperTables" (368 : Nat) ({ cls := "java/lang/Math", name := "min", desc := "(II)I" } : Jvm.MethodName)) ∈ lw_all := lw_g (lw_at lw_m7 40 rfl) rfl
theorem q1617 : (Jvm.Cond.instanceMethod ({ cls := "PepperTables", name := "ask", desc := "(II)I" } : Jvm.MethodName)) ∈ lw_all := lw_g (lw_at lw_m7 42 rfl) rfl
theorem q1618 : (Jvm.Cond.selects "PepperTables" ({ cls := "PepperTables", name := "ask", desc := "(II)I" } : Jvm.MethodName) ({ cls := "PepperTables", name := "ask", desc := "(II)I" } : Jvm.MethodName)) ∈ lw_all := lw_g (lw_at lw_m7 43 rfl) rfl
theorem q1619 : (Jvm.Cond.code ({ cls := "PepperTables", name := "ask", desc := "(II)I" } : Jvm.MethodName) prog_1_method_88_code (5 : Nat) (Option.some Jvm.ClassFile.FieldType.int)) ∈ lw_all := lw_g (lw_at lw_m7 44 rfl) rfl
theorem q1620 : (Jvm.Cond.methodLink "PepperTables" (376 : Nat) ({ cls := "PepperTables", name := "leftBy", desc := "(I)I" } : Jvm.MethodName)) ∈ lw_all := lw_g (lw_at lw_m7 45 rfl) rfl
theorem q1621 : (Jvm.Cond.privateMethod ({ cls := "PepperTables", name := "leftBy", desc := "(I)I" } : Jvm.MethodName)) ∈ lw_tbl := lw_at lw_m7 46 rfl
theorem q1622 : (Jvm.Cond.instanceMethod ({ cls := "PepperTables", name := "leftBy", desc := "(I)I" } : Jvm.MethodName)) ∈ lw_all := lw_g (lw_at lw_m7 47 rfl) rfl
theorem q1623 : (Jvm.Cond.code ({ cls := "PepperTables", name := "leftBy", desc := "(I)I" } : Jvm.MethodName) prog_1_method_87_code (6 : Nat) (Option.some Jvm.ClassFile.FieldType.int)) ∈ lw_all := lw_g (lw_at lw_m7 48 rfl) rfl
theorem q1624 : (Jvm.Cond.methodLink "PepperTables" (373 : Nat) ({ cls := "java/lang/Math", name := "max", desc := "(II)I" } : Jvm.MethodName)) ∈ lw_all := lw_g (lw_at lw_m7 49 rfl) rfl
theorem q1626 : (Jvm.Cond.instanceMethod ({ cls := "PepperTables", name := "image", desc := "(I)I" } : Jvm.MethodName)) ∈ lw_all := lw_g (lw_at lw_m7 51 rfl) rfl
theorem q1627 : (Jvm.Cond.selects "PepperTables" ({ cls := "PepperTables", name := "image", desc := "(I)I" } : Jvm.MethodName) ({ cls := "PepperTables", name := "image", desc := "(I)I" } : Jvm.MethodName)) ∈ lw_all := lw_g (lw_at lw_m7 52 rfl) rfl
theorem q1628 : (Jvm.Cond.code ({ cls := "PepperTables", name := "image", desc := "(I)I" } : Jvm.MethodName) prog_1_method_90_code (2 : Nat) (Option.some Jvm.ClassFile.FieldType.int)) ∈ lw_all := lw_g (lw_at lw_m7 53 rfl) rfl
theorem q1629 : (Jvm.Cond.methodLink "PepperTables" (379 : Nat) ({ cls := "PepperTables", name := "isBox", desc := "(I)Z" } : Jvm.MethodName)) ∈ lw_all := lw_g (lw_at lw_m7 54 rfl) rfl
theorem q1630 : (Jvm.Cond.static ({ cls := "PepperTables", name := "isBox", desc := "(I)Z" } : Jvm.MethodName)) ∈ lw_all := lw_g (lw_at lw_m7 55 rfl) rfl
theorem q1631 : (Jvm.Cond.code ({ cls := "PepperTables", name := "isBox", desc := "(I)Z" } : Jvm.MethodName) prog_1_method_89_code (1 : Nat) (Option.some Jvm.ClassFile.FieldType.boolean)) ∈ lw_all := lw_g (lw_at lw_m7 56 rfl) rfl
theorem q1633 : (Jvm.Cond.instanceMethod ({ cls := "PepperTables", name := "back", desc := "(I)I" } : Jvm.MethodName)) ∈ lw_all := lw_g (lw_at lw_m7 58 rfl) rfl
theorem q1634 : (Jvm.Cond.selects "PepperTables" ({ cls := "PepperTables", name := "back", desc := "(I)I" } : Jvm.MethodName) ({ cls := "PepperTables", name := "back", desc := "(I)I" } : Jvm.MethodName)) ∈ lw_all := lw_g (lw_at lw_m7 59 rfl) rfl
theorem q1635 : (Jvm.Cond.code ({ cls := "PepperTables", name := "back", desc := "(I)I" } : Jvm.MethodName) prog_1_method_91_code (2 : Nat) (Option.some Jvm.ClassFile.FieldType.int)) ∈ lw_all := lw_g (lw_at lw_m7 60 rfl) rfl
theorem q1637 : (Jvm.Cond.instanceMethod ({ cls := "PepperTables", name := "about", desc := "(I)I" } : Jvm.MethodName)) ∈ lw_all := lw_g (lw_at lw_m7 62 rfl) rfl
theorem q1638 : (Jvm.Cond.selects "PepperTables" ({ cls := "PepperTables", name := "about", desc := "(I)I" } : Jvm.MethodName) ({ cls := "PepperTables", name := "about", desc := "(I)I" } : Jvm.MethodName)) ∈ lw_all := lw_g (lw_at lw_m7 63 rfl) rfl
theorem q1639 : (Jvm.Cond.code ({ cls := "PepperTables", name := "about", desc := "(I)I" } : Jvm.MethodName) prog_1_method_92_code (2 : Nat) (Option.some Jvm.ClassFile.FieldType.int)) ∈ lw_all := lw_g (lw_at lw_m7 64 rfl) rfl
theorem q2413 : (Jvm.Cond.castable "PepperTables" "java/lang/Object") ∈ lw_tbl := lw_at lw_m10 118 rfl
theorem in_X0 : ∀ w ∈ wsX00, w ∈ lw_all := lw_in wsX00 [374, 376, 378, 380, 382, 384, 386, 388, 390, 392, 394, 396, 398, 400, 402, 404, 406, 408, 410, 412, 414, 416, 418, 420] (by decide +kernel) (by decide +kernel)

