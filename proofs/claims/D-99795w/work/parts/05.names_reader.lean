/-! PepperTables$Reader -/
set_option maxRecDepth 100000
def RX5 : String := "PepperTables$Reader"
def TX5 : u_T := fun k => match k with
  | 0 => ("PepperTables$Reader", "at", "I", false)
  | 1 => ("PepperTables$Reader", "sort", "I", false)
  | 2 => ("PepperTables$Reader", "place", "I", false)
  | 3 => ("PepperTables$Reader", "number", "I", false)
  | 4 => ("PepperTables$Reader", "deep", "I", false)
  | 5 => ("PepperTables$Reader", "own", "I", false)
  | 6 => ("PepperTables$Reader", "hasSneeze", "Z", false)
  | 7 => ("PepperTables$Reader", "hasDraw", "Z", false)
  | 8 => ("PepperTables$Reader", "word", "Ljava/lang/String;", false)
  | 9 => ("PepperTables$Reader", "made", "LPepperTables$Book;", true)
  | _ => ("PepperTables$Reader", "this$0", "LPepperTables;", true)
def tyX5 : Nat → FieldType := fun k => match k with
  | 0 => .int
  | 1 => .int
  | 2 => .int
  | 3 => .int
  | 4 => .int
  | 5 => .int
  | 6 => .boolean
  | 7 => .boolean
  | 8 => .object "java/lang/String"
  | 9 => .object "PepperTables$Book"
  | _ => .object "PepperTables"
abbrev wsX50 : List Cond := u_ws RX5 TX5 11
theorem nmX5 : ∀ a, a < 11 → ∀ b, b < 11 → a ≠ b → (TX5 a).2.1 ≠ (TX5 b).2.1 := by decide +kernel
theorem tyX5_ok : ∀ k, k < 11 → parseFieldDescriptor (TX5 k).2.2.1 = some (tyX5 k) := by decide +kernel
abbrev cX5_init : ByteArray := prog_17_method_1_code
def yX5_init : MethodName := ⟨RX5, "<init>", "(LPepperTables;)V"⟩
def dkwX5_init_1 : List UInt8 := [181, 0, 24, 177]
abbrev dktX5_init_1 : List UInt8 := dkwX5_init_1 ++ []
def dkwX5_init_0 : List UInt8 := [42, 43, 181, 0, 3, 42, 183, 0, 9, 42, 18, 15, 181, 0, 17, 42, 187, 0, 21, 89, 183, 0, 23]
abbrev dktX5_init_0 : List UInt8 := dkwX5_init_0 ++ dktX5_init_1
theorem dksX5_init_0 : cX5_init.data.toList.drop 0 = dktX5_init_0 := by decide +kernel
theorem dksX5_init_1 : cX5_init.data.toList.drop 23 = dktX5_init_1 := dk_seg dksX5_init_0 23 rfl rfl
theorem dX5_init_0 : decode cX5_init 0 = .ok (.aload_n 0, 1) := dk_42 (dk_at dksX5_init_0 0 rfl rfl)
theorem dX5_init_1 : decode cX5_init 1 = .ok (.aload_n 1, 1) := dk_43 (dk_at dksX5_init_0 1 rfl rfl)
theorem dX5_init_2 : decode cX5_init 2 = .ok (.putfield 3, 3) := dk_181 0 3 (dk_at dksX5_init_0 2 rfl rfl)
theorem dX5_init_5 : decode cX5_init 5 = .ok (.aload_n 0, 1) := dk_42 (dk_at dksX5_init_0 5 rfl rfl)
theorem dX5_init_6 : decode cX5_init 6 = .ok (.invokespecial 9, 3) := dk_183 0 9 (dk_at dksX5_init_0 6 rfl rfl)
theorem dX5_init_9 : decode cX5_init 9 = .ok (.aload_n 0, 1) := dk_42 (dk_at dksX5_init_0 9 rfl rfl)
theorem dX5_init_10 : decode cX5_init 10 = .ok (.ldc 15, 2) := dk_18 15 (dk_at dksX5_init_0 10 rfl rfl)
theorem dX5_init_12 : decode cX5_init 12 = .ok (.putfield 17, 3) := dk_181 0 17 (dk_at dksX5_init_0 12 rfl rfl)
theorem dX5_init_15 : decode cX5_init 15 = .ok (.aload_n 0, 1) := dk_42 (dk_at dksX5_init_0 15 rfl rfl)
theorem dX5_init_16 : decode cX5_init 16 = .ok (.new 21, 3) := dk_187 0 21 (dk_at dksX5_init_0 16 rfl rfl)
theorem dX5_init_19 : decode cX5_init 19 = .ok (.dup, 1) := dk_89 (dk_at dksX5_init_0 19 rfl rfl)
theorem dX5_init_20 : decode cX5_init 20 = .ok (.invokespecial 23, 3) := dk_183 0 23 (dk_at dksX5_init_0 20 rfl rfl)
theorem dX5_init_23 : decode cX5_init 23 = .ok (.putfield 24, 3) := dk_181 0 24 (dk_at dksX5_init_1 0 rfl rfl)
theorem dX5_init_26 : decode cX5_init 26 = .ok (.return_, 1) := dk_177 (dk_at dksX5_init_1 3 rfl rfl)
abbrev cX5_text : ByteArray := prog_17_method_16_code
def yX5_text : MethodName := ⟨RX5, "text", "()LPepperTables$Book;"⟩
def dkwX5_text_1 : List UInt8 := [42, 182, 0, 96, 191, 42, 182, 0, 90, 167, 255, 227, 42, 180, 0, 24, 176]
abbrev dktX5_text_1 : List UInt8 := dkwX5_text_1 ++ []
def dkwX5_text_0 : List UInt8 := [42, 182, 0, 90, 42, 180, 0, 46, 153, 0, 28, 42, 182, 0, 155, 42, 180, 0, 46, 16, 59, 159, 0, 8]
abbrev dktX5_text_0 : List UInt8 := dkwX5_text_0 ++ dktX5_text_1
theorem dksX5_text_0 : cX5_text.data.toList.drop 0 = dktX5_text_0 := by decide +kernel
theorem dksX5_text_1 : cX5_text.data.toList.drop 24 = dktX5_text_1 := dk_seg dksX5_text_0 24 rfl rfl
theorem dX5_text_0 : decode cX5_text 0 = .ok (.aload_n 0, 1) := dk_42 (dk_at dksX5_text_0 0 rfl rfl)
theorem dX5_text_1 : decode cX5_text 1 = .ok (.invokevirtual 90, 3) := dk_182 0 90 (dk_at dksX5_text_0 1 rfl rfl)
theorem dX5_text_4 : decode cX5_text 4 = .ok (.aload_n 0, 1) := dk_42 (dk_at dksX5_text_0 4 rfl rfl)
theorem dX5_text_5 : decode cX5_text 5 = .ok (.getfield 46, 3) := dk_180 0 46 (dk_at dksX5_text_0 5 rfl rfl)
theorem dX5_text_8 : decode cX5_text 8 = .ok (.ifCond .eq 28, 3) := dk_153 0 28 (dk_at dksX5_text_0 8 rfl rfl)
theorem dX5_text_11 : decode cX5_text 11 = .ok (.aload_n 0, 1) := dk_42 (dk_at dksX5_text_0 11 rfl rfl)
theorem dX5_text_12 : decode cX5_text 12 = .ok (.invokevirtual 155, 3) := dk_182 0 155 (dk_at dksX5_text_0 12 rfl rfl)
theorem dX5_text_15 : decode cX5_text 15 = .ok (.aload_n 0, 1) := dk_42 (dk_at dksX5_text_0 15 rfl rfl)
theorem dX5_text_16 : decode cX5_text 16 = .ok (.getfield 46, 3) := dk_180 0 46 (dk_at dksX5_text_0 16 rfl rfl)
theorem dX5_text_19 : decode cX5_text 19 = .ok (.bipush 59, 2) := dk_16 59 (dk_at dksX5_text_0 19 rfl rfl)
theorem dX5_text_21 : decode cX5_text 21 = .ok (.if_icmp .eq 8, 3) := dk_159 0 8 (dk_at dksX5_text_0 21 rfl rfl)
theorem dX5_text_24 : decode cX5_text 24 = .ok (.aload_n 0, 1) := dk_42 (dk_at dksX5_text_1 0 rfl rfl)
theorem dX5_text_25 : decode cX5_text 25 = .ok (.invokevirtual 96, 3) := dk_182 0 96 (dk_at dksX5_text_1 1 rfl rfl)
theorem dX5_text_28 : decode cX5_text 28 = .ok (.athrow, 1) := dk_191 (dk_at dksX5_text_1 4 rfl rfl)
theorem dX5_text_29 : decode cX5_text 29 = .ok (.aload_n 0, 1) := dk_42 (dk_at dksX5_text_1 5 rfl rfl)
theorem dX5_text_30 : decode cX5_text 30 = .ok (.invokevirtual 90, 3) := dk_182 0 90 (dk_at dksX5_text_1 6 rfl rfl)
theorem dX5_text_33 : decode cX5_text 33 = .ok (.goto (-29), 3) := dk_167 255 227 (dk_at dksX5_text_1 9 rfl rfl)
theorem dX5_text_36 : decode cX5_text 36 = .ok (.aload_n 0, 1) := dk_42 (dk_at dksX5_text_1 12 rfl rfl)
theorem dX5_text_37 : decode cX5_text 37 = .ok (.getfield 24, 3) := dk_180 0 24 (dk_at dksX5_text_1 13 rfl rfl)
theorem dX5_text_40 : decode cX5_text 40 = .ok (.areturn, 1) := dk_176 (dk_at dksX5_text_1 16 rfl rfl)
abbrev cX5_go : ByteArray := prog_17_method_6_code
def yX5_go : MethodName := ⟨RX5, "go", "()V"⟩
def dkwX5_go_10 : List UInt8 := [181, 0, 28, 177]
abbrev dktX5_go_10 : List UInt8 := dkwX5_go_10 ++ []
def dkwX5_go_9 : List UInt8 := [167, 0, 17, 27, 184, 0, 72, 153, 0, 10, 42, 27, 181, 0, 46, 4, 61, 42, 89, 180, 0, 28, 28, 96]
abbrev dktX5_go_9 : List UInt8 := dkwX5_go_9 ++ dktX5_go_10
def dkwX5_go_8 : List UInt8 := [167, 255, 220, 28, 7, 163, 0, 11, 42, 28, 182, 0, 49, 153, 0, 4, 177, 42, 5, 181, 0, 46]
abbrev dktX5_go_8 : List UInt8 := dkwX5_go_8 ++ dktX5_go_9
def dkwX5_go_7 : List UInt8 := [42, 16, 10, 42, 180, 0, 69, 104, 42, 28, 182, 0, 39, 96, 16, 48, 100, 181, 0, 69, 132, 2, 1]
abbrev dktX5_go_7 : List UInt8 := dkwX5_go_7 ++ dktX5_go_8
def dkwX5_go_6 : List UInt8 := [182, 0, 66, 153, 0, 69, 42, 3, 181, 0, 69, 42, 28, 182, 0, 66, 153, 0, 34, 28, 7, 162, 0, 23]
abbrev dktX5_go_6 : List UInt8 := dkwX5_go_6 ++ dktX5_go_7
def dkwX5_go_5 : List UInt8 := [16, 8, 164, 0, 4, 177, 42, 45, 182, 0, 62, 181, 0, 17, 42, 4, 181, 0, 46, 167, 0, 91, 42, 3]
abbrev dktX5_go_5 : List UInt8 := dkwX5_go_5 ++ dktX5_go_6
def dkwX5_go_4 : List UInt8 := [28, 16, 8, 162, 0, 14, 45, 42, 28, 182, 0, 39, 146, 182, 0, 58, 87, 132, 2, 1, 167, 255, 228, 28]
abbrev dktX5_go_4 : List UInt8 := dkwX5_go_4 ++ dktX5_go_5
def dkwX5_go_3 : List UInt8 := [182, 0, 49, 153, 0, 67, 187, 0, 53, 89, 16, 8, 183, 0, 55, 78, 42, 28, 182, 0, 49, 153, 0, 26]
abbrev dktX5_go_3 : List UInt8 := dkwX5_go_3 ++ dktX5_go_4
def dkwX5_go_2 : List UInt8 := [60, 3, 61, 42, 6, 181, 0, 46, 27, 156, 0, 11, 42, 3, 181, 0, 46, 167, 0, 163, 42, 3]
abbrev dktX5_go_2 : List UInt8 := dkwX5_go_2 ++ dktX5_go_3
def dkwX5_go_1 : List UInt8 := [180, 0, 28, 4, 96, 181, 0, 28, 167, 255, 226, 42, 42, 180, 0, 28, 181, 0, 43, 42, 3, 182, 0, 39]
abbrev dktX5_go_1 : List UInt8 := dkwX5_go_1 ++ dktX5_go_2
def dkwX5_go_0 : List UInt8 := [42, 3, 182, 0, 39, 16, 32, 159, 0, 13, 42, 3, 182, 0, 39, 16, 10, 160, 0, 16, 42, 89]
abbrev dktX5_go_0 : List UInt8 := dkwX5_go_0 ++ dktX5_go_1
theorem dksX5_go_0 : cX5_go.data.toList.drop 0 = dktX5_go_0 := by decide +kernel
theorem dksX5_go_1 : cX5_go.data.toList.drop 22 = dktX5_go_1 := dk_seg dksX5_go_0 22 rfl rfl
theorem dksX5_go_2 : cX5_go.data.toList.drop 46 = dktX5_go_2 := dk_seg dksX5_go_1 24 rfl rfl
theorem dksX5_go_3 : cX5_go.data.toList.drop 68 = dktX5_go_3 := dk_seg dksX5_go_2 22 rfl rfl
theorem dksX5_go_4 : cX5_go.data.toList.drop 92 = dktX5_go_4 := dk_seg dksX5_go_3 24 rfl rfl
theorem dksX5_go_5 : cX5_go.data.toList.drop 116 = dktX5_go_5 := dk_seg dksX5_go_4 24 rfl rfl
theorem dksX5_go_6 : cX5_go.data.toList.drop 140 = dktX5_go_6 := dk_seg dksX5_go_5 24 rfl rfl
theorem dksX5_go_7 : cX5_go.data.toList.drop 164 = dktX5_go_7 := dk_seg dksX5_go_6 24 rfl rfl
theorem dksX5_go_8 : cX5_go.data.toList.drop 187 = dktX5_go_8 := dk_seg dksX5_go_7 23 rfl rfl
theorem dksX5_go_9 : cX5_go.data.toList.drop 209 = dktX5_go_9 := dk_seg dksX5_go_8 22 rfl rfl
theorem dksX5_go_10 : cX5_go.data.toList.drop 233 = dktX5_go_10 := dk_seg dksX5_go_9 24 rfl rfl
theorem dX5_go_0 : decode cX5_go 0 = .ok (.aload_n 0, 1) := dk_42 (dk_at dksX5_go_0 0 rfl rfl)
theorem dX5_go_1 : decode cX5_go 1 = .ok (.iconst 0, 1) := dk_3 (dk_at dksX5_go_0 1 rfl rfl)
theorem dX5_go_2 : decode cX5_go 2 = .ok (.invokevirtual 39, 3) := dk_182 0 39 (dk_at dksX5_go_0 2 rfl rfl)
theorem dX5_go_5 : decode cX5_go 5 = .ok (.bipush 32, 2) := dk_16 32 (dk_at dksX5_go_0 5 rfl rfl)
theorem dX5_go_7 : decode cX5_go 7 = .ok (.if_icmp .eq 13, 3) := dk_159 0 13 (dk_at dksX5_go_0 7 rfl rfl)
theorem dX5_go_10 : decode cX5_go 10 = .ok (.aload_n 0, 1) := dk_42 (dk_at dksX5_go_0 10 rfl rfl)
theorem dX5_go_11 : decode cX5_go 11 = .ok (.iconst 0, 1) := dk_3 (dk_at dksX5_go_0 11 rfl rfl)
theorem dX5_go_12 : decode cX5_go 12 = .ok (.invokevirtual 39, 3) := dk_182 0 39 (dk_at dksX5_go_0 12 rfl rfl)
theorem dX5_go_15 : decode cX5_go 15 = .ok (.bipush 10, 2) := dk_16 10 (dk_at dksX5_go_0 15 rfl rfl)
theorem dX5_go_17 : decode cX5_go 17 = .ok (.if_icmp .ne 16, 3) := dk_160 0 16 (dk_at dksX5_go_0 17 rfl rfl)
theorem dX5_go_20 : decode cX5_go 20 = .ok (.aload_n 0, 1) := dk_42 (dk_at dksX5_go_0 20 rfl rfl)
theorem dX5_go_21 : decode cX5_go 21 = .ok (.dup, 1) := dk_89 (dk_at dksX5_go_0 21 rfl rfl)
theorem dX5_go_22 : decode cX5_go 22 = .ok (.getfield 28, 3) := dk_180 0 28 (dk_at dksX5_go_1 0 rfl rfl)
theorem dX5_go_25 : decode cX5_go 25 = .ok (.iconst 1, 1) := dk_4 (dk_at dksX5_go_1 3 rfl rfl)
theorem dX5_go_26 : decode cX5_go 26 = .ok (.iadd, 1) := dk_96 (dk_at dksX5_go_1 4 rfl rfl)
theorem dX5_go_27 : decode cX5_go 27 = .ok (.putfield 28, 3) := dk_181 0 28 (dk_at dksX5_go_1 5 rfl rfl)
theorem dX5_go_30 : decode cX5_go 30 = .ok (.goto (-30), 3) := dk_167 255 226 (dk_at dksX5_go_1 8 rfl rfl)
theorem dX5_go_33 : decode cX5_go 33 = .ok (.aload_n 0, 1) := dk_42 (dk_at dksX5_go_1 11 rfl rfl)
theorem dX5_go_34 : decode cX5_go 34 = .ok (.aload_n 0, 1) := dk_42 (dk_at dksX5_go_1 12 rfl rfl)
theorem dX5_go_35 : decode cX5_go 35 = .ok (.getfield 28, 3) := dk_180 0 28 (dk_at dksX5_go_1 13 rfl rfl)
theorem dX5_go_38 : decode cX5_go 38 = .ok (.putfield 43, 3) := dk_181 0 43 (dk_at dksX5_go_1 16 rfl rfl)
theorem dX5_go_41 : decode cX5_go 41 = .ok (.aload_n 0, 1) := dk_42 (dk_at dksX5_go_1 19 rfl rfl)
theorem dX5_go_42 : decode cX5_go 42 = .ok (.iconst 0, 1) := dk_3 (dk_at dksX5_go_1 20 rfl rfl)
theorem dX5_go_43 : decode cX5_go 43 = .ok (.invokevirtual 39, 3) := dk_182 0 39 (dk_at dksX5_go_1 21 rfl rfl)
theorem dX5_go_46 : decode cX5_go 46 = .ok (.istore_n 1, 1) := dk_60 (dk_at dksX5_go_2 0 rfl rfl)
theorem dX5_go_47 : decode cX5_go 47 = .ok (.iconst 0, 1) := dk_3 (dk_at dksX5_go_2 1 rfl rfl)
theorem dX5_go_48 : decode cX5_go 48 = .ok (.istore_n 2, 1) := dk_61 (dk_at dksX5_go_2 2 rfl rfl)
theorem dX5_go_49 : decode cX5_go 49 = .ok (.aload_n 0, 1) := dk_42 (dk_at dksX5_go_2 3 rfl rfl)
theorem dX5_go_50 : decode cX5_go 50 = .ok (.iconst 3, 1) := dk_6 (dk_at dksX5_go_2 4 rfl rfl)
theorem dX5_go_51 : decode cX5_go 51 = .ok (.putfield 46, 3) := dk_181 0 46 (dk_at dksX5_go_2 5 rfl rfl)
theorem dX5_go_54 : decode cX5_go 54 = .ok (.iload_n 1, 1) := dk_27 (dk_at dksX5_go_2 8 rfl rfl)
theorem dX5_go_55 : decode cX5_go 55 = .ok (.ifCond .ge 11, 3) := dk_156 0 11 (dk_at dksX5_go_2 9 rfl rfl)
theorem dX5_go_58 : decode cX5_go 58 = .ok (.aload_n 0, 1) := dk_42 (dk_at dksX5_go_2 12 rfl rfl)
theorem dX5_go_59 : decode cX5_go 59 = .ok (.iconst 0, 1) := dk_3 (dk_at dksX5_go_2 13 rfl rfl)
theorem dX5_go_60 : decode cX5_go 60 = .ok (.putfield 46, 3) := dk_181 0 46 (dk_at dksX5_go_2 14 rfl rfl)
theorem dX5_go_63 : decode cX5_go 63 = .ok (.goto 163, 3) := dk_167 0 163 (dk_at dksX5_go_2 17 rfl rfl)
theorem dX5_go_66 : decode cX5_go 66 = .ok (.aload_n 0, 1) := dk_42 (dk_at dksX5_go_2 20 rfl rfl)
theorem dX5_go_67 : decode cX5_go 67 = .ok (.iconst 0, 1) := dk_3 (dk_at dksX5_go_2 21 rfl rfl)
theorem dX5_go_68 : decode cX5_go 68 = .ok (.invokevirtual 49, 3) := dk_182 0 49 (dk_at dksX5_go_3 0 rfl rfl)
theorem dX5_go_71 : decode cX5_go 71 = .ok (.ifCond .eq 67, 3) := dk_153 0 67 (dk_at dksX5_go_3 3 rfl rfl)
theorem dX5_go_74 : decode cX5_go 74 = .ok (.new 53, 3) := dk_187 0 53 (dk_at dksX5_go_3 6 rfl rfl)
theorem dX5_go_77 : decode cX5_go 77 = .ok (.dup, 1) := dk_89 (dk_at dksX5_go_3 9 rfl rfl)
theorem dX5_go_78 : decode cX5_go 78 = .ok (.bipush 8, 2) := dk_16 8 (dk_at dksX5_go_3 10 rfl rfl)
theorem dX5_go_80 : decode cX5_go 80 = .ok (.invokespecial 55, 3) := dk_183 0 55 (dk_at dksX5_go_3 12 rfl rfl)
theorem dX5_go_83 : decode cX5_go 83 = .ok (.astore_n 3, 1) := dk_78 (dk_at dksX5_go_3 15 rfl rfl)
theorem dX5_go_84 : decode cX5_go 84 = .ok (.aload_n 0, 1) := dk_42 (dk_at dksX5_go_3 16 rfl rfl)
theorem dX5_go_85 : decode cX5_go 85 = .ok (.iload_n 2, 1) := dk_28 (dk_at dksX5_go_3 17 rfl rfl)
theorem dX5_go_86 : decode cX5_go 86 = .ok (.invokevirtual 49, 3) := dk_182 0 49 (dk_at dksX5_go_3 18 rfl rfl)
theorem dX5_go_89 : decode cX5_go 89 = .ok (.ifCond .eq 26, 3) := dk_153 0 26 (dk_at dksX5_go_3 21 rfl rfl)
theorem dX5_go_92 : decode cX5_go 92 = .ok (.iload_n 2, 1) := dk_28 (dk_at dksX5_go_4 0 rfl rfl)
theorem dX5_go_93 : decode cX5_go 93 = .ok (.bipush 8, 2) := dk_16 8 (dk_at dksX5_go_4 1 rfl rfl)
theorem dX5_go_95 : decode cX5_go 95 = .ok (.if_icmp .ge 14, 3) := dk_162 0 14 (dk_at dksX5_go_4 3 rfl rfl)
theorem dX5_go_98 : decode cX5_go 98 = .ok (.aload_n 3, 1) := dk_45 (dk_at dksX5_go_4 6 rfl rfl)
theorem dX5_go_99 : decode cX5_go 99 = .ok (.aload_n 0, 1) := dk_42 (dk_at dksX5_go_4 7 rfl rfl)
theorem dX5_go_100 : decode cX5_go 100 = .ok (.iload_n 2, 1) := dk_28 (dk_at dksX5_go_4 8 rfl rfl)
theorem dX5_go_101 : decode cX5_go 101 = .ok (.invokevirtual 39, 3) := dk_182 0 39 (dk_at dksX5_go_4 9 rfl rfl)
theorem dX5_go_104 : decode cX5_go 104 = .ok (.i2c, 1) := dk_146 (dk_at dksX5_go_4 12 rfl rfl)
theorem dX5_go_105 : decode cX5_go 105 = .ok (.invokevirtual 58, 3) := dk_182 0 58 (dk_at dksX5_go_4 13 rfl rfl)
theorem dX5_go_108 : decode cX5_go 108 = .ok (.pop, 1) := dk_87 (dk_at dksX5_go_4 16 rfl rfl)
theorem dX5_go_109 : decode cX5_go 109 = .ok (.iinc 2 1, 3) := dk_132 2 1 (dk_at dksX5_go_4 17 rfl rfl)
theorem dX5_go_112 : decode cX5_go 112 = .ok (.goto (-28), 3) := dk_167 255 228 (dk_at dksX5_go_4 20 rfl rfl)
theorem dX5_go_115 : decode cX5_go 115 = .ok (.iload_n 2, 1) := dk_28 (dk_at dksX5_go_4 23 rfl rfl)
theorem dX5_go_116 : decode cX5_go 116 = .ok (.bipush 8, 2) := dk_16 8 (dk_at dksX5_go_5 0 rfl rfl)
theorem dX5_go_118 : decode cX5_go 118 = .ok (.if_icmp .le 4, 3) := dk_164 0 4 (dk_at dksX5_go_5 2 rfl rfl)
theorem dX5_go_121 : decode cX5_go 121 = .ok (.return_, 1) := dk_177 (dk_at dksX5_go_5 5 rfl rfl)
theorem dX5_go_122 : decode cX5_go 122 = .ok (.aload_n 0, 1) := dk_42 (dk_at dksX5_go_5 6 rfl rfl)
theorem dX5_go_123 : decode cX5_go 123 = .ok (.aload_n 3, 1) := dk_45 (dk_at dksX5_go_5 7 rfl rfl)
theorem dX5_go_124 : decode cX5_go 124 = .ok (.invokevirtual 62, 3) := dk_182 0 62 (dk_at dksX5_go_5 8 rfl rfl)
theorem dX5_go_127 : decode cX5_go 127 = .ok (.putfield 17, 3) := dk_181 0 17 (dk_at dksX5_go_5 11 rfl rfl)
theorem dX5_go_130 : decode cX5_go 130 = .ok (.aload_n 0, 1) := dk_42 (dk_at dksX5_go_5 14 rfl rfl)
theorem dX5_go_131 : decode cX5_go 131 = .ok (.iconst 1, 1) := dk_4 (dk_at dksX5_go_5 15 rfl rfl)
theorem dX5_go_132 : decode cX5_go 132 = .ok (.putfield 46, 3) := dk_181 0 46 (dk_at dksX5_go_5 16 rfl rfl)
theorem dX5_go_135 : decode cX5_go 135 = .ok (.goto 91, 3) := dk_167 0 91 (dk_at dksX5_go_5 19 rfl rfl)
theorem dX5_go_138 : decode cX5_go 138 = .ok (.aload_n 0, 1) := dk_42 (dk_at dksX5_go_5 22 rfl rfl)
theorem dX5_go_139 : decode cX5_go 139 = .ok (.iconst 0, 1) := dk_3 (dk_at dksX5_go_5 23 rfl rfl)
theorem dX5_go_140 : decode cX5_go 140 = .ok (.invokevirtual 66, 3) := dk_182 0 66 (dk_at dksX5_go_6 0 rfl rfl)
theorem dX5_go_143 : decode cX5_go 143 = .ok (.ifCond .eq 69, 3) := dk_153 0 69 (dk_at dksX5_go_6 3 rfl rfl)
theorem dX5_go_146 : decode cX5_go 146 = .ok (.aload_n 0, 1) := dk_42 (dk_at dksX5_go_6 6 rfl rfl)
theorem dX5_go_147 : decode cX5_go 147 = .ok (.iconst 0, 1) := dk_3 (dk_at dksX5_go_6 7 rfl rfl)
theorem dX5_go_148 : decode cX5_go 148 = .ok (.putfield 69, 3) := dk_181 0 69 (dk_at dksX5_go_6 8 rfl rfl)
theorem dX5_go_151 : decode cX5_go 151 = .ok (.aload_n 0, 1) := dk_42 (dk_at dksX5_go_6 11 rfl rfl)
theorem dX5_go_152 : decode cX5_go 152 = .ok (.iload_n 2, 1) := dk_28 (dk_at dksX5_go_6 12 rfl rfl)
theorem dX5_go_153 : decode cX5_go 153 = .ok (.invokevirtual 66, 3) := dk_182 0 66 (dk_at dksX5_go_6 13 rfl rfl)
theorem dX5_go_156 : decode cX5_go 156 = .ok (.ifCond .eq 34, 3) := dk_153 0 34 (dk_at dksX5_go_6 16 rfl rfl)
theorem dX5_go_159 : decode cX5_go 159 = .ok (.iload_n 2, 1) := dk_28 (dk_at dksX5_go_6 19 rfl rfl)
theorem dX5_go_160 : decode cX5_go 160 = .ok (.iconst 4, 1) := dk_7 (dk_at dksX5_go_6 20 rfl rfl)
theorem dX5_go_161 : decode cX5_go 161 = .ok (.if_icmp .ge 23, 3) := dk_162 0 23 (dk_at dksX5_go_6 21 rfl rfl)
theorem dX5_go_164 : decode cX5_go 164 = .ok (.aload_n 0, 1) := dk_42 (dk_at dksX5_go_7 0 rfl rfl)
theorem dX5_go_165 : decode cX5_go 165 = .ok (.bipush 10, 2) := dk_16 10 (dk_at dksX5_go_7 1 rfl rfl)
theorem dX5_go_167 : decode cX5_go 167 = .ok (.aload_n 0, 1) := dk_42 (dk_at dksX5_go_7 3 rfl rfl)
theorem dX5_go_168 : decode cX5_go 168 = .ok (.getfield 69, 3) := dk_180 0 69 (dk_at dksX5_go_7 4 rfl rfl)
theorem dX5_go_171 : decode cX5_go 171 = .ok (.imul, 1) := dk_104 (dk_at dksX5_go_7 7 rfl rfl)
theorem dX5_go_172 : decode cX5_go 172 = .ok (.aload_n 0, 1) := dk_42 (dk_at dksX5_go_7 8 rfl rfl)
theorem dX5_go_173 : decode cX5_go 173 = .ok (.iload_n 2, 1) := dk_28 (dk_at dksX5_go_7 9 rfl rfl)
theorem dX5_go_174 : decode cX5_go 174 = .ok (.invokevirtual 39, 3) := dk_182 0 39 (dk_at dksX5_go_7 10 rfl rfl)
theorem dX5_go_177 : decode cX5_go 177 = .ok (.iadd, 1) := dk_96 (dk_at dksX5_go_7 13 rfl rfl)
theorem dX5_go_178 : decode cX5_go 178 = .ok (.bipush 48, 2) := dk_16 48 (dk_at dksX5_go_7 14 rfl rfl)
theorem dX5_go_180 : decode cX5_go 180 = .ok (.isub, 1) := dk_100 (dk_at dksX5_go_7 16 rfl rfl)
theorem dX5_go_181 : decode cX5_go 181 = .ok (.putfield 69, 3) := dk_181 0 69 (dk_at dksX5_go_7 17 rfl rfl)
theorem dX5_go_184 : decode cX5_go 184 = .ok (.iinc 2 1, 3) := dk_132 2 1 (dk_at dksX5_go_7 20 rfl rfl)
theorem dX5_go_187 : decode cX5_go 187 = .ok (.goto (-36), 3) := dk_167 255 220 (dk_at dksX5_go_8 0 rfl rfl)
theorem dX5_go_190 : decode cX5_go 190 = .ok (.iload_n 2, 1) := dk_28 (dk_at dksX5_go_8 3 rfl rfl)
theorem dX5_go_191 : decode cX5_go 191 = .ok (.iconst 4, 1) := dk_7 (dk_at dksX5_go_8 4 rfl rfl)
theorem dX5_go_192 : decode cX5_go 192 = .ok (.if_icmp .gt 11, 3) := dk_163 0 11 (dk_at dksX5_go_8 5 rfl rfl)
theorem dX5_go_195 : decode cX5_go 195 = .ok (.aload_n 0, 1) := dk_42 (dk_at dksX5_go_8 8 rfl rfl)
theorem dX5_go_196 : decode cX5_go 196 = .ok (.iload_n 2, 1) := dk_28 (dk_at dksX5_go_8 9 rfl rfl)
theorem dX5_go_197 : decode cX5_go 197 = .ok (.invokevirtual 49, 3) := dk_182 0 49 (dk_at dksX5_go_8 10 rfl rfl)
theorem dX5_go_200 : decode cX5_go 200 = .ok (.ifCond .eq 4, 3) := dk_153 0 4 (dk_at dksX5_go_8 13 rfl rfl)
theorem dX5_go_203 : decode cX5_go 203 = .ok (.return_, 1) := dk_177 (dk_at dksX5_go_8 16 rfl rfl)
theorem dX5_go_204 : decode cX5_go 204 = .ok (.aload_n 0, 1) := dk_42 (dk_at dksX5_go_8 17 rfl rfl)
theorem dX5_go_205 : decode cX5_go 205 = .ok (.iconst 2, 1) := dk_5 (dk_at dksX5_go_8 18 rfl rfl)
theorem dX5_go_206 : decode cX5_go 206 = .ok (.putfield 46, 3) := dk_181 0 46 (dk_at dksX5_go_8 19 rfl rfl)
theorem dX5_go_209 : decode cX5_go 209 = .ok (.goto 17, 3) := dk_167 0 17 (dk_at dksX5_go_9 0 rfl rfl)
theorem dX5_go_212 : decode cX5_go 212 = .ok (.iload_n 1, 1) := dk_27 (dk_at dksX5_go_9 3 rfl rfl)
theorem dX5_go_213 : decode cX5_go 213 = .ok (.invokestatic 72, 3) := dk_184 0 72 (dk_at dksX5_go_9 4 rfl rfl)
theorem dX5_go_216 : decode cX5_go 216 = .ok (.ifCond .eq 10, 3) := dk_153 0 10 (dk_at dksX5_go_9 7 rfl rfl)
theorem dX5_go_219 : decode cX5_go 219 = .ok (.aload_n 0, 1) := dk_42 (dk_at dksX5_go_9 10 rfl rfl)
theorem dX5_go_220 : decode cX5_go 220 = .ok (.iload_n 1, 1) := dk_27 (dk_at dksX5_go_9 11 rfl rfl)
theorem dX5_go_221 : decode cX5_go 221 = .ok (.putfield 46, 3) := dk_181 0 46 (dk_at dksX5_go_9 12 rfl rfl)
theorem dX5_go_224 : decode cX5_go 224 = .ok (.iconst 1, 1) := dk_4 (dk_at dksX5_go_9 15 rfl rfl)
theorem dX5_go_225 : decode cX5_go 225 = .ok (.istore_n 2, 1) := dk_61 (dk_at dksX5_go_9 16 rfl rfl)
theorem dX5_go_226 : decode cX5_go 226 = .ok (.aload_n 0, 1) := dk_42 (dk_at dksX5_go_9 17 rfl rfl)
theorem dX5_go_227 : decode cX5_go 227 = .ok (.dup, 1) := dk_89 (dk_at dksX5_go_9 18 rfl rfl)
theorem dX5_go_228 : decode cX5_go 228 = .ok (.getfield 28, 3) := dk_180 0 28 (dk_at dksX5_go_9 19 rfl rfl)
theorem dX5_go_231 : decode cX5_go 231 = .ok (.iload_n 2, 1) := dk_28 (dk_at dksX5_go_9 22 rfl rfl)
theorem dX5_go_232 : decode cX5_go 232 = .ok (.iadd, 1) := dk_96 (dk_at dksX5_go_9 23 rfl rfl)
theorem dX5_go_233 : decode cX5_go 233 = .ok (.putfield 28, 3) := dk_181 0 28 (dk_at dksX5_go_10 0 rfl rfl)
theorem dX5_go_236 : decode cX5_go 236 = .ok (.return_, 1) := dk_177 (dk_at dksX5_go_10 3 rfl rfl)
abbrev cX5_here : ByteArray := prog_17_method_2_code
def yX5_here : MethodName := ⟨RX5, "here", "(I)I"⟩
def dkwX5_here_1 : List UInt8 := [180, 0, 28, 27, 96, 51, 17, 0, 255, 126, 167, 0, 4, 2, 172]
abbrev dktX5_here_1 : List UInt8 := dkwX5_here_1 ++ []
def dkwX5_here_0 : List UInt8 := [42, 180, 0, 28, 27, 96, 42, 180, 0, 3, 180, 0, 32, 162, 0, 24, 42, 180, 0, 3, 180, 0, 35, 42]
abbrev dktX5_here_0 : List UInt8 := dkwX5_here_0 ++ dktX5_here_1
theorem dksX5_here_0 : cX5_here.data.toList.drop 0 = dktX5_here_0 := by decide +kernel
theorem dksX5_here_1 : cX5_here.data.toList.drop 24 = dktX5_here_1 := dk_seg dksX5_here_0 24 rfl rfl
theorem dX5_here_0 : decode cX5_here 0 = .ok (.aload_n 0, 1) := dk_42 (dk_at dksX5_here_0 0 rfl rfl)
theorem dX5_here_1 : decode cX5_here 1 = .ok (.getfield 28, 3) := dk_180 0 28 (dk_at dksX5_here_0 1 rfl rfl)
theorem dX5_here_4 : decode cX5_here 4 = .ok (.iload_n 1, 1) := dk_27 (dk_at dksX5_here_0 4 rfl rfl)
theorem dX5_here_5 : decode cX5_here 5 = .ok (.iadd, 1) := dk_96 (dk_at dksX5_here_0 5 rfl rfl)
theorem dX5_here_6 : decode cX5_here 6 = .ok (.aload_n 0, 1) := dk_42 (dk_at dksX5_here_0 6 rfl rfl)
theorem dX5_here_7 : decode cX5_here 7 = .ok (.getfield 3, 3) := dk_180 0 3 (dk_at dksX5_here_0 7 rfl rfl)
theorem dX5_here_10 : decode cX5_here 10 = .ok (.getfield 32, 3) := dk_180 0 32 (dk_at dksX5_here_0 10 rfl rfl)
theorem dX5_here_13 : decode cX5_here 13 = .ok (.if_icmp .ge 24, 3) := dk_162 0 24 (dk_at dksX5_here_0 13 rfl rfl)
theorem dX5_here_16 : decode cX5_here 16 = .ok (.aload_n 0, 1) := dk_42 (dk_at dksX5_here_0 16 rfl rfl)
theorem dX5_here_17 : decode cX5_here 17 = .ok (.getfield 3, 3) := dk_180 0 3 (dk_at dksX5_here_0 17 rfl rfl)
theorem dX5_here_20 : decode cX5_here 20 = .ok (.getfield 35, 3) := dk_180 0 35 (dk_at dksX5_here_0 20 rfl rfl)
theorem dX5_here_23 : decode cX5_here 23 = .ok (.aload_n 0, 1) := dk_42 (dk_at dksX5_here_0 23 rfl rfl)
theorem dX5_here_24 : decode cX5_here 24 = .ok (.getfield 28, 3) := dk_180 0 28 (dk_at dksX5_here_1 0 rfl rfl)
theorem dX5_here_27 : decode cX5_here 27 = .ok (.iload_n 1, 1) := dk_27 (dk_at dksX5_here_1 3 rfl rfl)
theorem dX5_here_28 : decode cX5_here 28 = .ok (.iadd, 1) := dk_96 (dk_at dksX5_here_1 4 rfl rfl)
theorem dX5_here_29 : decode cX5_here 29 = .ok (.baload, 1) := dk_51 (dk_at dksX5_here_1 5 rfl rfl)
theorem dX5_here_30 : decode cX5_here 30 = .ok (.sipush 255, 3) := dk_17 0 255 (dk_at dksX5_here_1 6 rfl rfl)
theorem dX5_here_33 : decode cX5_here 33 = .ok (.iand, 1) := dk_126 (dk_at dksX5_here_1 9 rfl rfl)
theorem dX5_here_34 : decode cX5_here 34 = .ok (.goto 4, 3) := dk_167 0 4 (dk_at dksX5_here_1 10 rfl rfl)
theorem dX5_here_37 : decode cX5_here 37 = .ok (.iconst (-1), 1) := dk_2 (dk_at dksX5_here_1 13 rfl rfl)
theorem dX5_here_38 : decode cX5_here 38 = .ok (.ireturn, 1) := dk_172 (dk_at dksX5_here_1 14 rfl rfl)
abbrev cX5_isLetter : ByteArray := prog_17_method_3_code
def yX5_isLetter : MethodName := ⟨RX5, "isLetter", "(I)Z"⟩
def dkwX5_isLetter_1 : List UInt8 := [3, 172]
abbrev dktX5_isLetter_1 : List UInt8 := dkwX5_isLetter_1 ++ []
def dkwX5_isLetter_0 : List UInt8 := [42, 27, 182, 0, 39, 16, 97, 161, 0, 17, 42, 27, 182, 0, 39, 16, 122, 163, 0, 7, 4, 167, 0, 4]
abbrev dktX5_isLetter_0 : List UInt8 := dkwX5_isLetter_0 ++ dktX5_isLetter_1
theorem dksX5_isLetter_0 : cX5_isLetter.data.toList.drop 0 = dktX5_isLetter_0 := by decide +kernel
theorem dksX5_isLetter_1 : cX5_isLetter.data.toList.drop 24 = dktX5_isLetter_1 := dk_seg dksX5_isLetter_0 24 rfl rfl
theorem dX5_isLetter_0 : decode cX5_isLetter 0 = .ok (.aload_n 0, 1) := dk_42 (dk_at dksX5_isLetter_0 0 rfl rfl)
theorem dX5_isLetter_1 : decode cX5_isLetter 1 = .ok (.iload_n 1, 1) := dk_27 (dk_at dksX5_isLetter_0 1 rfl rfl)
theorem dX5_isLetter_2 : decode cX5_isLetter 2 = .ok (.invokevirtual 39, 3) := dk_182 0 39 (dk_at dksX5_isLetter_0 2 rfl rfl)
theorem dX5_isLetter_5 : decode cX5_isLetter 5 = .ok (.bipush 97, 2) := dk_16 97 (dk_at dksX5_isLetter_0 5 rfl rfl)
theorem dX5_isLetter_7 : decode cX5_isLetter 7 = .ok (.if_icmp .lt 17, 3) := dk_161 0 17 (dk_at dksX5_isLetter_0 7 rfl rfl)
theorem dX5_isLetter_10 : decode cX5_isLetter 10 = .ok (.aload_n 0, 1) := dk_42 (dk_at dksX5_isLetter_0 10 rfl rfl)
theorem dX5_isLetter_11 : decode cX5_isLetter 11 = .ok (.iload_n 1, 1) := dk_27 (dk_at dksX5_isLetter_0 11 rfl rfl)
theorem dX5_isLetter_12 : decode cX5_isLetter 12 = .ok (.invokevirtual 39, 3) := dk_182 0 39 (dk_at dksX5_isLetter_0 12 rfl rfl)
theorem dX5_isLetter_15 : decode cX5_isLetter 15 = .ok (.bipush 122, 2) := dk_16 122 (dk_at dksX5_isLetter_0 15 rfl rfl)
theorem dX5_isLetter_17 : decode cX5_isLetter 17 = .ok (.if_icmp .gt 7, 3) := dk_163 0 7 (dk_at dksX5_isLetter_0 17 rfl rfl)
theorem dX5_isLetter_20 : decode cX5_isLetter 20 = .ok (.iconst 1, 1) := dk_4 (dk_at dksX5_isLetter_0 20 rfl rfl)
theorem dX5_isLetter_21 : decode cX5_isLetter 21 = .ok (.goto 4, 3) := dk_167 0 4 (dk_at dksX5_isLetter_0 21 rfl rfl)
theorem dX5_isLetter_24 : decode cX5_isLetter 24 = .ok (.iconst 0, 1) := dk_3 (dk_at dksX5_isLetter_1 0 rfl rfl)
theorem dX5_isLetter_25 : decode cX5_isLetter 25 = .ok (.ireturn, 1) := dk_172 (dk_at dksX5_isLetter_1 1 rfl rfl)
abbrev cX5_isDigit : ByteArray := prog_17_method_4_code
def yX5_isDigit : MethodName := ⟨RX5, "isDigit", "(I)Z"⟩
def dkwX5_isDigit_1 : List UInt8 := [3, 172]
abbrev dktX5_isDigit_1 : List UInt8 := dkwX5_isDigit_1 ++ []
def dkwX5_isDigit_0 : List UInt8 := [42, 27, 182, 0, 39, 16, 48, 161, 0, 17, 42, 27, 182, 0, 39, 16, 57, 163, 0, 7, 4, 167, 0, 4]
abbrev dktX5_isDigit_0 : List UInt8 := dkwX5_isDigit_0 ++ dktX5_isDigit_1
theorem dksX5_isDigit_0 : cX5_isDigit.data.toList.drop 0 = dktX5_isDigit_0 := by decide +kernel
theorem dksX5_isDigit_1 : cX5_isDigit.data.toList.drop 24 = dktX5_isDigit_1 := dk_seg dksX5_isDigit_0 24 rfl rfl
theorem dX5_isDigit_0 : decode cX5_isDigit 0 = .ok (.aload_n 0, 1) := dk_42 (dk_at dksX5_isDigit_0 0 rfl rfl)
theorem dX5_isDigit_1 : decode cX5_isDigit 1 = .ok (.iload_n 1, 1) := dk_27 (dk_at dksX5_isDigit_0 1 rfl rfl)
theorem dX5_isDigit_2 : decode cX5_isDigit 2 = .ok (.invokevirtual 39, 3) := dk_182 0 39 (dk_at dksX5_isDigit_0 2 rfl rfl)
theorem dX5_isDigit_5 : decode cX5_isDigit 5 = .ok (.bipush 48, 2) := dk_16 48 (dk_at dksX5_isDigit_0 5 rfl rfl)
theorem dX5_isDigit_7 : decode cX5_isDigit 7 = .ok (.if_icmp .lt 17, 3) := dk_161 0 17 (dk_at dksX5_isDigit_0 7 rfl rfl)
theorem dX5_isDigit_10 : decode cX5_isDigit 10 = .ok (.aload_n 0, 1) := dk_42 (dk_at dksX5_isDigit_0 10 rfl rfl)
theorem dX5_isDigit_11 : decode cX5_isDigit 11 = .ok (.iload_n 1, 1) := dk_27 (dk_at dksX5_isDigit_0 11 rfl rfl)
theorem dX5_isDigit_12 : decode cX5_isDigit 12 = .ok (.invokevirtual 39, 3) := dk_182 0 39 (dk_at dksX5_isDigit_0 12 rfl rfl)
theorem dX5_isDigit_15 : decode cX5_isDigit 15 = .ok (.bipush 57, 2) := dk_16 57 (dk_at dksX5_isDigit_0 15 rfl rfl)
theorem dX5_isDigit_17 : decode cX5_isDigit 17 = .ok (.if_icmp .gt 7, 3) := dk_163 0 7 (dk_at dksX5_isDigit_0 17 rfl rfl)
theorem dX5_isDigit_20 : decode cX5_isDigit 20 = .ok (.iconst 1, 1) := dk_4 (dk_at dksX5_isDigit_0 20 rfl rfl)
theorem dX5_isDigit_21 : decode cX5_isDigit 21 = .ok (.goto 4, 3) := dk_167 0 4 (dk_at dksX5_isDigit_0 21 rfl rfl)
theorem dX5_isDigit_24 : decode cX5_isDigit 24 = .ok (.iconst 0, 1) := dk_3 (dk_at dksX5_isDigit_1 0 rfl rfl)
theorem dX5_isDigit_25 : decode cX5_isDigit 25 = .ok (.ireturn, 1) := dk_172 (dk_at dksX5_isDigit_1 1 rfl rfl)
abbrev cX5_isSign : ByteArray := prog_17_method_5_code
def yX5_isSign : MethodName := ⟨RX5, "isSign", "(I)Z"⟩
def dkwX5_isSign_2 : List UInt8 := [26, 16, 42, 159, 0, 15, 26, 16, 47, 159, 0, 9, 26, 16, 37, 160, 0, 7, 4, 167, 0, 4, 3, 172]
abbrev dktX5_isSign_2 : List UInt8 := dkwX5_isSign_2 ++ []
def dkwX5_isSign_1 : List UInt8 := [26, 16, 62, 159, 0, 39, 26, 16, 61, 159, 0, 33, 26, 16, 43, 159, 0, 27, 26, 16, 45, 159, 0, 21]
abbrev dktX5_isSign_1 : List UInt8 := dkwX5_isSign_1 ++ dktX5_isSign_2
def dkwX5_isSign_0 : List UInt8 := [26, 16, 59, 159, 0, 63, 26, 16, 40, 159, 0, 57, 26, 16, 41, 159, 0, 51, 26, 16, 60, 159, 0, 45]
abbrev dktX5_isSign_0 : List UInt8 := dkwX5_isSign_0 ++ dktX5_isSign_1
theorem dksX5_isSign_0 : cX5_isSign.data.toList.drop 0 = dktX5_isSign_0 := by decide +kernel
theorem dksX5_isSign_1 : cX5_isSign.data.toList.drop 24 = dktX5_isSign_1 := dk_seg dksX5_isSign_0 24 rfl rfl
theorem dksX5_isSign_2 : cX5_isSign.data.toList.drop 48 = dktX5_isSign_2 := dk_seg dksX5_isSign_1 24 rfl rfl
theorem dX5_isSign_0 : decode cX5_isSign 0 = .ok (.iload_n 0, 1) := dk_26 (dk_at dksX5_isSign_0 0 rfl rfl)
theorem dX5_isSign_1 : decode cX5_isSign 1 = .ok (.bipush 59, 2) := dk_16 59 (dk_at dksX5_isSign_0 1 rfl rfl)
theorem dX5_isSign_3 : decode cX5_isSign 3 = .ok (.if_icmp .eq 63, 3) := dk_159 0 63 (dk_at dksX5_isSign_0 3 rfl rfl)
theorem dX5_isSign_6 : decode cX5_isSign 6 = .ok (.iload_n 0, 1) := dk_26 (dk_at dksX5_isSign_0 6 rfl rfl)
theorem dX5_isSign_7 : decode cX5_isSign 7 = .ok (.bipush 40, 2) := dk_16 40 (dk_at dksX5_isSign_0 7 rfl rfl)
theorem dX5_isSign_9 : decode cX5_isSign 9 = .ok (.if_icmp .eq 57, 3) := dk_159 0 57 (dk_at dksX5_isSign_0 9 rfl rfl)
theorem dX5_isSign_12 : decode cX5_isSign 12 = .ok (.iload_n 0, 1) := dk_26 (dk_at dksX5_isSign_0 12 rfl rfl)
theorem dX5_isSign_13 : decode cX5_isSign 13 = .ok (.bipush 41, 2) := dk_16 41 (dk_at dksX5_isSign_0 13 rfl rfl)
theorem dX5_isSign_15 : decode cX5_isSign 15 = .ok (.if_icmp .eq 51, 3) := dk_159 0 51 (dk_at dksX5_isSign_0 15 rfl rfl)
theorem dX5_isSign_18 : decode cX5_isSign 18 = .ok (.iload_n 0, 1) := dk_26 (dk_at dksX5_isSign_0 18 rfl rfl)
theorem dX5_isSign_19 : decode cX5_isSign 19 = .ok (.bipush 60, 2) := dk_16 60 (dk_at dksX5_isSign_0 19 rfl rfl)
theorem dX5_isSign_21 : decode cX5_isSign 21 = .ok (.if_icmp .eq 45, 3) := dk_159 0 45 (dk_at dksX5_isSign_0 21 rfl rfl)
theorem dX5_isSign_24 : decode cX5_isSign 24 = .ok (.iload_n 0, 1) := dk_26 (dk_at dksX5_isSign_1 0 rfl rfl)
theorem dX5_isSign_25 : decode cX5_isSign 25 = .ok (.bipush 62, 2) := dk_16 62 (dk_at dksX5_isSign_1 1 rfl rfl)
theorem dX5_isSign_27 : decode cX5_isSign 27 = .ok (.if_icmp .eq 39, 3) := dk_159 0 39 (dk_at dksX5_isSign_1 3 rfl rfl)
theorem dX5_isSign_30 : decode cX5_isSign 30 = .ok (.iload_n 0, 1) := dk_26 (dk_at dksX5_isSign_1 6 rfl rfl)
theorem dX5_isSign_31 : decode cX5_isSign 31 = .ok (.bipush 61, 2) := dk_16 61 (dk_at dksX5_isSign_1 7 rfl rfl)
theorem dX5_isSign_33 : decode cX5_isSign 33 = .ok (.if_icmp .eq 33, 3) := dk_159 0 33 (dk_at dksX5_isSign_1 9 rfl rfl)
theorem dX5_isSign_36 : decode cX5_isSign 36 = .ok (.iload_n 0, 1) := dk_26 (dk_at dksX5_isSign_1 12 rfl rfl)
theorem dX5_isSign_37 : decode cX5_isSign 37 = .ok (.bipush 43, 2) := dk_16 43 (dk_at dksX5_isSign_1 13 rfl rfl)
theorem dX5_isSign_39 : decode cX5_isSign 39 = .ok (.if_icmp .eq 27, 3) := dk_159 0 27 (dk_at dksX5_isSign_1 15 rfl rfl)
theorem dX5_isSign_42 : decode cX5_isSign 42 = .ok (.iload_n 0, 1) := dk_26 (dk_at dksX5_isSign_1 18 rfl rfl)
theorem dX5_isSign_43 : decode cX5_isSign 43 = .ok (.bipush 45, 2) := dk_16 45 (dk_at dksX5_isSign_1 19 rfl rfl)
theorem dX5_isSign_45 : decode cX5_isSign 45 = .ok (.if_icmp .eq 21, 3) := dk_159 0 21 (dk_at dksX5_isSign_1 21 rfl rfl)
theorem dX5_isSign_48 : decode cX5_isSign 48 = .ok (.iload_n 0, 1) := dk_26 (dk_at dksX5_isSign_2 0 rfl rfl)
theorem dX5_isSign_49 : decode cX5_isSign 49 = .ok (.bipush 42, 2) := dk_16 42 (dk_at dksX5_isSign_2 1 rfl rfl)
theorem dX5_isSign_51 : decode cX5_isSign 51 = .ok (.if_icmp .eq 15, 3) := dk_159 0 15 (dk_at dksX5_isSign_2 3 rfl rfl)
theorem dX5_isSign_54 : decode cX5_isSign 54 = .ok (.iload_n 0, 1) := dk_26 (dk_at dksX5_isSign_2 6 rfl rfl)
theorem dX5_isSign_55 : decode cX5_isSign 55 = .ok (.bipush 47, 2) := dk_16 47 (dk_at dksX5_isSign_2 7 rfl rfl)
theorem dX5_isSign_57 : decode cX5_isSign 57 = .ok (.if_icmp .eq 9, 3) := dk_159 0 9 (dk_at dksX5_isSign_2 9 rfl rfl)
theorem dX5_isSign_60 : decode cX5_isSign 60 = .ok (.iload_n 0, 1) := dk_26 (dk_at dksX5_isSign_2 12 rfl rfl)
theorem dX5_isSign_61 : decode cX5_isSign 61 = .ok (.bipush 37, 2) := dk_16 37 (dk_at dksX5_isSign_2 13 rfl rfl)
theorem dX5_isSign_63 : decode cX5_isSign 63 = .ok (.if_icmp .ne 7, 3) := dk_160 0 7 (dk_at dksX5_isSign_2 15 rfl rfl)
theorem dX5_isSign_66 : decode cX5_isSign 66 = .ok (.iconst 1, 1) := dk_4 (dk_at dksX5_isSign_2 18 rfl rfl)
theorem dX5_isSign_67 : decode cX5_isSign 67 = .ok (.goto 4, 3) := dk_167 0 4 (dk_at dksX5_isSign_2 19 rfl rfl)
theorem dX5_isSign_70 : decode cX5_isSign 70 = .ok (.iconst 0, 1) := dk_3 (dk_at dksX5_isSign_2 22 rfl rfl)
theorem dX5_isSign_71 : decode cX5_isSign 71 = .ok (.ireturn, 1) := dk_172 (dk_at dksX5_isSign_2 23 rfl rfl)
abbrev cX5_line : ByteArray := prog_17_method_17_code
def yX5_line : MethodName := ⟨RX5, "line", "()V"⟩
def dkwX5_line_8 : List UInt8 := [182, 0, 202, 167, 0, 8, 42, 182, 0, 96, 191, 177]
abbrev dktX5_line_8 : List UInt8 := dkwX5_line_8 ++ []
def dkwX5_line_7 : List UInt8 := [182, 0, 197, 167, 0, 31, 42, 18, 131, 182, 0, 86, 153, 0, 17, 42, 180, 0, 199, 154, 0, 10, 42]
abbrev dktX5_line_7 : List UInt8 := dkwX5_line_7 ++ dktX5_line_8
def dkwX5_line_6 : List UInt8 := [182, 0, 191, 167, 0, 54, 42, 18, 129, 182, 0, 86, 153, 0, 17, 42, 180, 0, 193, 154, 0, 10, 42]
abbrev dktX5_line_6 : List UInt8 := dkwX5_line_6 ++ dktX5_line_7
def dkwX5_line_5 : List UInt8 := [167, 0, 80, 42, 18, 127, 182, 0, 86, 153, 0, 20, 42, 180, 0, 24, 180, 0, 188, 199, 0, 10, 42]
abbrev dktX5_line_5 : List UInt8 := dkwX5_line_5 ++ dktX5_line_6
def dkwX5_line_4 : List UInt8 := [153, 0, 25, 42, 180, 0, 24, 180, 0, 183, 182, 0, 162, 16, 10, 162, 0, 10, 42, 182, 0, 186]
abbrev dktX5_line_4 : List UInt8 := dkwX5_line_4 ++ dktX5_line_5
def dkwX5_line_3 : List UInt8 := [180, 0, 169, 182, 0, 174, 183, 0, 178, 182, 0, 180, 87, 167, 0, 111, 42, 18, 117, 182, 0, 86]
abbrev dktX5_line_3 : List UInt8 := dkwX5_line_3 ++ dktX5_line_4
def dkwX5_line_2 : List UInt8 := [182, 0, 162, 8, 162, 0, 35, 42, 180, 0, 24, 180, 0, 169, 187, 0, 172, 89, 42, 42, 180, 0, 24]
abbrev dktX5_line_2 : List UInt8 := dkwX5_line_2 ++ dktX5_line_3
def dkwX5_line_1 : List UInt8 := [42, 182, 0, 167, 167, 0, 166, 42, 18, 115, 182, 0, 86, 153, 0, 49, 42, 180, 0, 24, 180, 0, 169]
abbrev dktX5_line_1 : List UInt8 := dkwX5_line_1 ++ dktX5_line_2
def dkwX5_line_0 : List UInt8 := [42, 18, 111, 182, 0, 86, 153, 0, 25, 42, 180, 0, 24, 180, 0, 158, 182, 0, 162, 16, 6, 162, 0, 10]
abbrev dktX5_line_0 : List UInt8 := dkwX5_line_0 ++ dktX5_line_1
theorem dksX5_line_0 : cX5_line.data.toList.drop 0 = dktX5_line_0 := by decide +kernel
theorem dksX5_line_1 : cX5_line.data.toList.drop 24 = dktX5_line_1 := dk_seg dksX5_line_0 24 rfl rfl
theorem dksX5_line_2 : cX5_line.data.toList.drop 47 = dktX5_line_2 := dk_seg dksX5_line_1 23 rfl rfl
theorem dksX5_line_3 : cX5_line.data.toList.drop 70 = dktX5_line_3 := dk_seg dksX5_line_2 23 rfl rfl
theorem dksX5_line_4 : cX5_line.data.toList.drop 92 = dktX5_line_4 := dk_seg dksX5_line_3 22 rfl rfl
theorem dksX5_line_5 : cX5_line.data.toList.drop 114 = dktX5_line_5 := dk_seg dksX5_line_4 22 rfl rfl
theorem dksX5_line_6 : cX5_line.data.toList.drop 137 = dktX5_line_6 := dk_seg dksX5_line_5 23 rfl rfl
theorem dksX5_line_7 : cX5_line.data.toList.drop 160 = dktX5_line_7 := dk_seg dksX5_line_6 23 rfl rfl
theorem dksX5_line_8 : cX5_line.data.toList.drop 183 = dktX5_line_8 := dk_seg dksX5_line_7 23 rfl rfl
theorem dX5_line_0 : decode cX5_line 0 = .ok (.aload_n 0, 1) := dk_42 (dk_at dksX5_line_0 0 rfl rfl)
theorem dX5_line_1 : decode cX5_line 1 = .ok (.ldc 111, 2) := dk_18 111 (dk_at dksX5_line_0 1 rfl rfl)
theorem dX5_line_3 : decode cX5_line 3 = .ok (.invokevirtual 86, 3) := dk_182 0 86 (dk_at dksX5_line_0 3 rfl rfl)
theorem dX5_line_6 : decode cX5_line 6 = .ok (.ifCond .eq 25, 3) := dk_153 0 25 (dk_at dksX5_line_0 6 rfl rfl)
theorem dX5_line_9 : decode cX5_line 9 = .ok (.aload_n 0, 1) := dk_42 (dk_at dksX5_line_0 9 rfl rfl)
theorem dX5_line_10 : decode cX5_line 10 = .ok (.getfield 24, 3) := dk_180 0 24 (dk_at dksX5_line_0 10 rfl rfl)
theorem dX5_line_13 : decode cX5_line 13 = .ok (.getfield 158, 3) := dk_180 0 158 (dk_at dksX5_line_0 13 rfl rfl)
theorem dX5_line_16 : decode cX5_line 16 = .ok (.invokevirtual 162, 3) := dk_182 0 162 (dk_at dksX5_line_0 16 rfl rfl)
theorem dX5_line_19 : decode cX5_line 19 = .ok (.bipush 6, 2) := dk_16 6 (dk_at dksX5_line_0 19 rfl rfl)
theorem dX5_line_21 : decode cX5_line 21 = .ok (.if_icmp .ge 10, 3) := dk_162 0 10 (dk_at dksX5_line_0 21 rfl rfl)
theorem dX5_line_24 : decode cX5_line 24 = .ok (.aload_n 0, 1) := dk_42 (dk_at dksX5_line_1 0 rfl rfl)
theorem dX5_line_25 : decode cX5_line 25 = .ok (.invokevirtual 167, 3) := dk_182 0 167 (dk_at dksX5_line_1 1 rfl rfl)
theorem dX5_line_28 : decode cX5_line 28 = .ok (.goto 166, 3) := dk_167 0 166 (dk_at dksX5_line_1 4 rfl rfl)
theorem dX5_line_31 : decode cX5_line 31 = .ok (.aload_n 0, 1) := dk_42 (dk_at dksX5_line_1 7 rfl rfl)
theorem dX5_line_32 : decode cX5_line 32 = .ok (.ldc 115, 2) := dk_18 115 (dk_at dksX5_line_1 8 rfl rfl)
theorem dX5_line_34 : decode cX5_line 34 = .ok (.invokevirtual 86, 3) := dk_182 0 86 (dk_at dksX5_line_1 10 rfl rfl)
theorem dX5_line_37 : decode cX5_line 37 = .ok (.ifCond .eq 49, 3) := dk_153 0 49 (dk_at dksX5_line_1 13 rfl rfl)
theorem dX5_line_40 : decode cX5_line 40 = .ok (.aload_n 0, 1) := dk_42 (dk_at dksX5_line_1 16 rfl rfl)
theorem dX5_line_41 : decode cX5_line 41 = .ok (.getfield 24, 3) := dk_180 0 24 (dk_at dksX5_line_1 17 rfl rfl)
theorem dX5_line_44 : decode cX5_line 44 = .ok (.getfield 169, 3) := dk_180 0 169 (dk_at dksX5_line_1 20 rfl rfl)
theorem dX5_line_47 : decode cX5_line 47 = .ok (.invokevirtual 162, 3) := dk_182 0 162 (dk_at dksX5_line_2 0 rfl rfl)
theorem dX5_line_50 : decode cX5_line 50 = .ok (.iconst 5, 1) := dk_8 (dk_at dksX5_line_2 3 rfl rfl)
theorem dX5_line_51 : decode cX5_line 51 = .ok (.if_icmp .ge 35, 3) := dk_162 0 35 (dk_at dksX5_line_2 4 rfl rfl)
theorem dX5_line_54 : decode cX5_line 54 = .ok (.aload_n 0, 1) := dk_42 (dk_at dksX5_line_2 7 rfl rfl)
theorem dX5_line_55 : decode cX5_line 55 = .ok (.getfield 24, 3) := dk_180 0 24 (dk_at dksX5_line_2 8 rfl rfl)
theorem dX5_line_58 : decode cX5_line 58 = .ok (.getfield 169, 3) := dk_180 0 169 (dk_at dksX5_line_2 11 rfl rfl)
theorem dX5_line_61 : decode cX5_line 61 = .ok (.new 172, 3) := dk_187 0 172 (dk_at dksX5_line_2 14 rfl rfl)
theorem dX5_line_64 : decode cX5_line 64 = .ok (.dup, 1) := dk_89 (dk_at dksX5_line_2 17 rfl rfl)
theorem dX5_line_65 : decode cX5_line 65 = .ok (.aload_n 0, 1) := dk_42 (dk_at dksX5_line_2 18 rfl rfl)
theorem dX5_line_66 : decode cX5_line 66 = .ok (.aload_n 0, 1) := dk_42 (dk_at dksX5_line_2 19 rfl rfl)
theorem dX5_line_67 : decode cX5_line 67 = .ok (.getfield 24, 3) := dk_180 0 24 (dk_at dksX5_line_2 20 rfl rfl)
theorem dX5_line_70 : decode cX5_line 70 = .ok (.getfield 169, 3) := dk_180 0 169 (dk_at dksX5_line_3 0 rfl rfl)
theorem dX5_line_73 : decode cX5_line 73 = .ok (.invokevirtual 174, 3) := dk_182 0 174 (dk_at dksX5_line_3 3 rfl rfl)
theorem dX5_line_76 : decode cX5_line 76 = .ok (.invokespecial 178, 3) := dk_183 0 178 (dk_at dksX5_line_3 6 rfl rfl)
theorem dX5_line_79 : decode cX5_line 79 = .ok (.invokevirtual 180, 3) := dk_182 0 180 (dk_at dksX5_line_3 9 rfl rfl)
theorem dX5_line_82 : decode cX5_line 82 = .ok (.pop, 1) := dk_87 (dk_at dksX5_line_3 12 rfl rfl)
theorem dX5_line_83 : decode cX5_line 83 = .ok (.goto 111, 3) := dk_167 0 111 (dk_at dksX5_line_3 13 rfl rfl)
theorem dX5_line_86 : decode cX5_line 86 = .ok (.aload_n 0, 1) := dk_42 (dk_at dksX5_line_3 16 rfl rfl)
theorem dX5_line_87 : decode cX5_line 87 = .ok (.ldc 117, 2) := dk_18 117 (dk_at dksX5_line_3 17 rfl rfl)
theorem dX5_line_89 : decode cX5_line 89 = .ok (.invokevirtual 86, 3) := dk_182 0 86 (dk_at dksX5_line_3 19 rfl rfl)
theorem dX5_line_92 : decode cX5_line 92 = .ok (.ifCond .eq 25, 3) := dk_153 0 25 (dk_at dksX5_line_4 0 rfl rfl)
theorem dX5_line_95 : decode cX5_line 95 = .ok (.aload_n 0, 1) := dk_42 (dk_at dksX5_line_4 3 rfl rfl)
theorem dX5_line_96 : decode cX5_line 96 = .ok (.getfield 24, 3) := dk_180 0 24 (dk_at dksX5_line_4 4 rfl rfl)
theorem dX5_line_99 : decode cX5_line 99 = .ok (.getfield 183, 3) := dk_180 0 183 (dk_at dksX5_line_4 7 rfl rfl)
theorem dX5_line_102 : decode cX5_line 102 = .ok (.invokevirtual 162, 3) := dk_182 0 162 (dk_at dksX5_line_4 10 rfl rfl)
theorem dX5_line_105 : decode cX5_line 105 = .ok (.bipush 10, 2) := dk_16 10 (dk_at dksX5_line_4 13 rfl rfl)
theorem dX5_line_107 : decode cX5_line 107 = .ok (.if_icmp .ge 10, 3) := dk_162 0 10 (dk_at dksX5_line_4 15 rfl rfl)
theorem dX5_line_110 : decode cX5_line 110 = .ok (.aload_n 0, 1) := dk_42 (dk_at dksX5_line_4 18 rfl rfl)
theorem dX5_line_111 : decode cX5_line 111 = .ok (.invokevirtual 186, 3) := dk_182 0 186 (dk_at dksX5_line_4 19 rfl rfl)
theorem dX5_line_114 : decode cX5_line 114 = .ok (.goto 80, 3) := dk_167 0 80 (dk_at dksX5_line_5 0 rfl rfl)
theorem dX5_line_117 : decode cX5_line 117 = .ok (.aload_n 0, 1) := dk_42 (dk_at dksX5_line_5 3 rfl rfl)
theorem dX5_line_118 : decode cX5_line 118 = .ok (.ldc 127, 2) := dk_18 127 (dk_at dksX5_line_5 4 rfl rfl)
theorem dX5_line_120 : decode cX5_line 120 = .ok (.invokevirtual 86, 3) := dk_182 0 86 (dk_at dksX5_line_5 6 rfl rfl)
theorem dX5_line_123 : decode cX5_line 123 = .ok (.ifCond .eq 20, 3) := dk_153 0 20 (dk_at dksX5_line_5 9 rfl rfl)
theorem dX5_line_126 : decode cX5_line 126 = .ok (.aload_n 0, 1) := dk_42 (dk_at dksX5_line_5 12 rfl rfl)
theorem dX5_line_127 : decode cX5_line 127 = .ok (.getfield 24, 3) := dk_180 0 24 (dk_at dksX5_line_5 13 rfl rfl)
theorem dX5_line_130 : decode cX5_line 130 = .ok (.getfield 188, 3) := dk_180 0 188 (dk_at dksX5_line_5 16 rfl rfl)
theorem dX5_line_133 : decode cX5_line 133 = .ok (.ifnonnull 10, 3) := dk_199 0 10 (dk_at dksX5_line_5 19 rfl rfl)
theorem dX5_line_136 : decode cX5_line 136 = .ok (.aload_n 0, 1) := dk_42 (dk_at dksX5_line_5 22 rfl rfl)
theorem dX5_line_137 : decode cX5_line 137 = .ok (.invokevirtual 191, 3) := dk_182 0 191 (dk_at dksX5_line_6 0 rfl rfl)
theorem dX5_line_140 : decode cX5_line 140 = .ok (.goto 54, 3) := dk_167 0 54 (dk_at dksX5_line_6 3 rfl rfl)
theorem dX5_line_143 : decode cX5_line 143 = .ok (.aload_n 0, 1) := dk_42 (dk_at dksX5_line_6 6 rfl rfl)
theorem dX5_line_144 : decode cX5_line 144 = .ok (.ldc 129, 2) := dk_18 129 (dk_at dksX5_line_6 7 rfl rfl)
theorem dX5_line_146 : decode cX5_line 146 = .ok (.invokevirtual 86, 3) := dk_182 0 86 (dk_at dksX5_line_6 9 rfl rfl)
theorem dX5_line_149 : decode cX5_line 149 = .ok (.ifCond .eq 17, 3) := dk_153 0 17 (dk_at dksX5_line_6 12 rfl rfl)
theorem dX5_line_152 : decode cX5_line 152 = .ok (.aload_n 0, 1) := dk_42 (dk_at dksX5_line_6 15 rfl rfl)
theorem dX5_line_153 : decode cX5_line 153 = .ok (.getfield 193, 3) := dk_180 0 193 (dk_at dksX5_line_6 16 rfl rfl)
theorem dX5_line_156 : decode cX5_line 156 = .ok (.ifCond .ne 10, 3) := dk_154 0 10 (dk_at dksX5_line_6 19 rfl rfl)
theorem dX5_line_159 : decode cX5_line 159 = .ok (.aload_n 0, 1) := dk_42 (dk_at dksX5_line_6 22 rfl rfl)
theorem dX5_line_160 : decode cX5_line 160 = .ok (.invokevirtual 197, 3) := dk_182 0 197 (dk_at dksX5_line_7 0 rfl rfl)
theorem dX5_line_163 : decode cX5_line 163 = .ok (.goto 31, 3) := dk_167 0 31 (dk_at dksX5_line_7 3 rfl rfl)
theorem dX5_line_166 : decode cX5_line 166 = .ok (.aload_n 0, 1) := dk_42 (dk_at dksX5_line_7 6 rfl rfl)
theorem dX5_line_167 : decode cX5_line 167 = .ok (.ldc 131, 2) := dk_18 131 (dk_at dksX5_line_7 7 rfl rfl)
theorem dX5_line_169 : decode cX5_line 169 = .ok (.invokevirtual 86, 3) := dk_182 0 86 (dk_at dksX5_line_7 9 rfl rfl)
theorem dX5_line_172 : decode cX5_line 172 = .ok (.ifCond .eq 17, 3) := dk_153 0 17 (dk_at dksX5_line_7 12 rfl rfl)
theorem dX5_line_175 : decode cX5_line 175 = .ok (.aload_n 0, 1) := dk_42 (dk_at dksX5_line_7 15 rfl rfl)
theorem dX5_line_176 : decode cX5_line 176 = .ok (.getfield 199, 3) := dk_180 0 199 (dk_at dksX5_line_7 16 rfl rfl)
theorem dX5_line_179 : decode cX5_line 179 = .ok (.ifCond .ne 10, 3) := dk_154 0 10 (dk_at dksX5_line_7 19 rfl rfl)
theorem dX5_line_182 : decode cX5_line 182 = .ok (.aload_n 0, 1) := dk_42 (dk_at dksX5_line_7 22 rfl rfl)
theorem dX5_line_183 : decode cX5_line 183 = .ok (.invokevirtual 202, 3) := dk_182 0 202 (dk_at dksX5_line_8 0 rfl rfl)
theorem dX5_line_186 : decode cX5_line 186 = .ok (.goto 8, 3) := dk_167 0 8 (dk_at dksX5_line_8 3 rfl rfl)
theorem dX5_line_189 : decode cX5_line 189 = .ok (.aload_n 0, 1) := dk_42 (dk_at dksX5_line_8 6 rfl rfl)
theorem dX5_line_190 : decode cX5_line 190 = .ok (.invokevirtual 96, 3) := dk_182 0 96 (dk_at dksX5_line_8 7 rfl rfl)
theorem dX5_line_193 : decode cX5_line 193 = .ok (.athrow, 1) := dk_191 (dk_at dksX5_line_8 10 rfl rfl)
theorem dX5_line_194 : decode cX5_line 194 = .ok (.return_, 1) := dk_177 (dk_at dksX5_line_8 11 rfl rfl)
abbrev cX5_is : ByteArray := prog_17_method_8_code
def yX5_is : MethodName := ⟨RX5, "is", "(Ljava/lang/String;)Z"⟩
def dkwX5_is_1 : List UInt8 := [172]
abbrev dktX5_is_1 : List UInt8 := dkwX5_is_1 ++ []
def dkwX5_is_0 : List UInt8 := [42, 180, 0, 46, 4, 160, 0, 18, 42, 180, 0, 17, 43, 182, 0, 80, 153, 0, 7, 4, 167, 0, 4, 3]
abbrev dktX5_is_0 : List UInt8 := dkwX5_is_0 ++ dktX5_is_1
theorem dksX5_is_0 : cX5_is.data.toList.drop 0 = dktX5_is_0 := by decide +kernel
theorem dksX5_is_1 : cX5_is.data.toList.drop 24 = dktX5_is_1 := dk_seg dksX5_is_0 24 rfl rfl
theorem dX5_is_0 : decode cX5_is 0 = .ok (.aload_n 0, 1) := dk_42 (dk_at dksX5_is_0 0 rfl rfl)
theorem dX5_is_1 : decode cX5_is 1 = .ok (.getfield 46, 3) := dk_180 0 46 (dk_at dksX5_is_0 1 rfl rfl)
theorem dX5_is_4 : decode cX5_is 4 = .ok (.iconst 1, 1) := dk_4 (dk_at dksX5_is_0 4 rfl rfl)
theorem dX5_is_5 : decode cX5_is 5 = .ok (.if_icmp .ne 18, 3) := dk_160 0 18 (dk_at dksX5_is_0 5 rfl rfl)
theorem dX5_is_8 : decode cX5_is 8 = .ok (.aload_n 0, 1) := dk_42 (dk_at dksX5_is_0 8 rfl rfl)
theorem dX5_is_9 : decode cX5_is 9 = .ok (.getfield 17, 3) := dk_180 0 17 (dk_at dksX5_is_0 9 rfl rfl)
theorem dX5_is_12 : decode cX5_is 12 = .ok (.aload_n 1, 1) := dk_43 (dk_at dksX5_is_0 12 rfl rfl)
theorem dX5_is_13 : decode cX5_is 13 = .ok (.invokevirtual 80, 3) := dk_182 0 80 (dk_at dksX5_is_0 13 rfl rfl)
theorem dX5_is_16 : decode cX5_is 16 = .ok (.ifCond .eq 7, 3) := dk_153 0 7 (dk_at dksX5_is_0 16 rfl rfl)
theorem dX5_is_19 : decode cX5_is 19 = .ok (.iconst 1, 1) := dk_4 (dk_at dksX5_is_0 19 rfl rfl)
theorem dX5_is_20 : decode cX5_is 20 = .ok (.goto 4, 3) := dk_167 0 4 (dk_at dksX5_is_0 20 rfl rfl)
theorem dX5_is_23 : decode cX5_is 23 = .ok (.iconst 0, 1) := dk_3 (dk_at dksX5_is_0 23 rfl rfl)
theorem dX5_is_24 : decode cX5_is 24 = .ok (.ireturn, 1) := dk_172 (dk_at dksX5_is_1 0 rfl rfl)
abbrev cX5_person : ByteArray := prog_17_method_18_code
def yX5_person : MethodName := ⟨RX5, "person", "()V"⟩
def dkwX5_person_2 : List UInt8 := [180, 0, 158, 43, 182, 0, 180, 87, 177]
abbrev dktX5_person_2 : List UInt8 := dkwX5_person_2 ++ []
def dkwX5_person_1 : List UInt8 := [182, 0, 86, 153, 0, 16, 43, 42, 18, 113, 3, 16, 9, 182, 0, 207, 181, 0, 211, 42, 180, 0, 24]
abbrev dktX5_person_1 : List UInt8 := dkwX5_person_1 ++ dktX5_person_2
def dkwX5_person_0 : List UInt8 := [187, 0, 204, 89, 42, 42, 180, 0, 24, 180, 0, 158, 182, 0, 174, 183, 0, 206, 76, 42, 18, 113]
abbrev dktX5_person_0 : List UInt8 := dkwX5_person_0 ++ dktX5_person_1
theorem dksX5_person_0 : cX5_person.data.toList.drop 0 = dktX5_person_0 := by decide +kernel
theorem dksX5_person_1 : cX5_person.data.toList.drop 22 = dktX5_person_1 := dk_seg dksX5_person_0 22 rfl rfl
theorem dksX5_person_2 : cX5_person.data.toList.drop 45 = dktX5_person_2 := dk_seg dksX5_person_1 23 rfl rfl
theorem dX5_person_0 : decode cX5_person 0 = .ok (.new 204, 3) := dk_187 0 204 (dk_at dksX5_person_0 0 rfl rfl)
theorem dX5_person_3 : decode cX5_person 3 = .ok (.dup, 1) := dk_89 (dk_at dksX5_person_0 3 rfl rfl)
theorem dX5_person_4 : decode cX5_person 4 = .ok (.aload_n 0, 1) := dk_42 (dk_at dksX5_person_0 4 rfl rfl)
theorem dX5_person_5 : decode cX5_person 5 = .ok (.aload_n 0, 1) := dk_42 (dk_at dksX5_person_0 5 rfl rfl)
theorem dX5_person_6 : decode cX5_person 6 = .ok (.getfield 24, 3) := dk_180 0 24 (dk_at dksX5_person_0 6 rfl rfl)
theorem dX5_person_9 : decode cX5_person 9 = .ok (.getfield 158, 3) := dk_180 0 158 (dk_at dksX5_person_0 9 rfl rfl)
theorem dX5_person_12 : decode cX5_person 12 = .ok (.invokevirtual 174, 3) := dk_182 0 174 (dk_at dksX5_person_0 12 rfl rfl)
theorem dX5_person_15 : decode cX5_person 15 = .ok (.invokespecial 206, 3) := dk_183 0 206 (dk_at dksX5_person_0 15 rfl rfl)
theorem dX5_person_18 : decode cX5_person 18 = .ok (.astore_n 1, 1) := dk_76 (dk_at dksX5_person_0 18 rfl rfl)
theorem dX5_person_19 : decode cX5_person 19 = .ok (.aload_n 0, 1) := dk_42 (dk_at dksX5_person_0 19 rfl rfl)
theorem dX5_person_20 : decode cX5_person 20 = .ok (.ldc 113, 2) := dk_18 113 (dk_at dksX5_person_0 20 rfl rfl)
theorem dX5_person_22 : decode cX5_person 22 = .ok (.invokevirtual 86, 3) := dk_182 0 86 (dk_at dksX5_person_1 0 rfl rfl)
theorem dX5_person_25 : decode cX5_person 25 = .ok (.ifCond .eq 16, 3) := dk_153 0 16 (dk_at dksX5_person_1 3 rfl rfl)
theorem dX5_person_28 : decode cX5_person 28 = .ok (.aload_n 1, 1) := dk_43 (dk_at dksX5_person_1 6 rfl rfl)
theorem dX5_person_29 : decode cX5_person 29 = .ok (.aload_n 0, 1) := dk_42 (dk_at dksX5_person_1 7 rfl rfl)
theorem dX5_person_30 : decode cX5_person 30 = .ok (.ldc 113, 2) := dk_18 113 (dk_at dksX5_person_1 8 rfl rfl)
theorem dX5_person_32 : decode cX5_person 32 = .ok (.iconst 0, 1) := dk_3 (dk_at dksX5_person_1 10 rfl rfl)
theorem dX5_person_33 : decode cX5_person 33 = .ok (.bipush 9, 2) := dk_16 9 (dk_at dksX5_person_1 11 rfl rfl)
theorem dX5_person_35 : decode cX5_person 35 = .ok (.invokevirtual 207, 3) := dk_182 0 207 (dk_at dksX5_person_1 13 rfl rfl)
theorem dX5_person_38 : decode cX5_person 38 = .ok (.putfield 211, 3) := dk_181 0 211 (dk_at dksX5_person_1 16 rfl rfl)
theorem dX5_person_41 : decode cX5_person 41 = .ok (.aload_n 0, 1) := dk_42 (dk_at dksX5_person_1 19 rfl rfl)
theorem dX5_person_42 : decode cX5_person 42 = .ok (.getfield 24, 3) := dk_180 0 24 (dk_at dksX5_person_1 20 rfl rfl)
theorem dX5_person_45 : decode cX5_person 45 = .ok (.getfield 158, 3) := dk_180 0 158 (dk_at dksX5_person_2 0 rfl rfl)
theorem dX5_person_48 : decode cX5_person 48 = .ok (.aload_n 1, 1) := dk_43 (dk_at dksX5_person_2 3 rfl rfl)
theorem dX5_person_49 : decode cX5_person 49 = .ok (.invokevirtual 180, 3) := dk_182 0 180 (dk_at dksX5_person_2 4 rfl rfl)
theorem dX5_person_52 : decode cX5_person 52 = .ok (.pop, 1) := dk_87 (dk_at dksX5_person_2 7 rfl rfl)
theorem dX5_person_53 : decode cX5_person 53 = .ok (.return_, 1) := dk_177 (dk_at dksX5_person_2 8 rfl rfl)
abbrev cX5_newName : ByteArray := prog_17_method_14_code
def yX5_newName : MethodName := ⟨RX5, "newName", "(Ljava/util/ArrayList;)Ljava/lang/String;"⟩
def dkwX5_newName_2 : List UInt8 := [182, 0, 90, 44, 176]
abbrev dktX5_newName_2 : List UInt8 := dkwX5_newName_2 ++ []
def dkwX5_newName_1 : List UInt8 := [155, 0, 16, 187, 0, 75, 89, 6, 42, 180, 0, 43, 183, 0, 77, 191, 42, 180, 0, 17, 77, 42]
abbrev dktX5_newName_1 : List UInt8 := dkwX5_newName_1 ++ dktX5_newName_2
def dkwX5_newName_0 : List UInt8 := [42, 182, 0, 90, 42, 182, 0, 147, 154, 0, 8, 42, 182, 0, 96, 191, 43, 42, 180, 0, 17, 184, 0, 151]
abbrev dktX5_newName_0 : List UInt8 := dkwX5_newName_0 ++ dktX5_newName_1
theorem dksX5_newName_0 : cX5_newName.data.toList.drop 0 = dktX5_newName_0 := by decide +kernel
theorem dksX5_newName_1 : cX5_newName.data.toList.drop 24 = dktX5_newName_1 := dk_seg dksX5_newName_0 24 rfl rfl
theorem dksX5_newName_2 : cX5_newName.data.toList.drop 46 = dktX5_newName_2 := dk_seg dksX5_newName_1 22 rfl rfl
theorem dX5_newName_0 : decode cX5_newName 0 = .ok (.aload_n 0, 1) := dk_42 (dk_at dksX5_newName_0 0 rfl rfl)
theorem dX5_newName_1 : decode cX5_newName 1 = .ok (.invokevirtual 90, 3) := dk_182 0 90 (dk_at dksX5_newName_0 1 rfl rfl)
theorem dX5_newName_4 : decode cX5_newName 4 = .ok (.aload_n 0, 1) := dk_42 (dk_at dksX5_newName_0 4 rfl rfl)
theorem dX5_newName_5 : decode cX5_newName 5 = .ok (.invokevirtual 147, 3) := dk_182 0 147 (dk_at dksX5_newName_0 5 rfl rfl)
theorem dX5_newName_8 : decode cX5_newName 8 = .ok (.ifCond .ne 8, 3) := dk_154 0 8 (dk_at dksX5_newName_0 8 rfl rfl)
theorem dX5_newName_11 : decode cX5_newName 11 = .ok (.aload_n 0, 1) := dk_42 (dk_at dksX5_newName_0 11 rfl rfl)
theorem dX5_newName_12 : decode cX5_newName 12 = .ok (.invokevirtual 96, 3) := dk_182 0 96 (dk_at dksX5_newName_0 12 rfl rfl)
theorem dX5_newName_15 : decode cX5_newName 15 = .ok (.athrow, 1) := dk_191 (dk_at dksX5_newName_0 15 rfl rfl)
theorem dX5_newName_16 : decode cX5_newName 16 = .ok (.aload_n 1, 1) := dk_43 (dk_at dksX5_newName_0 16 rfl rfl)
theorem dX5_newName_17 : decode cX5_newName 17 = .ok (.aload_n 0, 1) := dk_42 (dk_at dksX5_newName_0 17 rfl rfl)
theorem dX5_newName_18 : decode cX5_newName 18 = .ok (.getfield 17, 3) := dk_180 0 17 (dk_at dksX5_newName_0 18 rfl rfl)
theorem dX5_newName_21 : decode cX5_newName 21 = .ok (.invokestatic 151, 3) := dk_184 0 151 (dk_at dksX5_newName_0 21 rfl rfl)
theorem dX5_newName_24 : decode cX5_newName 24 = .ok (.ifCond .lt 16, 3) := dk_155 0 16 (dk_at dksX5_newName_1 0 rfl rfl)
theorem dX5_newName_27 : decode cX5_newName 27 = .ok (.new 75, 3) := dk_187 0 75 (dk_at dksX5_newName_1 3 rfl rfl)
theorem dX5_newName_30 : decode cX5_newName 30 = .ok (.dup, 1) := dk_89 (dk_at dksX5_newName_1 6 rfl rfl)
theorem dX5_newName_31 : decode cX5_newName 31 = .ok (.iconst 3, 1) := dk_6 (dk_at dksX5_newName_1 7 rfl rfl)
theorem dX5_newName_32 : decode cX5_newName 32 = .ok (.aload_n 0, 1) := dk_42 (dk_at dksX5_newName_1 8 rfl rfl)
theorem dX5_newName_33 : decode cX5_newName 33 = .ok (.getfield 43, 3) := dk_180 0 43 (dk_at dksX5_newName_1 9 rfl rfl)
theorem dX5_newName_36 : decode cX5_newName 36 = .ok (.invokespecial 77, 3) := dk_183 0 77 (dk_at dksX5_newName_1 12 rfl rfl)
theorem dX5_newName_39 : decode cX5_newName 39 = .ok (.athrow, 1) := dk_191 (dk_at dksX5_newName_1 15 rfl rfl)
theorem dX5_newName_40 : decode cX5_newName 40 = .ok (.aload_n 0, 1) := dk_42 (dk_at dksX5_newName_1 16 rfl rfl)
theorem dX5_newName_41 : decode cX5_newName 41 = .ok (.getfield 17, 3) := dk_180 0 17 (dk_at dksX5_newName_1 17 rfl rfl)
theorem dX5_newName_44 : decode cX5_newName 44 = .ok (.astore_n 2, 1) := dk_77 (dk_at dksX5_newName_1 20 rfl rfl)
theorem dX5_newName_45 : decode cX5_newName 45 = .ok (.aload_n 0, 1) := dk_42 (dk_at dksX5_newName_1 21 rfl rfl)
theorem dX5_newName_46 : decode cX5_newName 46 = .ok (.invokevirtual 90, 3) := dk_182 0 90 (dk_at dksX5_newName_2 0 rfl rfl)
theorem dX5_newName_49 : decode cX5_newName 49 = .ok (.aload_n 2, 1) := dk_44 (dk_at dksX5_newName_2 3 rfl rfl)
theorem dX5_newName_50 : decode cX5_newName 50 = .ok (.areturn, 1) := dk_176 (dk_at dksX5_newName_2 4 rfl rfl)
abbrev cX5_isName : ByteArray := prog_17_method_13_code
def yX5_isName : MethodName := ⟨RX5, "isName", "()Z"⟩
def dkwX5_isName_15 : List UInt8 := [3, 172, 4, 172]
abbrev dktX5_isName_15 : List UInt8 := dkwX5_isName_15 ++ []
def dkwX5_isName_14 : List UInt8 := [170, 0, 0, 0, 0, 88, 0, 0, 0, 0, 0, 0, 0, 17, 0, 0, 0, 86, 0, 0, 0, 86, 0, 0, 0, 86, 0, 0, 0, 86, 0, 0, 0, 86, 0, 0, 0, 86, 0, 0, 0, 86, 0, 0, 0, 86, 0, 0, 0, 86, 0, 0, 0, 86, 0, 0, 0, 86, 0, 0, 0, 86, 0, 0, 0, 86, 0, 0, 0, 86, 0, 0, 0, 86, 0, 0, 0, 86, 0, 0, 0, 86, 0, 0, 0, 86]
abbrev dktX5_isName_14 : List UInt8 := dkwX5_isName_14 ++ dktX5_isName_15
def dkwX5_isName_13 : List UInt8 := [28]
abbrev dktX5_isName_13 : List UInt8 := dkwX5_isName_13 ++ dktX5_isName_14
def dkwX5_isName_12 : List UInt8 := [182, 0, 80, 153, 0, 21, 16, 16, 61, 167, 0, 15, 43, 18, 145, 182, 0, 80, 153, 0, 6, 16, 17, 61]
abbrev dktX5_isName_12 : List UInt8 := dkwX5_isName_12 ++ dktX5_isName_13
def dkwX5_isName_11 : List UInt8 := [16, 14, 61, 167, 0, 45, 43, 18, 141, 182, 0, 80, 153, 0, 36, 16, 15, 61, 167, 0, 30, 43, 18, 143]
abbrev dktX5_isName_11 : List UInt8 := dkwX5_isName_11 ++ dktX5_isName_12
def dkwX5_isName_10 : List UInt8 := [43, 18, 137, 182, 0, 80, 153, 0, 66, 16, 13, 61, 167, 0, 60, 43, 18, 139, 182, 0, 80, 153, 0, 51]
abbrev dktX5_isName_10 : List UInt8 := dkwX5_isName_10 ++ dktX5_isName_11
def dkwX5_isName_9 : List UInt8 := [153, 0, 96, 16, 11, 61, 167, 0, 90, 43, 18, 135, 182, 0, 80, 153, 0, 81, 16, 12, 61, 167, 0, 75]
abbrev dktX5_isName_9 : List UInt8 := dkwX5_isName_9 ++ dktX5_isName_10
def dkwX5_isName_8 : List UInt8 := [167, 0, 120, 43, 18, 131, 182, 0, 80, 153, 0, 111, 16, 10, 61, 167, 0, 105, 43, 18, 133, 182, 0, 80]
abbrev dktX5_isName_8 : List UInt8 := dkwX5_isName_8 ++ dktX5_isName_9
def dkwX5_isName_7 : List UInt8 := [182, 0, 80, 153, 0, 141, 16, 8, 61, 167, 0, 135, 43, 18, 129, 182, 0, 80, 153, 0, 126, 16, 9, 61]
abbrev dktX5_isName_7 : List UInt8 := dkwX5_isName_7 ++ dktX5_isName_8
def dkwX5_isName_6 : List UInt8 := [61, 167, 0, 165, 43, 18, 125, 182, 0, 80, 153, 0, 156, 16, 7, 61, 167, 0, 150, 43, 18, 127]
abbrev dktX5_isName_6 : List UInt8 := dkwX5_isName_6 ++ dktX5_isName_7
def dkwX5_isName_5 : List UInt8 := [18, 121, 182, 0, 80, 153, 0, 185, 8, 61, 167, 0, 180, 43, 18, 123, 182, 0, 80, 153, 0, 171, 16, 6]
abbrev dktX5_isName_5 : List UInt8 := dkwX5_isName_5 ++ dktX5_isName_6
def dkwX5_isName_4 : List UInt8 := [153, 0, 213, 6, 61, 167, 0, 208, 43, 18, 119, 182, 0, 80, 153, 0, 199, 7, 61, 167, 0, 194, 43]
abbrev dktX5_isName_4 : List UInt8 := dkwX5_isName_4 ++ dktX5_isName_5
def dkwX5_isName_3 : List UInt8 := [61, 167, 0, 236, 43, 18, 115, 182, 0, 80, 153, 0, 227, 5, 61, 167, 0, 222, 43, 18, 117, 182, 0, 80]
abbrev dktX5_isName_3 : List UInt8 := dkwX5_isName_3 ++ dktX5_isName_4
def dkwX5_isName_2 : List UInt8 := [43, 18, 111, 182, 0, 80, 153, 0, 255, 3, 61, 167, 0, 250, 43, 18, 113, 182, 0, 80, 153, 0, 241, 4]
abbrev dktX5_isName_2 : List UInt8 := dkwX5_isName_2 ++ dktX5_isName_3
def dkwX5_isName_1 : List UInt8 := [171, 0, 0, 0, 0, 1, 160, 0, 0, 0, 18, 175, 66, 224, 27, 0, 0, 1, 103, 182, 61, 217, 135, 0, 0, 1, 73, 182, 99, 141, 155, 0, 0, 1, 58, 196, 227, 155, 85, 0, 0, 0, 155, 202, 122, 220, 166, 0, 0, 1, 28, 0, 0, 12, 87, 0, 0, 0, 211, 0, 0, 13, 37, 0, 0, 0, 254, 0, 0, 13, 227, 0, 0, 1, 133, 0, 0, 14, 123, 0, 0, 0, 225, 0, 1, 121, 215, 0, 0, 1, 118, 0, 1, 148, 77, 0, 0, 0, 239, 0, 1, 170, 211, 0, 0, 1, 148, 0, 1, 188, 196, 0, 0, 0, 169, 0, 47, 45, 68, 0, 0, 1, 43, 0, 48, 205, 240, 0, 0, 1, 88, 0, 53, 191, 54, 0, 0, 0, 183, 0, 53, 191, 233, 0, 0, 1, 13, 6, 147, 132, 238, 0, 0, 0, 197]
abbrev dktX5_isName_1 : List UInt8 := dkwX5_isName_1 ++ dktX5_isName_2
def dkwX5_isName_0 : List UInt8 := [42, 180, 0, 46, 4, 159, 0, 5, 3, 172, 42, 180, 0, 17, 76, 2, 61, 43, 182, 0, 107]
abbrev dktX5_isName_0 : List UInt8 := dkwX5_isName_0 ++ dktX5_isName_1
theorem dksX5_isName_0 : cX5_isName.data.toList.drop 0 = dktX5_isName_0 := by decide +kernel
theorem dksX5_isName_1 : cX5_isName.data.toList.drop 21 = dktX5_isName_1 := dk_seg dksX5_isName_0 21 rfl rfl
theorem dksX5_isName_2 : cX5_isName.data.toList.drop 176 = dktX5_isName_2 := dk_seg dksX5_isName_1 155 rfl rfl
theorem dksX5_isName_3 : cX5_isName.data.toList.drop 200 = dktX5_isName_3 := dk_seg dksX5_isName_2 24 rfl rfl
theorem dksX5_isName_4 : cX5_isName.data.toList.drop 224 = dktX5_isName_4 := dk_seg dksX5_isName_3 24 rfl rfl
theorem dksX5_isName_5 : cX5_isName.data.toList.drop 247 = dktX5_isName_5 := dk_seg dksX5_isName_4 23 rfl rfl
theorem dksX5_isName_6 : cX5_isName.data.toList.drop 271 = dktX5_isName_6 := dk_seg dksX5_isName_5 24 rfl rfl
theorem dksX5_isName_7 : cX5_isName.data.toList.drop 293 = dktX5_isName_7 := dk_seg dksX5_isName_6 22 rfl rfl
theorem dksX5_isName_8 : cX5_isName.data.toList.drop 317 = dktX5_isName_8 := dk_seg dksX5_isName_7 24 rfl rfl
theorem dksX5_isName_9 : cX5_isName.data.toList.drop 341 = dktX5_isName_9 := dk_seg dksX5_isName_8 24 rfl rfl
theorem dksX5_isName_10 : cX5_isName.data.toList.drop 365 = dktX5_isName_10 := dk_seg dksX5_isName_9 24 rfl rfl
theorem dksX5_isName_11 : cX5_isName.data.toList.drop 389 = dktX5_isName_11 := dk_seg dksX5_isName_10 24 rfl rfl
theorem dksX5_isName_12 : cX5_isName.data.toList.drop 413 = dktX5_isName_12 := dk_seg dksX5_isName_11 24 rfl rfl
theorem dksX5_isName_13 : cX5_isName.data.toList.drop 437 = dktX5_isName_13 := dk_seg dksX5_isName_12 24 rfl rfl
theorem dksX5_isName_14 : cX5_isName.data.toList.drop 438 = dktX5_isName_14 := dk_seg dksX5_isName_13 1 rfl rfl
theorem dksX5_isName_15 : cX5_isName.data.toList.drop 524 = dktX5_isName_15 := dk_seg dksX5_isName_14 86 rfl rfl
theorem dX5_isName_0 : decode cX5_isName 0 = .ok (.aload_n 0, 1) := dk_42 (dk_at dksX5_isName_0 0 rfl rfl)
theorem dX5_isName_1 : decode cX5_isName 1 = .ok (.getfield 46, 3) := dk_180 0 46 (dk_at dksX5_isName_0 1 rfl rfl)
theorem dX5_isName_4 : decode cX5_isName 4 = .ok (.iconst 1, 1) := dk_4 (dk_at dksX5_isName_0 4 rfl rfl)
theorem dX5_isName_5 : decode cX5_isName 5 = .ok (.if_icmp .eq 5, 3) := dk_159 0 5 (dk_at dksX5_isName_0 5 rfl rfl)
theorem dX5_isName_8 : decode cX5_isName 8 = .ok (.iconst 0, 1) := dk_3 (dk_at dksX5_isName_0 8 rfl rfl)
theorem dX5_isName_9 : decode cX5_isName 9 = .ok (.ireturn, 1) := dk_172 (dk_at dksX5_isName_0 9 rfl rfl)
theorem dX5_isName_10 : decode cX5_isName 10 = .ok (.aload_n 0, 1) := dk_42 (dk_at dksX5_isName_0 10 rfl rfl)
theorem dX5_isName_11 : decode cX5_isName 11 = .ok (.getfield 17, 3) := dk_180 0 17 (dk_at dksX5_isName_0 11 rfl rfl)
theorem dX5_isName_14 : decode cX5_isName 14 = .ok (.astore_n 1, 1) := dk_76 (dk_at dksX5_isName_0 14 rfl rfl)
theorem dX5_isName_15 : decode cX5_isName 15 = .ok (.iconst (-1), 1) := dk_2 (dk_at dksX5_isName_0 15 rfl rfl)
theorem dX5_isName_16 : decode cX5_isName 16 = .ok (.istore_n 2, 1) := dk_61 (dk_at dksX5_isName_0 16 rfl rfl)
theorem dX5_isName_17 : decode cX5_isName 17 = .ok (.aload_n 1, 1) := dk_43 (dk_at dksX5_isName_0 17 rfl rfl)
theorem dX5_isName_18 : decode cX5_isName 18 = .ok (.invokevirtual 107, 3) := dk_182 0 107 (dk_at dksX5_isName_0 18 rfl rfl)
theorem dX5_isName_21 : decode cX5_isName 21 = .ok (.lookupswitch 416 #[(-1354571749, 359), (-1237460601, 329), (-1234989669, 314), (-991716523, 155), (-897917786, 284), (3159, 211), (3365, 254), (3555, 389), (3707, 225), (96727, 374), (103501, 239), (109267, 404), (113860, 169), (3091780, 299), (3198448, 344), (3522358, 183), (3522537, 269), (110331118, 197)], 155) := by decide +kernel
theorem dX5_isName_176 : decode cX5_isName 176 = .ok (.aload_n 1, 1) := dk_43 (dk_at dksX5_isName_2 0 rfl rfl)
theorem dX5_isName_177 : decode cX5_isName 177 = .ok (.ldc 111, 2) := dk_18 111 (dk_at dksX5_isName_2 1 rfl rfl)
theorem dX5_isName_179 : decode cX5_isName 179 = .ok (.invokevirtual 80, 3) := dk_182 0 80 (dk_at dksX5_isName_2 3 rfl rfl)
theorem dX5_isName_182 : decode cX5_isName 182 = .ok (.ifCond .eq 255, 3) := dk_153 0 255 (dk_at dksX5_isName_2 6 rfl rfl)
theorem dX5_isName_185 : decode cX5_isName 185 = .ok (.iconst 0, 1) := dk_3 (dk_at dksX5_isName_2 9 rfl rfl)
theorem dX5_isName_186 : decode cX5_isName 186 = .ok (.istore_n 2, 1) := dk_61 (dk_at dksX5_isName_2 10 rfl rfl)
theorem dX5_isName_187 : decode cX5_isName 187 = .ok (.goto 250, 3) := dk_167 0 250 (dk_at dksX5_isName_2 11 rfl rfl)
theorem dX5_isName_190 : decode cX5_isName 190 = .ok (.aload_n 1, 1) := dk_43 (dk_at dksX5_isName_2 14 rfl rfl)
theorem dX5_isName_191 : decode cX5_isName 191 = .ok (.ldc 113, 2) := dk_18 113 (dk_at dksX5_isName_2 15 rfl rfl)
theorem dX5_isName_193 : decode cX5_isName 193 = .ok (.invokevirtual 80, 3) := dk_182 0 80 (dk_at dksX5_isName_2 17 rfl rfl)
theorem dX5_isName_196 : decode cX5_isName 196 = .ok (.ifCond .eq 241, 3) := dk_153 0 241 (dk_at dksX5_isName_2 20 rfl rfl)
theorem dX5_isName_199 : decode cX5_isName 199 = .ok (.iconst 1, 1) := dk_4 (dk_at dksX5_isName_2 23 rfl rfl)
theorem dX5_isName_200 : decode cX5_isName 200 = .ok (.istore_n 2, 1) := dk_61 (dk_at dksX5_isName_3 0 rfl rfl)
theorem dX5_isName_201 : decode cX5_isName 201 = .ok (.goto 236, 3) := dk_167 0 236 (dk_at dksX5_isName_3 1 rfl rfl)
theorem dX5_isName_204 : decode cX5_isName 204 = .ok (.aload_n 1, 1) := dk_43 (dk_at dksX5_isName_3 4 rfl rfl)
theorem dX5_isName_205 : decode cX5_isName 205 = .ok (.ldc 115, 2) := dk_18 115 (dk_at dksX5_isName_3 5 rfl rfl)
theorem dX5_isName_207 : decode cX5_isName 207 = .ok (.invokevirtual 80, 3) := dk_182 0 80 (dk_at dksX5_isName_3 7 rfl rfl)
theorem dX5_isName_210 : decode cX5_isName 210 = .ok (.ifCond .eq 227, 3) := dk_153 0 227 (dk_at dksX5_isName_3 10 rfl rfl)
theorem dX5_isName_213 : decode cX5_isName 213 = .ok (.iconst 2, 1) := dk_5 (dk_at dksX5_isName_3 13 rfl rfl)
theorem dX5_isName_214 : decode cX5_isName 214 = .ok (.istore_n 2, 1) := dk_61 (dk_at dksX5_isName_3 14 rfl rfl)
theorem dX5_isName_215 : decode cX5_isName 215 = .ok (.goto 222, 3) := dk_167 0 222 (dk_at dksX5_isName_3 15 rfl rfl)
theorem dX5_isName_218 : decode cX5_isName 218 = .ok (.aload_n 1, 1) := dk_43 (dk_at dksX5_isName_3 18 rfl rfl)
theorem dX5_isName_219 : decode cX5_isName 219 = .ok (.ldc 117, 2) := dk_18 117 (dk_at dksX5_isName_3 19 rfl rfl)
theorem dX5_isName_221 : decode cX5_isName 221 = .ok (.invokevirtual 80, 3) := dk_182 0 80 (dk_at dksX5_isName_3 21 rfl rfl)
theorem dX5_isName_224 : decode cX5_isName 224 = .ok (.ifCond .eq 213, 3) := dk_153 0 213 (dk_at dksX5_isName_4 0 rfl rfl)
theorem dX5_isName_227 : decode cX5_isName 227 = .ok (.iconst 3, 1) := dk_6 (dk_at dksX5_isName_4 3 rfl rfl)
theorem dX5_isName_228 : decode cX5_isName 228 = .ok (.istore_n 2, 1) := dk_61 (dk_at dksX5_isName_4 4 rfl rfl)
theorem dX5_isName_229 : decode cX5_isName 229 = .ok (.goto 208, 3) := dk_167 0 208 (dk_at dksX5_isName_4 5 rfl rfl)
theorem dX5_isName_232 : decode cX5_isName 232 = .ok (.aload_n 1, 1) := dk_43 (dk_at dksX5_isName_4 8 rfl rfl)
theorem dX5_isName_233 : decode cX5_isName 233 = .ok (.ldc 119, 2) := dk_18 119 (dk_at dksX5_isName_4 9 rfl rfl)
theorem dX5_isName_235 : decode cX5_isName 235 = .ok (.invokevirtual 80, 3) := dk_182 0 80 (dk_at dksX5_isName_4 11 rfl rfl)
theorem dX5_isName_238 : decode cX5_isName 238 = .ok (.ifCond .eq 199, 3) := dk_153 0 199 (dk_at dksX5_isName_4 14 rfl rfl)
theorem dX5_isName_241 : decode cX5_isName 241 = .ok (.iconst 4, 1) := dk_7 (dk_at dksX5_isName_4 17 rfl rfl)
theorem dX5_isName_242 : decode cX5_isName 242 = .ok (.istore_n 2, 1) := dk_61 (dk_at dksX5_isName_4 18 rfl rfl)
theorem dX5_isName_243 : decode cX5_isName 243 = .ok (.goto 194, 3) := dk_167 0 194 (dk_at dksX5_isName_4 19 rfl rfl)
theorem dX5_isName_246 : decode cX5_isName 246 = .ok (.aload_n 1, 1) := dk_43 (dk_at dksX5_isName_4 22 rfl rfl)
theorem dX5_isName_247 : decode cX5_isName 247 = .ok (.ldc 121, 2) := dk_18 121 (dk_at dksX5_isName_5 0 rfl rfl)
theorem dX5_isName_249 : decode cX5_isName 249 = .ok (.invokevirtual 80, 3) := dk_182 0 80 (dk_at dksX5_isName_5 2 rfl rfl)
theorem dX5_isName_252 : decode cX5_isName 252 = .ok (.ifCond .eq 185, 3) := dk_153 0 185 (dk_at dksX5_isName_5 5 rfl rfl)
theorem dX5_isName_255 : decode cX5_isName 255 = .ok (.iconst 5, 1) := dk_8 (dk_at dksX5_isName_5 8 rfl rfl)
theorem dX5_isName_256 : decode cX5_isName 256 = .ok (.istore_n 2, 1) := dk_61 (dk_at dksX5_isName_5 9 rfl rfl)
theorem dX5_isName_257 : decode cX5_isName 257 = .ok (.goto 180, 3) := dk_167 0 180 (dk_at dksX5_isName_5 10 rfl rfl)
theorem dX5_isName_260 : decode cX5_isName 260 = .ok (.aload_n 1, 1) := dk_43 (dk_at dksX5_isName_5 13 rfl rfl)
theorem dX5_isName_261 : decode cX5_isName 261 = .ok (.ldc 123, 2) := dk_18 123 (dk_at dksX5_isName_5 14 rfl rfl)
theorem dX5_isName_263 : decode cX5_isName 263 = .ok (.invokevirtual 80, 3) := dk_182 0 80 (dk_at dksX5_isName_5 16 rfl rfl)
theorem dX5_isName_266 : decode cX5_isName 266 = .ok (.ifCond .eq 171, 3) := dk_153 0 171 (dk_at dksX5_isName_5 19 rfl rfl)
theorem dX5_isName_269 : decode cX5_isName 269 = .ok (.bipush 6, 2) := dk_16 6 (dk_at dksX5_isName_5 22 rfl rfl)
theorem dX5_isName_271 : decode cX5_isName 271 = .ok (.istore_n 2, 1) := dk_61 (dk_at dksX5_isName_6 0 rfl rfl)
theorem dX5_isName_272 : decode cX5_isName 272 = .ok (.goto 165, 3) := dk_167 0 165 (dk_at dksX5_isName_6 1 rfl rfl)
theorem dX5_isName_275 : decode cX5_isName 275 = .ok (.aload_n 1, 1) := dk_43 (dk_at dksX5_isName_6 4 rfl rfl)
theorem dX5_isName_276 : decode cX5_isName 276 = .ok (.ldc 125, 2) := dk_18 125 (dk_at dksX5_isName_6 5 rfl rfl)
theorem dX5_isName_278 : decode cX5_isName 278 = .ok (.invokevirtual 80, 3) := dk_182 0 80 (dk_at dksX5_isName_6 7 rfl rfl)
theorem dX5_isName_281 : decode cX5_isName 281 = .ok (.ifCond .eq 156, 3) := dk_153 0 156 (dk_at dksX5_isName_6 10 rfl rfl)
theorem dX5_isName_284 : decode cX5_isName 284 = .ok (.bipush 7, 2) := dk_16 7 (dk_at dksX5_isName_6 13 rfl rfl)
theorem dX5_isName_286 : decode cX5_isName 286 = .ok (.istore_n 2, 1) := dk_61 (dk_at dksX5_isName_6 15 rfl rfl)
theorem dX5_isName_287 : decode cX5_isName 287 = .ok (.goto 150, 3) := dk_167 0 150 (dk_at dksX5_isName_6 16 rfl rfl)
theorem dX5_isName_290 : decode cX5_isName 290 = .ok (.aload_n 1, 1) := dk_43 (dk_at dksX5_isName_6 19 rfl rfl)
theorem dX5_isName_291 : decode cX5_isName 291 = .ok (.ldc 127, 2) := dk_18 127 (dk_at dksX5_isName_6 20 rfl rfl)
theorem dX5_isName_293 : decode cX5_isName 293 = .ok (.invokevirtual 80, 3) := dk_182 0 80 (dk_at dksX5_isName_7 0 rfl rfl)
theorem dX5_isName_296 : decode cX5_isName 296 = .ok (.ifCond .eq 141, 3) := dk_153 0 141 (dk_at dksX5_isName_7 3 rfl rfl)
theorem dX5_isName_299 : decode cX5_isName 299 = .ok (.bipush 8, 2) := dk_16 8 (dk_at dksX5_isName_7 6 rfl rfl)
theorem dX5_isName_301 : decode cX5_isName 301 = .ok (.istore_n 2, 1) := dk_61 (dk_at dksX5_isName_7 8 rfl rfl)
theorem dX5_isName_302 : decode cX5_isName 302 = .ok (.goto 135, 3) := dk_167 0 135 (dk_at dksX5_isName_7 9 rfl rfl)
theorem dX5_isName_305 : decode cX5_isName 305 = .ok (.aload_n 1, 1) := dk_43 (dk_at dksX5_isName_7 12 rfl rfl)
theorem dX5_isName_306 : decode cX5_isName 306 = .ok (.ldc 129, 2) := dk_18 129 (dk_at dksX5_isName_7 13 rfl rfl)
theorem dX5_isName_308 : decode cX5_isName 308 = .ok (.invokevirtual 80, 3) := dk_182 0 80 (dk_at dksX5_isName_7 15 rfl rfl)
theorem dX5_isName_311 : decode cX5_isName 311 = .ok (.ifCond .eq 126, 3) := dk_153 0 126 (dk_at dksX5_isName_7 18 rfl rfl)
theorem dX5_isName_314 : decode cX5_isName 314 = .ok (.bipush 9, 2) := dk_16 9 (dk_at dksX5_isName_7 21 rfl rfl)
theorem dX5_isName_316 : decode cX5_isName 316 = .ok (.istore_n 2, 1) := dk_61 (dk_at dksX5_isName_7 23 rfl rfl)
theorem dX5_isName_317 : decode cX5_isName 317 = .ok (.goto 120, 3) := dk_167 0 120 (dk_at dksX5_isName_8 0 rfl rfl)
theorem dX5_isName_320 : decode cX5_isName 320 = .ok (.aload_n 1, 1) := dk_43 (dk_at dksX5_isName_8 3 rfl rfl)
theorem dX5_isName_321 : decode cX5_isName 321 = .ok (.ldc 131, 2) := dk_18 131 (dk_at dksX5_isName_8 4 rfl rfl)
theorem dX5_isName_323 : decode cX5_isName 323 = .ok (.invokevirtual 80, 3) := dk_182 0 80 (dk_at dksX5_isName_8 6 rfl rfl)
theorem dX5_isName_326 : decode cX5_isName 326 = .ok (.ifCond .eq 111, 3) := dk_153 0 111 (dk_at dksX5_isName_8 9 rfl rfl)
theorem dX5_isName_329 : decode cX5_isName 329 = .ok (.bipush 10, 2) := dk_16 10 (dk_at dksX5_isName_8 12 rfl rfl)
theorem dX5_isName_331 : decode cX5_isName 331 = .ok (.istore_n 2, 1) := dk_61 (dk_at dksX5_isName_8 14 rfl rfl)
theorem dX5_isName_332 : decode cX5_isName 332 = .ok (.goto 105, 3) := dk_167 0 105 (dk_at dksX5_isName_8 15 rfl rfl)
theorem dX5_isName_335 : decode cX5_isName 335 = .ok (.aload_n 1, 1) := dk_43 (dk_at dksX5_isName_8 18 rfl rfl)
theorem dX5_isName_336 : decode cX5_isName 336 = .ok (.ldc 133, 2) := dk_18 133 (dk_at dksX5_isName_8 19 rfl rfl)
theorem dX5_isName_338 : decode cX5_isName 338 = .ok (.invokevirtual 80, 3) := dk_182 0 80 (dk_at dksX5_isName_8 21 rfl rfl)
theorem dX5_isName_341 : decode cX5_isName 341 = .ok (.ifCond .eq 96, 3) := dk_153 0 96 (dk_at dksX5_isName_9 0 rfl rfl)
theorem dX5_isName_344 : decode cX5_isName 344 = .ok (.bipush 11, 2) := dk_16 11 (dk_at dksX5_isName_9 3 rfl rfl)
theorem dX5_isName_346 : decode cX5_isName 346 = .ok (.istore_n 2, 1) := dk_61 (dk_at dksX5_isName_9 5 rfl rfl)
theorem dX5_isName_347 : decode cX5_isName 347 = .ok (.goto 90, 3) := dk_167 0 90 (dk_at dksX5_isName_9 6 rfl rfl)
theorem dX5_isName_350 : decode cX5_isName 350 = .ok (.aload_n 1, 1) := dk_43 (dk_at dksX5_isName_9 9 rfl rfl)
theorem dX5_isName_351 : decode cX5_isName 351 = .ok (.ldc 135, 2) := dk_18 135 (dk_at dksX5_isName_9 10 rfl rfl)
theorem dX5_isName_353 : decode cX5_isName 353 = .ok (.invokevirtual 80, 3) := dk_182 0 80 (dk_at dksX5_isName_9 12 rfl rfl)
theorem dX5_isName_356 : decode cX5_isName 356 = .ok (.ifCond .eq 81, 3) := dk_153 0 81 (dk_at dksX5_isName_9 15 rfl rfl)
theorem dX5_isName_359 : decode cX5_isName 359 = .ok (.bipush 12, 2) := dk_16 12 (dk_at dksX5_isName_9 18 rfl rfl)
theorem dX5_isName_361 : decode cX5_isName 361 = .ok (.istore_n 2, 1) := dk_61 (dk_at dksX5_isName_9 20 rfl rfl)
theorem dX5_isName_362 : decode cX5_isName 362 = .ok (.goto 75, 3) := dk_167 0 75 (dk_at dksX5_isName_9 21 rfl rfl)
theorem dX5_isName_365 : decode cX5_isName 365 = .ok (.aload_n 1, 1) := dk_43 (dk_at dksX5_isName_10 0 rfl rfl)
theorem dX5_isName_366 : decode cX5_isName 366 = .ok (.ldc 137, 2) := dk_18 137 (dk_at dksX5_isName_10 1 rfl rfl)
theorem dX5_isName_368 : decode cX5_isName 368 = .ok (.invokevirtual 80, 3) := dk_182 0 80 (dk_at dksX5_isName_10 3 rfl rfl)
theorem dX5_isName_371 : decode cX5_isName 371 = .ok (.ifCond .eq 66, 3) := dk_153 0 66 (dk_at dksX5_isName_10 6 rfl rfl)
theorem dX5_isName_374 : decode cX5_isName 374 = .ok (.bipush 13, 2) := dk_16 13 (dk_at dksX5_isName_10 9 rfl rfl)
theorem dX5_isName_376 : decode cX5_isName 376 = .ok (.istore_n 2, 1) := dk_61 (dk_at dksX5_isName_10 11 rfl rfl)
theorem dX5_isName_377 : decode cX5_isName 377 = .ok (.goto 60, 3) := dk_167 0 60 (dk_at dksX5_isName_10 12 rfl rfl)
theorem dX5_isName_380 : decode cX5_isName 380 = .ok (.aload_n 1, 1) := dk_43 (dk_at dksX5_isName_10 15 rfl rfl)
theorem dX5_isName_381 : decode cX5_isName 381 = .ok (.ldc 139, 2) := dk_18 139 (dk_at dksX5_isName_10 16 rfl rfl)
theorem dX5_isName_383 : decode cX5_isName 383 = .ok (.invokevirtual 80, 3) := dk_182 0 80 (dk_at dksX5_isName_10 18 rfl rfl)
theorem dX5_isName_386 : decode cX5_isName 386 = .ok (.ifCond .eq 51, 3) := dk_153 0 51 (dk_at dksX5_isName_10 21 rfl rfl)
theorem dX5_isName_389 : decode cX5_isName 389 = .ok (.bipush 14, 2) := dk_16 14 (dk_at dksX5_isName_11 0 rfl rfl)
theorem dX5_isName_391 : decode cX5_isName 391 = .ok (.istore_n 2, 1) := dk_61 (dk_at dksX5_isName_11 2 rfl rfl)
theorem dX5_isName_392 : decode cX5_isName 392 = .ok (.goto 45, 3) := dk_167 0 45 (dk_at dksX5_isName_11 3 rfl rfl)
theorem dX5_isName_395 : decode cX5_isName 395 = .ok (.aload_n 1, 1) := dk_43 (dk_at dksX5_isName_11 6 rfl rfl)
theorem dX5_isName_396 : decode cX5_isName 396 = .ok (.ldc 141, 2) := dk_18 141 (dk_at dksX5_isName_11 7 rfl rfl)
theorem dX5_isName_398 : decode cX5_isName 398 = .ok (.invokevirtual 80, 3) := dk_182 0 80 (dk_at dksX5_isName_11 9 rfl rfl)
theorem dX5_isName_401 : decode cX5_isName 401 = .ok (.ifCond .eq 36, 3) := dk_153 0 36 (dk_at dksX5_isName_11 12 rfl rfl)
theorem dX5_isName_404 : decode cX5_isName 404 = .ok (.bipush 15, 2) := dk_16 15 (dk_at dksX5_isName_11 15 rfl rfl)
theorem dX5_isName_406 : decode cX5_isName 406 = .ok (.istore_n 2, 1) := dk_61 (dk_at dksX5_isName_11 17 rfl rfl)
theorem dX5_isName_407 : decode cX5_isName 407 = .ok (.goto 30, 3) := dk_167 0 30 (dk_at dksX5_isName_11 18 rfl rfl)
theorem dX5_isName_410 : decode cX5_isName 410 = .ok (.aload_n 1, 1) := dk_43 (dk_at dksX5_isName_11 21 rfl rfl)
theorem dX5_isName_411 : decode cX5_isName 411 = .ok (.ldc 143, 2) := dk_18 143 (dk_at dksX5_isName_11 22 rfl rfl)
theorem dX5_isName_413 : decode cX5_isName 413 = .ok (.invokevirtual 80, 3) := dk_182 0 80 (dk_at dksX5_isName_12 0 rfl rfl)
theorem dX5_isName_416 : decode cX5_isName 416 = .ok (.ifCond .eq 21, 3) := dk_153 0 21 (dk_at dksX5_isName_12 3 rfl rfl)
theorem dX5_isName_419 : decode cX5_isName 419 = .ok (.bipush 16, 2) := dk_16 16 (dk_at dksX5_isName_12 6 rfl rfl)
theorem dX5_isName_421 : decode cX5_isName 421 = .ok (.istore_n 2, 1) := dk_61 (dk_at dksX5_isName_12 8 rfl rfl)
theorem dX5_isName_422 : decode cX5_isName 422 = .ok (.goto 15, 3) := dk_167 0 15 (dk_at dksX5_isName_12 9 rfl rfl)
theorem dX5_isName_425 : decode cX5_isName 425 = .ok (.aload_n 1, 1) := dk_43 (dk_at dksX5_isName_12 12 rfl rfl)
theorem dX5_isName_426 : decode cX5_isName 426 = .ok (.ldc 145, 2) := dk_18 145 (dk_at dksX5_isName_12 13 rfl rfl)
theorem dX5_isName_428 : decode cX5_isName 428 = .ok (.invokevirtual 80, 3) := dk_182 0 80 (dk_at dksX5_isName_12 15 rfl rfl)
theorem dX5_isName_431 : decode cX5_isName 431 = .ok (.ifCond .eq 6, 3) := dk_153 0 6 (dk_at dksX5_isName_12 18 rfl rfl)
theorem dX5_isName_434 : decode cX5_isName 434 = .ok (.bipush 17, 2) := dk_16 17 (dk_at dksX5_isName_12 21 rfl rfl)
theorem dX5_isName_436 : decode cX5_isName 436 = .ok (.istore_n 2, 1) := dk_61 (dk_at dksX5_isName_12 23 rfl rfl)
theorem dX5_isName_437 : decode cX5_isName 437 = .ok (.iload_n 2, 1) := dk_28 (dk_at dksX5_isName_13 0 rfl rfl)
theorem dX5_isName_438 : decode cX5_isName 438 = .ok (.tableswitch 88 0 17 #[86, 86, 86, 86, 86, 86, 86, 86, 86, 86, 86, 86, 86, 86, 86, 86, 86, 86], 86) := by decide +kernel
theorem dX5_isName_524 : decode cX5_isName 524 = .ok (.iconst 0, 1) := dk_3 (dk_at dksX5_isName_15 0 rfl rfl)
theorem dX5_isName_525 : decode cX5_isName 525 = .ok (.ireturn, 1) := dk_172 (dk_at dksX5_isName_15 1 rfl rfl)
theorem dX5_isName_526 : decode cX5_isName 526 = .ok (.iconst 1, 1) := dk_4 (dk_at dksX5_isName_15 2 rfl rfl)
theorem dX5_isName_527 : decode cX5_isName 527 = .ok (.ireturn, 1) := dk_172 (dk_at dksX5_isName_15 3 rfl rfl)
abbrev cX5_wrong : ByteArray := prog_17_method_7_code
def yX5_wrong : MethodName := ⟨RX5, "wrong", "()LPepperTables$Wrong;"⟩
def dkwX5_wrong_1 : List UInt8 := [176]
abbrev dktX5_wrong_1 : List UInt8 := dkwX5_wrong_1 ++ []
def dkwX5_wrong_0 : List UInt8 := [187, 0, 75, 89, 42, 180, 0, 46, 6, 160, 0, 7, 4, 167, 0, 4, 5, 42, 180, 0, 43, 183, 0, 77]
abbrev dktX5_wrong_0 : List UInt8 := dkwX5_wrong_0 ++ dktX5_wrong_1
theorem dksX5_wrong_0 : cX5_wrong.data.toList.drop 0 = dktX5_wrong_0 := by decide +kernel
theorem dksX5_wrong_1 : cX5_wrong.data.toList.drop 24 = dktX5_wrong_1 := dk_seg dksX5_wrong_0 24 rfl rfl
theorem dX5_wrong_0 : decode cX5_wrong 0 = .ok (.new 75, 3) := dk_187 0 75 (dk_at dksX5_wrong_0 0 rfl rfl)
theorem dX5_wrong_3 : decode cX5_wrong 3 = .ok (.dup, 1) := dk_89 (dk_at dksX5_wrong_0 3 rfl rfl)
theorem dX5_wrong_4 : decode cX5_wrong 4 = .ok (.aload_n 0, 1) := dk_42 (dk_at dksX5_wrong_0 4 rfl rfl)
theorem dX5_wrong_5 : decode cX5_wrong 5 = .ok (.getfield 46, 3) := dk_180 0 46 (dk_at dksX5_wrong_0 5 rfl rfl)
theorem dX5_wrong_8 : decode cX5_wrong 8 = .ok (.iconst 3, 1) := dk_6 (dk_at dksX5_wrong_0 8 rfl rfl)
theorem dX5_wrong_9 : decode cX5_wrong 9 = .ok (.if_icmp .ne 7, 3) := dk_160 0 7 (dk_at dksX5_wrong_0 9 rfl rfl)
theorem dX5_wrong_12 : decode cX5_wrong 12 = .ok (.iconst 1, 1) := dk_4 (dk_at dksX5_wrong_0 12 rfl rfl)
theorem dX5_wrong_13 : decode cX5_wrong 13 = .ok (.goto 4, 3) := dk_167 0 4 (dk_at dksX5_wrong_0 13 rfl rfl)
theorem dX5_wrong_16 : decode cX5_wrong 16 = .ok (.iconst 2, 1) := dk_5 (dk_at dksX5_wrong_0 16 rfl rfl)
theorem dX5_wrong_17 : decode cX5_wrong 17 = .ok (.aload_n 0, 1) := dk_42 (dk_at dksX5_wrong_0 17 rfl rfl)
theorem dX5_wrong_18 : decode cX5_wrong 18 = .ok (.getfield 43, 3) := dk_180 0 43 (dk_at dksX5_wrong_0 18 rfl rfl)
theorem dX5_wrong_21 : decode cX5_wrong 21 = .ok (.invokespecial 77, 3) := dk_183 0 77 (dk_at dksX5_wrong_0 21 rfl rfl)
theorem dX5_wrong_24 : decode cX5_wrong 24 = .ok (.areturn, 1) := dk_176 (dk_at dksX5_wrong_1 0 rfl rfl)
abbrev cX5_told : ByteArray := prog_17_method_12_code
def yX5_told : MethodName := ⟨RX5, "told", "(Ljava/lang/String;II)I"⟩
def dkwX5_told_0 : List UInt8 := [42, 43, 182, 0, 100, 42, 28, 29, 182, 0, 104, 172]
abbrev dktX5_told_0 : List UInt8 := dkwX5_told_0 ++ []
theorem dksX5_told_0 : cX5_told.data.toList.drop 0 = dktX5_told_0 := by decide +kernel
theorem dX5_told_0 : decode cX5_told 0 = .ok (.aload_n 0, 1) := dk_42 (dk_at dksX5_told_0 0 rfl rfl)
theorem dX5_told_1 : decode cX5_told 1 = .ok (.aload_n 1, 1) := dk_43 (dk_at dksX5_told_0 1 rfl rfl)
theorem dX5_told_2 : decode cX5_told 2 = .ok (.invokevirtual 100, 3) := dk_182 0 100 (dk_at dksX5_told_0 2 rfl rfl)
theorem dX5_told_5 : decode cX5_told 5 = .ok (.aload_n 0, 1) := dk_42 (dk_at dksX5_told_0 5 rfl rfl)
theorem dX5_told_6 : decode cX5_told 6 = .ok (.iload_n 2, 1) := dk_28 (dk_at dksX5_told_0 6 rfl rfl)
theorem dX5_told_7 : decode cX5_told 7 = .ok (.iload_n 3, 1) := dk_29 (dk_at dksX5_told_0 7 rfl rfl)
theorem dX5_told_8 : decode cX5_told 8 = .ok (.invokevirtual 104, 3) := dk_182 0 104 (dk_at dksX5_told_0 8 rfl rfl)
theorem dX5_told_11 : decode cX5_told 11 = .ok (.ireturn, 1) := dk_172 (dk_at dksX5_told_0 11 rfl rfl)
abbrev cX5_key : ByteArray := prog_17_method_10_code
def yX5_key : MethodName := ⟨RX5, "key", "(Ljava/lang/String;)V"⟩
def dkwX5_key_0 : List UInt8 := [42, 43, 182, 0, 93, 154, 0, 8, 42, 182, 0, 96, 191, 177]
abbrev dktX5_key_0 : List UInt8 := dkwX5_key_0 ++ []
theorem dksX5_key_0 : cX5_key.data.toList.drop 0 = dktX5_key_0 := by decide +kernel
theorem dX5_key_0 : decode cX5_key 0 = .ok (.aload_n 0, 1) := dk_42 (dk_at dksX5_key_0 0 rfl rfl)
theorem dX5_key_1 : decode cX5_key 1 = .ok (.aload_n 1, 1) := dk_43 (dk_at dksX5_key_0 1 rfl rfl)
theorem dX5_key_2 : decode cX5_key 2 = .ok (.invokevirtual 93, 3) := dk_182 0 93 (dk_at dksX5_key_0 2 rfl rfl)
theorem dX5_key_5 : decode cX5_key 5 = .ok (.ifCond .ne 8, 3) := dk_154 0 8 (dk_at dksX5_key_0 5 rfl rfl)
theorem dX5_key_8 : decode cX5_key 8 = .ok (.aload_n 0, 1) := dk_42 (dk_at dksX5_key_0 8 rfl rfl)
theorem dX5_key_9 : decode cX5_key 9 = .ok (.invokevirtual 96, 3) := dk_182 0 96 (dk_at dksX5_key_0 9 rfl rfl)
theorem dX5_key_12 : decode cX5_key 12 = .ok (.athrow, 1) := dk_191 (dk_at dksX5_key_0 12 rfl rfl)
theorem dX5_key_13 : decode cX5_key 13 = .ok (.return_, 1) := dk_177 (dk_at dksX5_key_0 13 rfl rfl)
abbrev cX5_takes : ByteArray := prog_17_method_9_code
def yX5_takes : MethodName := ⟨RX5, "takes", "(Ljava/lang/String;)Z"⟩
def dkwX5_takes_0 : List UInt8 := [42, 43, 182, 0, 86, 61, 28, 153, 0, 7, 42, 182, 0, 90, 28, 172]
abbrev dktX5_takes_0 : List UInt8 := dkwX5_takes_0 ++ []
theorem dksX5_takes_0 : cX5_takes.data.toList.drop 0 = dktX5_takes_0 := by decide +kernel
theorem dX5_takes_0 : decode cX5_takes 0 = .ok (.aload_n 0, 1) := dk_42 (dk_at dksX5_takes_0 0 rfl rfl)
theorem dX5_takes_1 : decode cX5_takes 1 = .ok (.aload_n 1, 1) := dk_43 (dk_at dksX5_takes_0 1 rfl rfl)
theorem dX5_takes_2 : decode cX5_takes 2 = .ok (.invokevirtual 86, 3) := dk_182 0 86 (dk_at dksX5_takes_0 2 rfl rfl)
theorem dX5_takes_5 : decode cX5_takes 5 = .ok (.istore_n 2, 1) := dk_61 (dk_at dksX5_takes_0 5 rfl rfl)
theorem dX5_takes_6 : decode cX5_takes 6 = .ok (.iload_n 2, 1) := dk_28 (dk_at dksX5_takes_0 6 rfl rfl)
theorem dX5_takes_7 : decode cX5_takes 7 = .ok (.ifCond .eq 7, 3) := dk_153 0 7 (dk_at dksX5_takes_0 7 rfl rfl)
theorem dX5_takes_10 : decode cX5_takes 10 = .ok (.aload_n 0, 1) := dk_42 (dk_at dksX5_takes_0 10 rfl rfl)
theorem dX5_takes_11 : decode cX5_takes 11 = .ok (.invokevirtual 90, 3) := dk_182 0 90 (dk_at dksX5_takes_0 11 rfl rfl)
theorem dX5_takes_14 : decode cX5_takes 14 = .ok (.iload_n 2, 1) := dk_28 (dk_at dksX5_takes_0 14 rfl rfl)
theorem dX5_takes_15 : decode cX5_takes 15 = .ok (.ireturn, 1) := dk_172 (dk_at dksX5_takes_0 15 rfl rfl)
abbrev cX5_number : ByteArray := prog_17_method_11_code
def yX5_number : MethodName := ⟨RX5, "number", "(II)I"⟩
def dkwX5_number_2 : List UInt8 := [62, 42, 182, 0, 90, 29, 172]
abbrev dktX5_number_2 : List UInt8 := dkwX5_number_2 ++ []
def dkwX5_number_1 : List UInt8 := [180, 0, 69, 28, 164, 0, 16, 187, 0, 75, 89, 7, 42, 180, 0, 43, 183, 0, 77, 191, 42, 180, 0, 69]
abbrev dktX5_number_1 : List UInt8 := dkwX5_number_1 ++ dktX5_number_2
def dkwX5_number_0 : List UInt8 := [42, 180, 0, 46, 5, 159, 0, 8, 42, 182, 0, 96, 191, 42, 180, 0, 69, 27, 161, 0, 11, 42]
abbrev dktX5_number_0 : List UInt8 := dkwX5_number_0 ++ dktX5_number_1
theorem dksX5_number_0 : cX5_number.data.toList.drop 0 = dktX5_number_0 := by decide +kernel
theorem dksX5_number_1 : cX5_number.data.toList.drop 22 = dktX5_number_1 := dk_seg dksX5_number_0 22 rfl rfl
theorem dksX5_number_2 : cX5_number.data.toList.drop 46 = dktX5_number_2 := dk_seg dksX5_number_1 24 rfl rfl
theorem dX5_number_0 : decode cX5_number 0 = .ok (.aload_n 0, 1) := dk_42 (dk_at dksX5_number_0 0 rfl rfl)
theorem dX5_number_1 : decode cX5_number 1 = .ok (.getfield 46, 3) := dk_180 0 46 (dk_at dksX5_number_0 1 rfl rfl)
theorem dX5_number_4 : decode cX5_number 4 = .ok (.iconst 2, 1) := dk_5 (dk_at dksX5_number_0 4 rfl rfl)
theorem dX5_number_5 : decode cX5_number 5 = .ok (.if_icmp .eq 8, 3) := dk_159 0 8 (dk_at dksX5_number_0 5 rfl rfl)
theorem dX5_number_8 : decode cX5_number 8 = .ok (.aload_n 0, 1) := dk_42 (dk_at dksX5_number_0 8 rfl rfl)
theorem dX5_number_9 : decode cX5_number 9 = .ok (.invokevirtual 96, 3) := dk_182 0 96 (dk_at dksX5_number_0 9 rfl rfl)
theorem dX5_number_12 : decode cX5_number 12 = .ok (.athrow, 1) := dk_191 (dk_at dksX5_number_0 12 rfl rfl)
theorem dX5_number_13 : decode cX5_number 13 = .ok (.aload_n 0, 1) := dk_42 (dk_at dksX5_number_0 13 rfl rfl)
theorem dX5_number_14 : decode cX5_number 14 = .ok (.getfield 69, 3) := dk_180 0 69 (dk_at dksX5_number_0 14 rfl rfl)
theorem dX5_number_17 : decode cX5_number 17 = .ok (.iload_n 1, 1) := dk_27 (dk_at dksX5_number_0 17 rfl rfl)
theorem dX5_number_18 : decode cX5_number 18 = .ok (.if_icmp .lt 11, 3) := dk_161 0 11 (dk_at dksX5_number_0 18 rfl rfl)
theorem dX5_number_21 : decode cX5_number 21 = .ok (.aload_n 0, 1) := dk_42 (dk_at dksX5_number_0 21 rfl rfl)
theorem dX5_number_22 : decode cX5_number 22 = .ok (.getfield 69, 3) := dk_180 0 69 (dk_at dksX5_number_1 0 rfl rfl)
theorem dX5_number_25 : decode cX5_number 25 = .ok (.iload_n 2, 1) := dk_28 (dk_at dksX5_number_1 3 rfl rfl)
theorem dX5_number_26 : decode cX5_number 26 = .ok (.if_icmp .le 16, 3) := dk_164 0 16 (dk_at dksX5_number_1 4 rfl rfl)
theorem dX5_number_29 : decode cX5_number 29 = .ok (.new 75, 3) := dk_187 0 75 (dk_at dksX5_number_1 7 rfl rfl)
theorem dX5_number_32 : decode cX5_number 32 = .ok (.dup, 1) := dk_89 (dk_at dksX5_number_1 10 rfl rfl)
theorem dX5_number_33 : decode cX5_number 33 = .ok (.iconst 4, 1) := dk_7 (dk_at dksX5_number_1 11 rfl rfl)
theorem dX5_number_34 : decode cX5_number 34 = .ok (.aload_n 0, 1) := dk_42 (dk_at dksX5_number_1 12 rfl rfl)
theorem dX5_number_35 : decode cX5_number 35 = .ok (.getfield 43, 3) := dk_180 0 43 (dk_at dksX5_number_1 13 rfl rfl)
theorem dX5_number_38 : decode cX5_number 38 = .ok (.invokespecial 77, 3) := dk_183 0 77 (dk_at dksX5_number_1 16 rfl rfl)
theorem dX5_number_41 : decode cX5_number 41 = .ok (.athrow, 1) := dk_191 (dk_at dksX5_number_1 19 rfl rfl)
theorem dX5_number_42 : decode cX5_number 42 = .ok (.aload_n 0, 1) := dk_42 (dk_at dksX5_number_1 20 rfl rfl)
theorem dX5_number_43 : decode cX5_number 43 = .ok (.getfield 69, 3) := dk_180 0 69 (dk_at dksX5_number_1 21 rfl rfl)
theorem dX5_number_46 : decode cX5_number 46 = .ok (.istore_n 3, 1) := dk_62 (dk_at dksX5_number_2 0 rfl rfl)
theorem dX5_number_47 : decode cX5_number 47 = .ok (.aload_n 0, 1) := dk_42 (dk_at dksX5_number_2 1 rfl rfl)
theorem dX5_number_48 : decode cX5_number 48 = .ok (.invokevirtual 90, 3) := dk_182 0 90 (dk_at dksX5_number_2 2 rfl rfl)
theorem dX5_number_51 : decode cX5_number 51 = .ok (.iload_n 3, 1) := dk_29 (dk_at dksX5_number_2 5 rfl rfl)
theorem dX5_number_52 : decode cX5_number 52 = .ok (.ireturn, 1) := dk_172 (dk_at dksX5_number_2 6 rfl rfl)
abbrev cX5_thing : ByteArray := prog_17_method_19_code
def yX5_thing : MethodName := ⟨RX5, "thing", "()V"⟩
def dkwX5_thing_5 : List UInt8 := [182, 0, 216, 181, 0, 226, 42, 182, 0, 90, 42, 180, 0, 24, 180, 0, 183, 43, 182, 0, 180, 87, 177]
abbrev dktX5_thing_5 : List UInt8 := dkwX5_thing_5 ++ []
def dkwX5_thing_4 : List UInt8 := [181, 0, 224, 42, 18, 125, 182, 0, 86, 153, 0, 24, 43, 42, 18, 125, 42, 180, 0, 24, 180, 0, 169]
abbrev dktX5_thing_4 : List UInt8 := dkwX5_thing_4 ++ dktX5_thing_5
def dkwX5_thing_3 : List UInt8 := [6, 42, 180, 0, 43, 183, 0, 77, 191, 42, 182, 0, 90, 43, 42, 18, 123, 4, 16, 9, 182, 0, 207]
abbrev dktX5_thing_3 : List UInt8 := dkwX5_thing_3 ++ dktX5_thing_4
def dkwX5_thing_2 : List UInt8 := [180, 0, 158, 182, 0, 216, 181, 0, 222, 43, 180, 0, 222, 43, 180, 0, 220, 160, 0, 16, 187, 0, 75, 89]
abbrev dktX5_thing_2 : List UInt8 := dkwX5_thing_2 ++ dktX5_thing_3
def dkwX5_thing_1 : List UInt8 := [180, 0, 24, 180, 0, 158, 182, 0, 216, 181, 0, 220, 42, 182, 0, 90, 43, 42, 18, 121, 42, 180, 0, 24]
abbrev dktX5_thing_1 : List UInt8 := dkwX5_thing_1 ++ dktX5_thing_2
def dkwX5_thing_0 : List UInt8 := [187, 0, 213, 89, 42, 42, 180, 0, 24, 180, 0, 183, 182, 0, 174, 183, 0, 215, 76, 43, 42, 18, 119, 42]
abbrev dktX5_thing_0 : List UInt8 := dkwX5_thing_0 ++ dktX5_thing_1
theorem dksX5_thing_0 : cX5_thing.data.toList.drop 0 = dktX5_thing_0 := by decide +kernel
theorem dksX5_thing_1 : cX5_thing.data.toList.drop 24 = dktX5_thing_1 := dk_seg dksX5_thing_0 24 rfl rfl
theorem dksX5_thing_2 : cX5_thing.data.toList.drop 48 = dktX5_thing_2 := dk_seg dksX5_thing_1 24 rfl rfl
theorem dksX5_thing_3 : cX5_thing.data.toList.drop 72 = dktX5_thing_3 := dk_seg dksX5_thing_2 24 rfl rfl
theorem dksX5_thing_4 : cX5_thing.data.toList.drop 95 = dktX5_thing_4 := dk_seg dksX5_thing_3 23 rfl rfl
theorem dksX5_thing_5 : cX5_thing.data.toList.drop 118 = dktX5_thing_5 := dk_seg dksX5_thing_4 23 rfl rfl
theorem dX5_thing_0 : decode cX5_thing 0 = .ok (.new 213, 3) := dk_187 0 213 (dk_at dksX5_thing_0 0 rfl rfl)
theorem dX5_thing_3 : decode cX5_thing 3 = .ok (.dup, 1) := dk_89 (dk_at dksX5_thing_0 3 rfl rfl)
theorem dX5_thing_4 : decode cX5_thing 4 = .ok (.aload_n 0, 1) := dk_42 (dk_at dksX5_thing_0 4 rfl rfl)
theorem dX5_thing_5 : decode cX5_thing 5 = .ok (.aload_n 0, 1) := dk_42 (dk_at dksX5_thing_0 5 rfl rfl)
theorem dX5_thing_6 : decode cX5_thing 6 = .ok (.getfield 24, 3) := dk_180 0 24 (dk_at dksX5_thing_0 6 rfl rfl)
theorem dX5_thing_9 : decode cX5_thing 9 = .ok (.getfield 183, 3) := dk_180 0 183 (dk_at dksX5_thing_0 9 rfl rfl)
theorem dX5_thing_12 : decode cX5_thing 12 = .ok (.invokevirtual 174, 3) := dk_182 0 174 (dk_at dksX5_thing_0 12 rfl rfl)
theorem dX5_thing_15 : decode cX5_thing 15 = .ok (.invokespecial 215, 3) := dk_183 0 215 (dk_at dksX5_thing_0 15 rfl rfl)
theorem dX5_thing_18 : decode cX5_thing 18 = .ok (.astore_n 1, 1) := dk_76 (dk_at dksX5_thing_0 18 rfl rfl)
theorem dX5_thing_19 : decode cX5_thing 19 = .ok (.aload_n 1, 1) := dk_43 (dk_at dksX5_thing_0 19 rfl rfl)
theorem dX5_thing_20 : decode cX5_thing 20 = .ok (.aload_n 0, 1) := dk_42 (dk_at dksX5_thing_0 20 rfl rfl)
theorem dX5_thing_21 : decode cX5_thing 21 = .ok (.ldc 119, 2) := dk_18 119 (dk_at dksX5_thing_0 21 rfl rfl)
theorem dX5_thing_23 : decode cX5_thing 23 = .ok (.aload_n 0, 1) := dk_42 (dk_at dksX5_thing_0 23 rfl rfl)
theorem dX5_thing_24 : decode cX5_thing 24 = .ok (.getfield 24, 3) := dk_180 0 24 (dk_at dksX5_thing_1 0 rfl rfl)
theorem dX5_thing_27 : decode cX5_thing 27 = .ok (.getfield 158, 3) := dk_180 0 158 (dk_at dksX5_thing_1 3 rfl rfl)
theorem dX5_thing_30 : decode cX5_thing 30 = .ok (.invokevirtual 216, 3) := dk_182 0 216 (dk_at dksX5_thing_1 6 rfl rfl)
theorem dX5_thing_33 : decode cX5_thing 33 = .ok (.putfield 220, 3) := dk_181 0 220 (dk_at dksX5_thing_1 9 rfl rfl)
theorem dX5_thing_36 : decode cX5_thing 36 = .ok (.aload_n 0, 1) := dk_42 (dk_at dksX5_thing_1 12 rfl rfl)
theorem dX5_thing_37 : decode cX5_thing 37 = .ok (.invokevirtual 90, 3) := dk_182 0 90 (dk_at dksX5_thing_1 13 rfl rfl)
theorem dX5_thing_40 : decode cX5_thing 40 = .ok (.aload_n 1, 1) := dk_43 (dk_at dksX5_thing_1 16 rfl rfl)
theorem dX5_thing_41 : decode cX5_thing 41 = .ok (.aload_n 0, 1) := dk_42 (dk_at dksX5_thing_1 17 rfl rfl)
theorem dX5_thing_42 : decode cX5_thing 42 = .ok (.ldc 121, 2) := dk_18 121 (dk_at dksX5_thing_1 18 rfl rfl)
theorem dX5_thing_44 : decode cX5_thing 44 = .ok (.aload_n 0, 1) := dk_42 (dk_at dksX5_thing_1 20 rfl rfl)
theorem dX5_thing_45 : decode cX5_thing 45 = .ok (.getfield 24, 3) := dk_180 0 24 (dk_at dksX5_thing_1 21 rfl rfl)
theorem dX5_thing_48 : decode cX5_thing 48 = .ok (.getfield 158, 3) := dk_180 0 158 (dk_at dksX5_thing_2 0 rfl rfl)
theorem dX5_thing_51 : decode cX5_thing 51 = .ok (.invokevirtual 216, 3) := dk_182 0 216 (dk_at dksX5_thing_2 3 rfl rfl)
theorem dX5_thing_54 : decode cX5_thing 54 = .ok (.putfield 222, 3) := dk_181 0 222 (dk_at dksX5_thing_2 6 rfl rfl)
theorem dX5_thing_57 : decode cX5_thing 57 = .ok (.aload_n 1, 1) := dk_43 (dk_at dksX5_thing_2 9 rfl rfl)
theorem dX5_thing_58 : decode cX5_thing 58 = .ok (.getfield 222, 3) := dk_180 0 222 (dk_at dksX5_thing_2 10 rfl rfl)
theorem dX5_thing_61 : decode cX5_thing 61 = .ok (.aload_n 1, 1) := dk_43 (dk_at dksX5_thing_2 13 rfl rfl)
theorem dX5_thing_62 : decode cX5_thing 62 = .ok (.getfield 220, 3) := dk_180 0 220 (dk_at dksX5_thing_2 14 rfl rfl)
theorem dX5_thing_65 : decode cX5_thing 65 = .ok (.if_icmp .ne 16, 3) := dk_160 0 16 (dk_at dksX5_thing_2 17 rfl rfl)
theorem dX5_thing_68 : decode cX5_thing 68 = .ok (.new 75, 3) := dk_187 0 75 (dk_at dksX5_thing_2 20 rfl rfl)
theorem dX5_thing_71 : decode cX5_thing 71 = .ok (.dup, 1) := dk_89 (dk_at dksX5_thing_2 23 rfl rfl)
theorem dX5_thing_72 : decode cX5_thing 72 = .ok (.iconst 3, 1) := dk_6 (dk_at dksX5_thing_3 0 rfl rfl)
theorem dX5_thing_73 : decode cX5_thing 73 = .ok (.aload_n 0, 1) := dk_42 (dk_at dksX5_thing_3 1 rfl rfl)
theorem dX5_thing_74 : decode cX5_thing 74 = .ok (.getfield 43, 3) := dk_180 0 43 (dk_at dksX5_thing_3 2 rfl rfl)
theorem dX5_thing_77 : decode cX5_thing 77 = .ok (.invokespecial 77, 3) := dk_183 0 77 (dk_at dksX5_thing_3 5 rfl rfl)
theorem dX5_thing_80 : decode cX5_thing 80 = .ok (.athrow, 1) := dk_191 (dk_at dksX5_thing_3 8 rfl rfl)
theorem dX5_thing_81 : decode cX5_thing 81 = .ok (.aload_n 0, 1) := dk_42 (dk_at dksX5_thing_3 9 rfl rfl)
theorem dX5_thing_82 : decode cX5_thing 82 = .ok (.invokevirtual 90, 3) := dk_182 0 90 (dk_at dksX5_thing_3 10 rfl rfl)
theorem dX5_thing_85 : decode cX5_thing 85 = .ok (.aload_n 1, 1) := dk_43 (dk_at dksX5_thing_3 13 rfl rfl)
theorem dX5_thing_86 : decode cX5_thing 86 = .ok (.aload_n 0, 1) := dk_42 (dk_at dksX5_thing_3 14 rfl rfl)
theorem dX5_thing_87 : decode cX5_thing 87 = .ok (.ldc 123, 2) := dk_18 123 (dk_at dksX5_thing_3 15 rfl rfl)
theorem dX5_thing_89 : decode cX5_thing 89 = .ok (.iconst 1, 1) := dk_4 (dk_at dksX5_thing_3 17 rfl rfl)
theorem dX5_thing_90 : decode cX5_thing 90 = .ok (.bipush 9, 2) := dk_16 9 (dk_at dksX5_thing_3 18 rfl rfl)
theorem dX5_thing_92 : decode cX5_thing 92 = .ok (.invokevirtual 207, 3) := dk_182 0 207 (dk_at dksX5_thing_3 20 rfl rfl)
theorem dX5_thing_95 : decode cX5_thing 95 = .ok (.putfield 224, 3) := dk_181 0 224 (dk_at dksX5_thing_4 0 rfl rfl)
theorem dX5_thing_98 : decode cX5_thing 98 = .ok (.aload_n 0, 1) := dk_42 (dk_at dksX5_thing_4 3 rfl rfl)
theorem dX5_thing_99 : decode cX5_thing 99 = .ok (.ldc 125, 2) := dk_18 125 (dk_at dksX5_thing_4 4 rfl rfl)
theorem dX5_thing_101 : decode cX5_thing 101 = .ok (.invokevirtual 86, 3) := dk_182 0 86 (dk_at dksX5_thing_4 6 rfl rfl)
theorem dX5_thing_104 : decode cX5_thing 104 = .ok (.ifCond .eq 24, 3) := dk_153 0 24 (dk_at dksX5_thing_4 9 rfl rfl)
theorem dX5_thing_107 : decode cX5_thing 107 = .ok (.aload_n 1, 1) := dk_43 (dk_at dksX5_thing_4 12 rfl rfl)
theorem dX5_thing_108 : decode cX5_thing 108 = .ok (.aload_n 0, 1) := dk_42 (dk_at dksX5_thing_4 13 rfl rfl)
theorem dX5_thing_109 : decode cX5_thing 109 = .ok (.ldc 125, 2) := dk_18 125 (dk_at dksX5_thing_4 14 rfl rfl)
theorem dX5_thing_111 : decode cX5_thing 111 = .ok (.aload_n 0, 1) := dk_42 (dk_at dksX5_thing_4 16 rfl rfl)
theorem dX5_thing_112 : decode cX5_thing 112 = .ok (.getfield 24, 3) := dk_180 0 24 (dk_at dksX5_thing_4 17 rfl rfl)
theorem dX5_thing_115 : decode cX5_thing 115 = .ok (.getfield 169, 3) := dk_180 0 169 (dk_at dksX5_thing_4 20 rfl rfl)
theorem dX5_thing_118 : decode cX5_thing 118 = .ok (.invokevirtual 216, 3) := dk_182 0 216 (dk_at dksX5_thing_5 0 rfl rfl)
theorem dX5_thing_121 : decode cX5_thing 121 = .ok (.putfield 226, 3) := dk_181 0 226 (dk_at dksX5_thing_5 3 rfl rfl)
theorem dX5_thing_124 : decode cX5_thing 124 = .ok (.aload_n 0, 1) := dk_42 (dk_at dksX5_thing_5 6 rfl rfl)
theorem dX5_thing_125 : decode cX5_thing 125 = .ok (.invokevirtual 90, 3) := dk_182 0 90 (dk_at dksX5_thing_5 7 rfl rfl)
theorem dX5_thing_128 : decode cX5_thing 128 = .ok (.aload_n 0, 1) := dk_42 (dk_at dksX5_thing_5 10 rfl rfl)
theorem dX5_thing_129 : decode cX5_thing 129 = .ok (.getfield 24, 3) := dk_180 0 24 (dk_at dksX5_thing_5 11 rfl rfl)
theorem dX5_thing_132 : decode cX5_thing 132 = .ok (.getfield 183, 3) := dk_180 0 183 (dk_at dksX5_thing_5 14 rfl rfl)
theorem dX5_thing_135 : decode cX5_thing 135 = .ok (.aload_n 1, 1) := dk_43 (dk_at dksX5_thing_5 17 rfl rfl)
theorem dX5_thing_136 : decode cX5_thing 136 = .ok (.invokevirtual 180, 3) := dk_182 0 180 (dk_at dksX5_thing_5 18 rfl rfl)
theorem dX5_thing_139 : decode cX5_thing 139 = .ok (.pop, 1) := dk_87 (dk_at dksX5_thing_5 21 rfl rfl)
theorem dX5_thing_140 : decode cX5_thing 140 = .ok (.return_, 1) := dk_177 (dk_at dksX5_thing_5 22 rfl rfl)
abbrev cX5_oldName : ByteArray := prog_17_method_15_code
def yX5_oldName : MethodName := ⟨RX5, "oldName", "(Ljava/lang/String;Ljava/util/ArrayList;)I"⟩
def dkwX5_oldName_2 : List UInt8 := [184, 0, 151, 172]
abbrev dktX5_oldName_2 : List UInt8 := dkwX5_oldName_2 ++ []
def dkwX5_oldName_1 : List UInt8 := [184, 0, 151, 156, 0, 16, 187, 0, 75, 89, 8, 42, 180, 0, 43, 183, 0, 77, 191, 44, 42, 180, 0, 17]
abbrev dktX5_oldName_1 : List UInt8 := dkwX5_oldName_1 ++ dktX5_oldName_2
def dkwX5_oldName_0 : List UInt8 := [42, 43, 182, 0, 100, 42, 182, 0, 147, 154, 0, 8, 42, 182, 0, 96, 191, 44, 42, 180, 0, 17]
abbrev dktX5_oldName_0 : List UInt8 := dkwX5_oldName_0 ++ dktX5_oldName_1
theorem dksX5_oldName_0 : cX5_oldName.data.toList.drop 0 = dktX5_oldName_0 := by decide +kernel
theorem dksX5_oldName_1 : cX5_oldName.data.toList.drop 22 = dktX5_oldName_1 := dk_seg dksX5_oldName_0 22 rfl rfl
theorem dksX5_oldName_2 : cX5_oldName.data.toList.drop 46 = dktX5_oldName_2 := dk_seg dksX5_oldName_1 24 rfl rfl
theorem dX5_oldName_0 : decode cX5_oldName 0 = .ok (.aload_n 0, 1) := dk_42 (dk_at dksX5_oldName_0 0 rfl rfl)
theorem dX5_oldName_1 : decode cX5_oldName 1 = .ok (.aload_n 1, 1) := dk_43 (dk_at dksX5_oldName_0 1 rfl rfl)
theorem dX5_oldName_2 : decode cX5_oldName 2 = .ok (.invokevirtual 100, 3) := dk_182 0 100 (dk_at dksX5_oldName_0 2 rfl rfl)
theorem dX5_oldName_5 : decode cX5_oldName 5 = .ok (.aload_n 0, 1) := dk_42 (dk_at dksX5_oldName_0 5 rfl rfl)
theorem dX5_oldName_6 : decode cX5_oldName 6 = .ok (.invokevirtual 147, 3) := dk_182 0 147 (dk_at dksX5_oldName_0 6 rfl rfl)
theorem dX5_oldName_9 : decode cX5_oldName 9 = .ok (.ifCond .ne 8, 3) := dk_154 0 8 (dk_at dksX5_oldName_0 9 rfl rfl)
theorem dX5_oldName_12 : decode cX5_oldName 12 = .ok (.aload_n 0, 1) := dk_42 (dk_at dksX5_oldName_0 12 rfl rfl)
theorem dX5_oldName_13 : decode cX5_oldName 13 = .ok (.invokevirtual 96, 3) := dk_182 0 96 (dk_at dksX5_oldName_0 13 rfl rfl)
theorem dX5_oldName_16 : decode cX5_oldName 16 = .ok (.athrow, 1) := dk_191 (dk_at dksX5_oldName_0 16 rfl rfl)
theorem dX5_oldName_17 : decode cX5_oldName 17 = .ok (.aload_n 2, 1) := dk_44 (dk_at dksX5_oldName_0 17 rfl rfl)
theorem dX5_oldName_18 : decode cX5_oldName 18 = .ok (.aload_n 0, 1) := dk_42 (dk_at dksX5_oldName_0 18 rfl rfl)
theorem dX5_oldName_19 : decode cX5_oldName 19 = .ok (.getfield 17, 3) := dk_180 0 17 (dk_at dksX5_oldName_0 19 rfl rfl)
theorem dX5_oldName_22 : decode cX5_oldName 22 = .ok (.invokestatic 151, 3) := dk_184 0 151 (dk_at dksX5_oldName_1 0 rfl rfl)
theorem dX5_oldName_25 : decode cX5_oldName 25 = .ok (.ifCond .ge 16, 3) := dk_156 0 16 (dk_at dksX5_oldName_1 3 rfl rfl)
theorem dX5_oldName_28 : decode cX5_oldName 28 = .ok (.new 75, 3) := dk_187 0 75 (dk_at dksX5_oldName_1 6 rfl rfl)
theorem dX5_oldName_31 : decode cX5_oldName 31 = .ok (.dup, 1) := dk_89 (dk_at dksX5_oldName_1 9 rfl rfl)
theorem dX5_oldName_32 : decode cX5_oldName 32 = .ok (.iconst 5, 1) := dk_8 (dk_at dksX5_oldName_1 10 rfl rfl)
theorem dX5_oldName_33 : decode cX5_oldName 33 = .ok (.aload_n 0, 1) := dk_42 (dk_at dksX5_oldName_1 11 rfl rfl)
theorem dX5_oldName_34 : decode cX5_oldName 34 = .ok (.getfield 43, 3) := dk_180 0 43 (dk_at dksX5_oldName_1 12 rfl rfl)
theorem dX5_oldName_37 : decode cX5_oldName 37 = .ok (.invokespecial 77, 3) := dk_183 0 77 (dk_at dksX5_oldName_1 15 rfl rfl)
theorem dX5_oldName_40 : decode cX5_oldName 40 = .ok (.athrow, 1) := dk_191 (dk_at dksX5_oldName_1 18 rfl rfl)
theorem dX5_oldName_41 : decode cX5_oldName 41 = .ok (.aload_n 2, 1) := dk_44 (dk_at dksX5_oldName_1 19 rfl rfl)
theorem dX5_oldName_42 : decode cX5_oldName 42 = .ok (.aload_n 0, 1) := dk_42 (dk_at dksX5_oldName_1 20 rfl rfl)
theorem dX5_oldName_43 : decode cX5_oldName 43 = .ok (.getfield 17, 3) := dk_180 0 17 (dk_at dksX5_oldName_1 21 rfl rfl)
theorem dX5_oldName_46 : decode cX5_oldName 46 = .ok (.invokestatic 151, 3) := dk_184 0 151 (dk_at dksX5_oldName_2 0 rfl rfl)
theorem dX5_oldName_49 : decode cX5_oldName 49 = .ok (.ireturn, 1) := dk_172 (dk_at dksX5_oldName_2 3 rfl rfl)
abbrev cX5_said : ByteArray := prog_17_method_20_code
def yX5_said : MethodName := ⟨RX5, "said", "()V"⟩
def dkwX5_said_0 : List UInt8 := [42, 182, 0, 90, 42, 180, 0, 24, 42, 182, 0, 228, 181, 0, 188, 177]
abbrev dktX5_said_0 : List UInt8 := dkwX5_said_0 ++ []
theorem dksX5_said_0 : cX5_said.data.toList.drop 0 = dktX5_said_0 := by decide +kernel
theorem dX5_said_0 : decode cX5_said 0 = .ok (.aload_n 0, 1) := dk_42 (dk_at dksX5_said_0 0 rfl rfl)
theorem dX5_said_1 : decode cX5_said 1 = .ok (.invokevirtual 90, 3) := dk_182 0 90 (dk_at dksX5_said_0 1 rfl rfl)
theorem dX5_said_4 : decode cX5_said 4 = .ok (.aload_n 0, 1) := dk_42 (dk_at dksX5_said_0 4 rfl rfl)
theorem dX5_said_5 : decode cX5_said 5 = .ok (.getfield 24, 3) := dk_180 0 24 (dk_at dksX5_said_0 5 rfl rfl)
theorem dX5_said_8 : decode cX5_said 8 = .ok (.aload_n 0, 1) := dk_42 (dk_at dksX5_said_0 8 rfl rfl)
theorem dX5_said_9 : decode cX5_said 9 = .ok (.invokevirtual 228, 3) := dk_182 0 228 (dk_at dksX5_said_0 9 rfl rfl)
theorem dX5_said_12 : decode cX5_said 12 = .ok (.putfield 188, 3) := dk_181 0 188 (dk_at dksX5_said_0 12 rfl rfl)
theorem dX5_said_15 : decode cX5_said 15 = .ok (.return_, 1) := dk_177 (dk_at dksX5_said_0 15 rfl rfl)
abbrev cX5_e : ByteArray := prog_17_method_23_code
def yX5_e : MethodName := ⟨RX5, "e", "()LPepperTables$Node;"⟩
def dkwX5_e_0 : List UInt8 := [42, 3, 181, 0, 237, 42, 3, 181, 0, 240, 42, 182, 0, 243, 176]
abbrev dktX5_e_0 : List UInt8 := dkwX5_e_0 ++ []
theorem dksX5_e_0 : cX5_e.data.toList.drop 0 = dktX5_e_0 := by decide +kernel
theorem dX5_e_0 : decode cX5_e 0 = .ok (.aload_n 0, 1) := dk_42 (dk_at dksX5_e_0 0 rfl rfl)
theorem dX5_e_1 : decode cX5_e 1 = .ok (.iconst 0, 1) := dk_3 (dk_at dksX5_e_0 1 rfl rfl)
theorem dX5_e_2 : decode cX5_e 2 = .ok (.putfield 237, 3) := dk_181 0 237 (dk_at dksX5_e_0 2 rfl rfl)
theorem dX5_e_5 : decode cX5_e 5 = .ok (.aload_n 0, 1) := dk_42 (dk_at dksX5_e_0 5 rfl rfl)
theorem dX5_e_6 : decode cX5_e 6 = .ok (.iconst 0, 1) := dk_3 (dk_at dksX5_e_0 6 rfl rfl)
theorem dX5_e_7 : decode cX5_e 7 = .ok (.putfield 240, 3) := dk_181 0 240 (dk_at dksX5_e_0 7 rfl rfl)
theorem dX5_e_10 : decode cX5_e 10 = .ok (.aload_n 0, 1) := dk_42 (dk_at dksX5_e_0 10 rfl rfl)
theorem dX5_e_11 : decode cX5_e 11 = .ok (.invokevirtual 243, 3) := dk_182 0 243 (dk_at dksX5_e_0 11 rfl rfl)
theorem dX5_e_14 : decode cX5_e 14 = .ok (.areturn, 1) := dk_176 (dk_at dksX5_e_0 14 rfl rfl)
abbrev cX5_both : ByteArray := prog_17_method_24_code
def yX5_both : MethodName := ⟨RX5, "both", "()LPepperTables$Node;"⟩
def dkwX5_both_1 : List UInt8 := [16, 124, 183, 0, 251, 76, 167, 255, 232, 43, 176]
abbrev dktX5_both_1 : List UInt8 := dkwX5_both_1 ++ []
def dkwX5_both_0 : List UInt8 := [42, 182, 0, 246, 76, 42, 18, 143, 182, 0, 93, 153, 0, 21, 187, 0, 249, 89, 43, 42, 182, 0, 246]
abbrev dktX5_both_0 : List UInt8 := dkwX5_both_0 ++ dktX5_both_1
theorem dksX5_both_0 : cX5_both.data.toList.drop 0 = dktX5_both_0 := by decide +kernel
theorem dksX5_both_1 : cX5_both.data.toList.drop 23 = dktX5_both_1 := dk_seg dksX5_both_0 23 rfl rfl
theorem dX5_both_0 : decode cX5_both 0 = .ok (.aload_n 0, 1) := dk_42 (dk_at dksX5_both_0 0 rfl rfl)
theorem dX5_both_1 : decode cX5_both 1 = .ok (.invokevirtual 246, 3) := dk_182 0 246 (dk_at dksX5_both_0 1 rfl rfl)
theorem dX5_both_4 : decode cX5_both 4 = .ok (.astore_n 1, 1) := dk_76 (dk_at dksX5_both_0 4 rfl rfl)
theorem dX5_both_5 : decode cX5_both 5 = .ok (.aload_n 0, 1) := dk_42 (dk_at dksX5_both_0 5 rfl rfl)
theorem dX5_both_6 : decode cX5_both 6 = .ok (.ldc 143, 2) := dk_18 143 (dk_at dksX5_both_0 6 rfl rfl)
theorem dX5_both_8 : decode cX5_both 8 = .ok (.invokevirtual 93, 3) := dk_182 0 93 (dk_at dksX5_both_0 8 rfl rfl)
theorem dX5_both_11 : decode cX5_both 11 = .ok (.ifCond .eq 21, 3) := dk_153 0 21 (dk_at dksX5_both_0 11 rfl rfl)
theorem dX5_both_14 : decode cX5_both 14 = .ok (.new 249, 3) := dk_187 0 249 (dk_at dksX5_both_0 14 rfl rfl)
theorem dX5_both_17 : decode cX5_both 17 = .ok (.dup, 1) := dk_89 (dk_at dksX5_both_0 17 rfl rfl)
theorem dX5_both_18 : decode cX5_both 18 = .ok (.aload_n 1, 1) := dk_43 (dk_at dksX5_both_0 18 rfl rfl)
theorem dX5_both_19 : decode cX5_both 19 = .ok (.aload_n 0, 1) := dk_42 (dk_at dksX5_both_0 19 rfl rfl)
theorem dX5_both_20 : decode cX5_both 20 = .ok (.invokevirtual 246, 3) := dk_182 0 246 (dk_at dksX5_both_0 20 rfl rfl)
theorem dX5_both_23 : decode cX5_both 23 = .ok (.bipush 124, 2) := dk_16 124 (dk_at dksX5_both_1 0 rfl rfl)
theorem dX5_both_25 : decode cX5_both 25 = .ok (.invokespecial 251, 3) := dk_183 0 251 (dk_at dksX5_both_1 2 rfl rfl)
theorem dX5_both_28 : decode cX5_both 28 = .ok (.astore_n 1, 1) := dk_76 (dk_at dksX5_both_1 5 rfl rfl)
theorem dX5_both_29 : decode cX5_both 29 = .ok (.goto (-24), 3) := dk_167 255 232 (dk_at dksX5_both_1 6 rfl rfl)
theorem dX5_both_32 : decode cX5_both 32 = .ok (.aload_n 1, 1) := dk_43 (dk_at dksX5_both_1 9 rfl rfl)
theorem dX5_both_33 : decode cX5_both 33 = .ok (.areturn, 1) := dk_176 (dk_at dksX5_both_1 10 rfl rfl)
abbrev cX5_all : ByteArray := prog_17_method_25_code
def yX5_all : MethodName := ⟨RX5, "all", "()LPepperTables$Node;"⟩
def dkwX5_all_1 : List UInt8 := [16, 38, 183, 0, 251, 76, 167, 255, 232, 43, 176]
abbrev dktX5_all_1 : List UInt8 := dkwX5_all_1 ++ []
def dkwX5_all_0 : List UInt8 := [42, 182, 0, 254, 76, 42, 18, 141, 182, 0, 93, 153, 0, 21, 187, 0, 249, 89, 43, 42, 182, 0, 254]
abbrev dktX5_all_0 : List UInt8 := dkwX5_all_0 ++ dktX5_all_1
theorem dksX5_all_0 : cX5_all.data.toList.drop 0 = dktX5_all_0 := by decide +kernel
theorem dksX5_all_1 : cX5_all.data.toList.drop 23 = dktX5_all_1 := dk_seg dksX5_all_0 23 rfl rfl
theorem dX5_all_0 : decode cX5_all 0 = .ok (.aload_n 0, 1) := dk_42 (dk_at dksX5_all_0 0 rfl rfl)
theorem dX5_all_1 : decode cX5_all 1 = .ok (.invokevirtual 254, 3) := dk_182 0 254 (dk_at dksX5_all_0 1 rfl rfl)
theorem dX5_all_4 : decode cX5_all 4 = .ok (.astore_n 1, 1) := dk_76 (dk_at dksX5_all_0 4 rfl rfl)
theorem dX5_all_5 : decode cX5_all 5 = .ok (.aload_n 0, 1) := dk_42 (dk_at dksX5_all_0 5 rfl rfl)
theorem dX5_all_6 : decode cX5_all 6 = .ok (.ldc 141, 2) := dk_18 141 (dk_at dksX5_all_0 6 rfl rfl)
theorem dX5_all_8 : decode cX5_all 8 = .ok (.invokevirtual 93, 3) := dk_182 0 93 (dk_at dksX5_all_0 8 rfl rfl)
theorem dX5_all_11 : decode cX5_all 11 = .ok (.ifCond .eq 21, 3) := dk_153 0 21 (dk_at dksX5_all_0 11 rfl rfl)
theorem dX5_all_14 : decode cX5_all 14 = .ok (.new 249, 3) := dk_187 0 249 (dk_at dksX5_all_0 14 rfl rfl)
theorem dX5_all_17 : decode cX5_all 17 = .ok (.dup, 1) := dk_89 (dk_at dksX5_all_0 17 rfl rfl)
theorem dX5_all_18 : decode cX5_all 18 = .ok (.aload_n 1, 1) := dk_43 (dk_at dksX5_all_0 18 rfl rfl)
theorem dX5_all_19 : decode cX5_all 19 = .ok (.aload_n 0, 1) := dk_42 (dk_at dksX5_all_0 19 rfl rfl)
theorem dX5_all_20 : decode cX5_all 20 = .ok (.invokevirtual 254, 3) := dk_182 0 254 (dk_at dksX5_all_0 20 rfl rfl)
theorem dX5_all_23 : decode cX5_all 23 = .ok (.bipush 38, 2) := dk_16 38 (dk_at dksX5_all_1 0 rfl rfl)
theorem dX5_all_25 : decode cX5_all 25 = .ok (.invokespecial 251, 3) := dk_183 0 251 (dk_at dksX5_all_1 2 rfl rfl)
theorem dX5_all_28 : decode cX5_all 28 = .ok (.astore_n 1, 1) := dk_76 (dk_at dksX5_all_1 5 rfl rfl)
theorem dX5_all_29 : decode cX5_all 29 = .ok (.goto (-24), 3) := dk_167 255 232 (dk_at dksX5_all_1 6 rfl rfl)
theorem dX5_all_32 : decode cX5_all 32 = .ok (.aload_n 1, 1) := dk_43 (dk_at dksX5_all_1 9 rfl rfl)
theorem dX5_all_33 : decode cX5_all 33 = .ok (.areturn, 1) := dk_176 (dk_at dksX5_all_1 10 rfl rfl)
abbrev cX5_one : ByteArray := prog_17_method_26_code
def yX5_one : MethodName := ⟨RX5, "one", "()LPepperTables$Node;"⟩
def dkwX5_one_4 : List UInt8 := [180, 0, 46, 146, 61, 42, 182, 0, 90, 187, 0, 249, 89, 43, 42, 182, 1, 6, 28, 183, 0, 251, 176]
abbrev dktX5_one_4 : List UInt8 := dkwX5_one_4 ++ []
def dkwX5_one_3 : List UInt8 := [159, 0, 23, 42, 180, 0, 46, 16, 62, 159, 0, 14, 42, 180, 0, 46, 16, 61, 159, 0, 5, 43, 176, 42]
abbrev dktX5_one_3 : List UInt8 := dkwX5_one_3 ++ dktX5_one_4
def dkwX5_one_2 : List UInt8 := [76, 42, 89, 180, 0, 237, 4, 100, 181, 0, 237, 43, 176, 42, 182, 1, 6, 76, 42, 180, 0, 46, 16, 60]
abbrev dktX5_one_2 : List UInt8 := dkwX5_one_2 ++ dktX5_one_3
def dkwX5_one_1 : List UInt8 := [89, 180, 0, 237, 4, 96, 181, 0, 237, 42, 182, 0, 90, 187, 1, 1, 89, 42, 182, 0, 254, 183, 1, 3]
abbrev dktX5_one_1 : List UInt8 := dkwX5_one_1 ++ dktX5_one_2
def dkwX5_one_0 : List UInt8 := [42, 18, 145, 182, 0, 86, 153, 0, 55, 42, 180, 0, 237, 16, 6, 164, 0, 8, 42, 182, 0, 96, 191, 42]
abbrev dktX5_one_0 : List UInt8 := dkwX5_one_0 ++ dktX5_one_1
theorem dksX5_one_0 : cX5_one.data.toList.drop 0 = dktX5_one_0 := by decide +kernel
theorem dksX5_one_1 : cX5_one.data.toList.drop 24 = dktX5_one_1 := dk_seg dksX5_one_0 24 rfl rfl
theorem dksX5_one_2 : cX5_one.data.toList.drop 48 = dktX5_one_2 := dk_seg dksX5_one_1 24 rfl rfl
theorem dksX5_one_3 : cX5_one.data.toList.drop 72 = dktX5_one_3 := dk_seg dksX5_one_2 24 rfl rfl
theorem dksX5_one_4 : cX5_one.data.toList.drop 96 = dktX5_one_4 := dk_seg dksX5_one_3 24 rfl rfl
theorem dX5_one_0 : decode cX5_one 0 = .ok (.aload_n 0, 1) := dk_42 (dk_at dksX5_one_0 0 rfl rfl)
theorem dX5_one_1 : decode cX5_one 1 = .ok (.ldc 145, 2) := dk_18 145 (dk_at dksX5_one_0 1 rfl rfl)
theorem dX5_one_3 : decode cX5_one 3 = .ok (.invokevirtual 86, 3) := dk_182 0 86 (dk_at dksX5_one_0 3 rfl rfl)
theorem dX5_one_6 : decode cX5_one 6 = .ok (.ifCond .eq 55, 3) := dk_153 0 55 (dk_at dksX5_one_0 6 rfl rfl)
theorem dX5_one_9 : decode cX5_one 9 = .ok (.aload_n 0, 1) := dk_42 (dk_at dksX5_one_0 9 rfl rfl)
theorem dX5_one_10 : decode cX5_one 10 = .ok (.getfield 237, 3) := dk_180 0 237 (dk_at dksX5_one_0 10 rfl rfl)
theorem dX5_one_13 : decode cX5_one 13 = .ok (.bipush 6, 2) := dk_16 6 (dk_at dksX5_one_0 13 rfl rfl)
theorem dX5_one_15 : decode cX5_one 15 = .ok (.if_icmp .le 8, 3) := dk_164 0 8 (dk_at dksX5_one_0 15 rfl rfl)
theorem dX5_one_18 : decode cX5_one 18 = .ok (.aload_n 0, 1) := dk_42 (dk_at dksX5_one_0 18 rfl rfl)
theorem dX5_one_19 : decode cX5_one 19 = .ok (.invokevirtual 96, 3) := dk_182 0 96 (dk_at dksX5_one_0 19 rfl rfl)
theorem dX5_one_22 : decode cX5_one 22 = .ok (.athrow, 1) := dk_191 (dk_at dksX5_one_0 22 rfl rfl)
theorem dX5_one_23 : decode cX5_one 23 = .ok (.aload_n 0, 1) := dk_42 (dk_at dksX5_one_0 23 rfl rfl)
theorem dX5_one_24 : decode cX5_one 24 = .ok (.dup, 1) := dk_89 (dk_at dksX5_one_1 0 rfl rfl)
theorem dX5_one_25 : decode cX5_one 25 = .ok (.getfield 237, 3) := dk_180 0 237 (dk_at dksX5_one_1 1 rfl rfl)
theorem dX5_one_28 : decode cX5_one 28 = .ok (.iconst 1, 1) := dk_4 (dk_at dksX5_one_1 4 rfl rfl)
theorem dX5_one_29 : decode cX5_one 29 = .ok (.iadd, 1) := dk_96 (dk_at dksX5_one_1 5 rfl rfl)
theorem dX5_one_30 : decode cX5_one 30 = .ok (.putfield 237, 3) := dk_181 0 237 (dk_at dksX5_one_1 6 rfl rfl)
theorem dX5_one_33 : decode cX5_one 33 = .ok (.aload_n 0, 1) := dk_42 (dk_at dksX5_one_1 9 rfl rfl)
theorem dX5_one_34 : decode cX5_one 34 = .ok (.invokevirtual 90, 3) := dk_182 0 90 (dk_at dksX5_one_1 10 rfl rfl)
theorem dX5_one_37 : decode cX5_one 37 = .ok (.new 257, 3) := dk_187 1 1 (dk_at dksX5_one_1 13 rfl rfl)
theorem dX5_one_40 : decode cX5_one 40 = .ok (.dup, 1) := dk_89 (dk_at dksX5_one_1 16 rfl rfl)
theorem dX5_one_41 : decode cX5_one 41 = .ok (.aload_n 0, 1) := dk_42 (dk_at dksX5_one_1 17 rfl rfl)
theorem dX5_one_42 : decode cX5_one 42 = .ok (.invokevirtual 254, 3) := dk_182 0 254 (dk_at dksX5_one_1 18 rfl rfl)
theorem dX5_one_45 : decode cX5_one 45 = .ok (.invokespecial 259, 3) := dk_183 1 3 (dk_at dksX5_one_1 21 rfl rfl)
theorem dX5_one_48 : decode cX5_one 48 = .ok (.astore_n 1, 1) := dk_76 (dk_at dksX5_one_2 0 rfl rfl)
theorem dX5_one_49 : decode cX5_one 49 = .ok (.aload_n 0, 1) := dk_42 (dk_at dksX5_one_2 1 rfl rfl)
theorem dX5_one_50 : decode cX5_one 50 = .ok (.dup, 1) := dk_89 (dk_at dksX5_one_2 2 rfl rfl)
theorem dX5_one_51 : decode cX5_one 51 = .ok (.getfield 237, 3) := dk_180 0 237 (dk_at dksX5_one_2 3 rfl rfl)
theorem dX5_one_54 : decode cX5_one 54 = .ok (.iconst 1, 1) := dk_4 (dk_at dksX5_one_2 6 rfl rfl)
theorem dX5_one_55 : decode cX5_one 55 = .ok (.isub, 1) := dk_100 (dk_at dksX5_one_2 7 rfl rfl)
theorem dX5_one_56 : decode cX5_one 56 = .ok (.putfield 237, 3) := dk_181 0 237 (dk_at dksX5_one_2 8 rfl rfl)
theorem dX5_one_59 : decode cX5_one 59 = .ok (.aload_n 1, 1) := dk_43 (dk_at dksX5_one_2 11 rfl rfl)
theorem dX5_one_60 : decode cX5_one 60 = .ok (.areturn, 1) := dk_176 (dk_at dksX5_one_2 12 rfl rfl)
theorem dX5_one_61 : decode cX5_one 61 = .ok (.aload_n 0, 1) := dk_42 (dk_at dksX5_one_2 13 rfl rfl)
theorem dX5_one_62 : decode cX5_one 62 = .ok (.invokevirtual 262, 3) := dk_182 1 6 (dk_at dksX5_one_2 14 rfl rfl)
theorem dX5_one_65 : decode cX5_one 65 = .ok (.astore_n 1, 1) := dk_76 (dk_at dksX5_one_2 17 rfl rfl)
theorem dX5_one_66 : decode cX5_one 66 = .ok (.aload_n 0, 1) := dk_42 (dk_at dksX5_one_2 18 rfl rfl)
theorem dX5_one_67 : decode cX5_one 67 = .ok (.getfield 46, 3) := dk_180 0 46 (dk_at dksX5_one_2 19 rfl rfl)
theorem dX5_one_70 : decode cX5_one 70 = .ok (.bipush 60, 2) := dk_16 60 (dk_at dksX5_one_2 22 rfl rfl)
theorem dX5_one_72 : decode cX5_one 72 = .ok (.if_icmp .eq 23, 3) := dk_159 0 23 (dk_at dksX5_one_3 0 rfl rfl)
theorem dX5_one_75 : decode cX5_one 75 = .ok (.aload_n 0, 1) := dk_42 (dk_at dksX5_one_3 3 rfl rfl)
theorem dX5_one_76 : decode cX5_one 76 = .ok (.getfield 46, 3) := dk_180 0 46 (dk_at dksX5_one_3 4 rfl rfl)
theorem dX5_one_79 : decode cX5_one 79 = .ok (.bipush 62, 2) := dk_16 62 (dk_at dksX5_one_3 7 rfl rfl)
theorem dX5_one_81 : decode cX5_one 81 = .ok (.if_icmp .eq 14, 3) := dk_159 0 14 (dk_at dksX5_one_3 9 rfl rfl)
theorem dX5_one_84 : decode cX5_one 84 = .ok (.aload_n 0, 1) := dk_42 (dk_at dksX5_one_3 12 rfl rfl)
theorem dX5_one_85 : decode cX5_one 85 = .ok (.getfield 46, 3) := dk_180 0 46 (dk_at dksX5_one_3 13 rfl rfl)
theorem dX5_one_88 : decode cX5_one 88 = .ok (.bipush 61, 2) := dk_16 61 (dk_at dksX5_one_3 16 rfl rfl)
theorem dX5_one_90 : decode cX5_one 90 = .ok (.if_icmp .eq 5, 3) := dk_159 0 5 (dk_at dksX5_one_3 18 rfl rfl)
theorem dX5_one_93 : decode cX5_one 93 = .ok (.aload_n 1, 1) := dk_43 (dk_at dksX5_one_3 21 rfl rfl)
theorem dX5_one_94 : decode cX5_one 94 = .ok (.areturn, 1) := dk_176 (dk_at dksX5_one_3 22 rfl rfl)
theorem dX5_one_95 : decode cX5_one 95 = .ok (.aload_n 0, 1) := dk_42 (dk_at dksX5_one_3 23 rfl rfl)
theorem dX5_one_96 : decode cX5_one 96 = .ok (.getfield 46, 3) := dk_180 0 46 (dk_at dksX5_one_4 0 rfl rfl)
theorem dX5_one_99 : decode cX5_one 99 = .ok (.i2c, 1) := dk_146 (dk_at dksX5_one_4 3 rfl rfl)
theorem dX5_one_100 : decode cX5_one 100 = .ok (.istore_n 2, 1) := dk_61 (dk_at dksX5_one_4 4 rfl rfl)
theorem dX5_one_101 : decode cX5_one 101 = .ok (.aload_n 0, 1) := dk_42 (dk_at dksX5_one_4 5 rfl rfl)
theorem dX5_one_102 : decode cX5_one 102 = .ok (.invokevirtual 90, 3) := dk_182 0 90 (dk_at dksX5_one_4 6 rfl rfl)
theorem dX5_one_105 : decode cX5_one 105 = .ok (.new 249, 3) := dk_187 0 249 (dk_at dksX5_one_4 9 rfl rfl)
theorem dX5_one_108 : decode cX5_one 108 = .ok (.dup, 1) := dk_89 (dk_at dksX5_one_4 12 rfl rfl)
theorem dX5_one_109 : decode cX5_one 109 = .ok (.aload_n 1, 1) := dk_43 (dk_at dksX5_one_4 13 rfl rfl)
theorem dX5_one_110 : decode cX5_one 110 = .ok (.aload_n 0, 1) := dk_42 (dk_at dksX5_one_4 14 rfl rfl)
theorem dX5_one_111 : decode cX5_one 111 = .ok (.invokevirtual 262, 3) := dk_182 1 6 (dk_at dksX5_one_4 15 rfl rfl)
theorem dX5_one_114 : decode cX5_one 114 = .ok (.iload_n 2, 1) := dk_28 (dk_at dksX5_one_4 18 rfl rfl)
theorem dX5_one_115 : decode cX5_one 115 = .ok (.invokespecial 251, 3) := dk_183 0 251 (dk_at dksX5_one_4 19 rfl rfl)
theorem dX5_one_118 : decode cX5_one 118 = .ok (.areturn, 1) := dk_176 (dk_at dksX5_one_4 22 rfl rfl)
abbrev cX5_sum : ByteArray := prog_17_method_27_code
def yX5_sum : MethodName := ⟨RX5, "sum", "()LPepperTables$Node;"⟩
def dkwX5_sum_2 : List UInt8 := [167, 255, 214, 43, 176]
abbrev dktX5_sum_2 : List UInt8 := dkwX5_sum_2 ++ []
def dkwX5_sum_1 : List UInt8 := [180, 0, 46, 146, 61, 42, 182, 0, 90, 187, 0, 249, 89, 43, 42, 182, 1, 9, 28, 183, 0, 251, 76]
abbrev dktX5_sum_1 : List UInt8 := dkwX5_sum_1 ++ dktX5_sum_2
def dkwX5_sum_0 : List UInt8 := [42, 182, 1, 9, 76, 42, 180, 0, 46, 16, 43, 159, 0, 12, 42, 180, 0, 46, 16, 45, 160, 0, 30, 42]
abbrev dktX5_sum_0 : List UInt8 := dkwX5_sum_0 ++ dktX5_sum_1
theorem dksX5_sum_0 : cX5_sum.data.toList.drop 0 = dktX5_sum_0 := by decide +kernel
theorem dksX5_sum_1 : cX5_sum.data.toList.drop 24 = dktX5_sum_1 := dk_seg dksX5_sum_0 24 rfl rfl
theorem dksX5_sum_2 : cX5_sum.data.toList.drop 47 = dktX5_sum_2 := dk_seg dksX5_sum_1 23 rfl rfl
theorem dX5_sum_0 : decode cX5_sum 0 = .ok (.aload_n 0, 1) := dk_42 (dk_at dksX5_sum_0 0 rfl rfl)
theorem dX5_sum_1 : decode cX5_sum 1 = .ok (.invokevirtual 265, 3) := dk_182 1 9 (dk_at dksX5_sum_0 1 rfl rfl)
theorem dX5_sum_4 : decode cX5_sum 4 = .ok (.astore_n 1, 1) := dk_76 (dk_at dksX5_sum_0 4 rfl rfl)
theorem dX5_sum_5 : decode cX5_sum 5 = .ok (.aload_n 0, 1) := dk_42 (dk_at dksX5_sum_0 5 rfl rfl)
theorem dX5_sum_6 : decode cX5_sum 6 = .ok (.getfield 46, 3) := dk_180 0 46 (dk_at dksX5_sum_0 6 rfl rfl)
theorem dX5_sum_9 : decode cX5_sum 9 = .ok (.bipush 43, 2) := dk_16 43 (dk_at dksX5_sum_0 9 rfl rfl)
theorem dX5_sum_11 : decode cX5_sum 11 = .ok (.if_icmp .eq 12, 3) := dk_159 0 12 (dk_at dksX5_sum_0 11 rfl rfl)
theorem dX5_sum_14 : decode cX5_sum 14 = .ok (.aload_n 0, 1) := dk_42 (dk_at dksX5_sum_0 14 rfl rfl)
theorem dX5_sum_15 : decode cX5_sum 15 = .ok (.getfield 46, 3) := dk_180 0 46 (dk_at dksX5_sum_0 15 rfl rfl)
theorem dX5_sum_18 : decode cX5_sum 18 = .ok (.bipush 45, 2) := dk_16 45 (dk_at dksX5_sum_0 18 rfl rfl)
theorem dX5_sum_20 : decode cX5_sum 20 = .ok (.if_icmp .ne 30, 3) := dk_160 0 30 (dk_at dksX5_sum_0 20 rfl rfl)
theorem dX5_sum_23 : decode cX5_sum 23 = .ok (.aload_n 0, 1) := dk_42 (dk_at dksX5_sum_0 23 rfl rfl)
theorem dX5_sum_24 : decode cX5_sum 24 = .ok (.getfield 46, 3) := dk_180 0 46 (dk_at dksX5_sum_1 0 rfl rfl)
theorem dX5_sum_27 : decode cX5_sum 27 = .ok (.i2c, 1) := dk_146 (dk_at dksX5_sum_1 3 rfl rfl)
theorem dX5_sum_28 : decode cX5_sum 28 = .ok (.istore_n 2, 1) := dk_61 (dk_at dksX5_sum_1 4 rfl rfl)
theorem dX5_sum_29 : decode cX5_sum 29 = .ok (.aload_n 0, 1) := dk_42 (dk_at dksX5_sum_1 5 rfl rfl)
theorem dX5_sum_30 : decode cX5_sum 30 = .ok (.invokevirtual 90, 3) := dk_182 0 90 (dk_at dksX5_sum_1 6 rfl rfl)
theorem dX5_sum_33 : decode cX5_sum 33 = .ok (.new 249, 3) := dk_187 0 249 (dk_at dksX5_sum_1 9 rfl rfl)
theorem dX5_sum_36 : decode cX5_sum 36 = .ok (.dup, 1) := dk_89 (dk_at dksX5_sum_1 12 rfl rfl)
theorem dX5_sum_37 : decode cX5_sum 37 = .ok (.aload_n 1, 1) := dk_43 (dk_at dksX5_sum_1 13 rfl rfl)
theorem dX5_sum_38 : decode cX5_sum 38 = .ok (.aload_n 0, 1) := dk_42 (dk_at dksX5_sum_1 14 rfl rfl)
theorem dX5_sum_39 : decode cX5_sum 39 = .ok (.invokevirtual 265, 3) := dk_182 1 9 (dk_at dksX5_sum_1 15 rfl rfl)
theorem dX5_sum_42 : decode cX5_sum 42 = .ok (.iload_n 2, 1) := dk_28 (dk_at dksX5_sum_1 18 rfl rfl)
theorem dX5_sum_43 : decode cX5_sum 43 = .ok (.invokespecial 251, 3) := dk_183 0 251 (dk_at dksX5_sum_1 19 rfl rfl)
theorem dX5_sum_46 : decode cX5_sum 46 = .ok (.astore_n 1, 1) := dk_76 (dk_at dksX5_sum_1 22 rfl rfl)
theorem dX5_sum_47 : decode cX5_sum 47 = .ok (.goto (-42), 3) := dk_167 255 214 (dk_at dksX5_sum_2 0 rfl rfl)
theorem dX5_sum_50 : decode cX5_sum 50 = .ok (.aload_n 1, 1) := dk_43 (dk_at dksX5_sum_2 3 rfl rfl)
theorem dX5_sum_51 : decode cX5_sum 51 = .ok (.areturn, 1) := dk_176 (dk_at dksX5_sum_2 4 rfl rfl)
abbrev cX5_term : ByteArray := prog_17_method_28_code
def yX5_term : MethodName := ⟨RX5, "term", "()LPepperTables$Node;"⟩
def dkwX5_term_2 : List UInt8 := [182, 1, 12, 28, 183, 0, 251, 76, 167, 255, 205, 43, 176]
abbrev dktX5_term_2 : List UInt8 := dkwX5_term_2 ++ []
def dkwX5_term_1 : List UInt8 := [180, 0, 46, 16, 37, 160, 0, 30, 42, 180, 0, 46, 146, 61, 42, 182, 0, 90, 187, 0, 249, 89, 43, 42]
abbrev dktX5_term_1 : List UInt8 := dkwX5_term_1 ++ dktX5_term_2
def dkwX5_term_0 : List UInt8 := [42, 182, 1, 12, 76, 42, 180, 0, 46, 16, 42, 159, 0, 21, 42, 180, 0, 46, 16, 47, 159, 0, 12, 42]
abbrev dktX5_term_0 : List UInt8 := dkwX5_term_0 ++ dktX5_term_1
theorem dksX5_term_0 : cX5_term.data.toList.drop 0 = dktX5_term_0 := by decide +kernel
theorem dksX5_term_1 : cX5_term.data.toList.drop 24 = dktX5_term_1 := dk_seg dksX5_term_0 24 rfl rfl
theorem dksX5_term_2 : cX5_term.data.toList.drop 48 = dktX5_term_2 := dk_seg dksX5_term_1 24 rfl rfl
theorem dX5_term_0 : decode cX5_term 0 = .ok (.aload_n 0, 1) := dk_42 (dk_at dksX5_term_0 0 rfl rfl)
theorem dX5_term_1 : decode cX5_term 1 = .ok (.invokevirtual 268, 3) := dk_182 1 12 (dk_at dksX5_term_0 1 rfl rfl)
theorem dX5_term_4 : decode cX5_term 4 = .ok (.astore_n 1, 1) := dk_76 (dk_at dksX5_term_0 4 rfl rfl)
theorem dX5_term_5 : decode cX5_term 5 = .ok (.aload_n 0, 1) := dk_42 (dk_at dksX5_term_0 5 rfl rfl)
theorem dX5_term_6 : decode cX5_term 6 = .ok (.getfield 46, 3) := dk_180 0 46 (dk_at dksX5_term_0 6 rfl rfl)
theorem dX5_term_9 : decode cX5_term 9 = .ok (.bipush 42, 2) := dk_16 42 (dk_at dksX5_term_0 9 rfl rfl)
theorem dX5_term_11 : decode cX5_term 11 = .ok (.if_icmp .eq 21, 3) := dk_159 0 21 (dk_at dksX5_term_0 11 rfl rfl)
theorem dX5_term_14 : decode cX5_term 14 = .ok (.aload_n 0, 1) := dk_42 (dk_at dksX5_term_0 14 rfl rfl)
theorem dX5_term_15 : decode cX5_term 15 = .ok (.getfield 46, 3) := dk_180 0 46 (dk_at dksX5_term_0 15 rfl rfl)
theorem dX5_term_18 : decode cX5_term 18 = .ok (.bipush 47, 2) := dk_16 47 (dk_at dksX5_term_0 18 rfl rfl)
theorem dX5_term_20 : decode cX5_term 20 = .ok (.if_icmp .eq 12, 3) := dk_159 0 12 (dk_at dksX5_term_0 20 rfl rfl)
theorem dX5_term_23 : decode cX5_term 23 = .ok (.aload_n 0, 1) := dk_42 (dk_at dksX5_term_0 23 rfl rfl)
theorem dX5_term_24 : decode cX5_term 24 = .ok (.getfield 46, 3) := dk_180 0 46 (dk_at dksX5_term_1 0 rfl rfl)
theorem dX5_term_27 : decode cX5_term 27 = .ok (.bipush 37, 2) := dk_16 37 (dk_at dksX5_term_1 3 rfl rfl)
theorem dX5_term_29 : decode cX5_term 29 = .ok (.if_icmp .ne 30, 3) := dk_160 0 30 (dk_at dksX5_term_1 5 rfl rfl)
theorem dX5_term_32 : decode cX5_term 32 = .ok (.aload_n 0, 1) := dk_42 (dk_at dksX5_term_1 8 rfl rfl)
theorem dX5_term_33 : decode cX5_term 33 = .ok (.getfield 46, 3) := dk_180 0 46 (dk_at dksX5_term_1 9 rfl rfl)
theorem dX5_term_36 : decode cX5_term 36 = .ok (.i2c, 1) := dk_146 (dk_at dksX5_term_1 12 rfl rfl)
theorem dX5_term_37 : decode cX5_term 37 = .ok (.istore_n 2, 1) := dk_61 (dk_at dksX5_term_1 13 rfl rfl)
theorem dX5_term_38 : decode cX5_term 38 = .ok (.aload_n 0, 1) := dk_42 (dk_at dksX5_term_1 14 rfl rfl)
theorem dX5_term_39 : decode cX5_term 39 = .ok (.invokevirtual 90, 3) := dk_182 0 90 (dk_at dksX5_term_1 15 rfl rfl)
theorem dX5_term_42 : decode cX5_term 42 = .ok (.new 249, 3) := dk_187 0 249 (dk_at dksX5_term_1 18 rfl rfl)
theorem dX5_term_45 : decode cX5_term 45 = .ok (.dup, 1) := dk_89 (dk_at dksX5_term_1 21 rfl rfl)
theorem dX5_term_46 : decode cX5_term 46 = .ok (.aload_n 1, 1) := dk_43 (dk_at dksX5_term_1 22 rfl rfl)
theorem dX5_term_47 : decode cX5_term 47 = .ok (.aload_n 0, 1) := dk_42 (dk_at dksX5_term_1 23 rfl rfl)
theorem dX5_term_48 : decode cX5_term 48 = .ok (.invokevirtual 268, 3) := dk_182 1 12 (dk_at dksX5_term_2 0 rfl rfl)
theorem dX5_term_51 : decode cX5_term 51 = .ok (.iload_n 2, 1) := dk_28 (dk_at dksX5_term_2 3 rfl rfl)
theorem dX5_term_52 : decode cX5_term 52 = .ok (.invokespecial 251, 3) := dk_183 0 251 (dk_at dksX5_term_2 4 rfl rfl)
theorem dX5_term_55 : decode cX5_term 55 = .ok (.astore_n 1, 1) := dk_76 (dk_at dksX5_term_2 7 rfl rfl)
theorem dX5_term_56 : decode cX5_term 56 = .ok (.goto (-51), 3) := dk_167 255 205 (dk_at dksX5_term_2 8 rfl rfl)
theorem dX5_term_59 : decode cX5_term 59 = .ok (.aload_n 1, 1) := dk_43 (dk_at dksX5_term_2 11 rfl rfl)
theorem dX5_term_60 : decode cX5_term 60 = .ok (.areturn, 1) := dk_176 (dk_at dksX5_term_2 12 rfl rfl)
abbrev cX5_unit : ByteArray := prog_17_method_30_code
def yX5_unit : MethodName := ⟨RX5, "unit", "()LPepperTables$Node;"⟩
def dkwX5_unit_7 : List UInt8 := [183, 1, 44, 167, 0, 4, 43, 77, 42, 182, 0, 90, 44, 176]
abbrev dktX5_unit_7 : List UInt8 := dkwX5_unit_7 ++ []
def dkwX5_unit_6 : List UInt8 := [100, 181, 0, 237, 42, 182, 0, 90, 44, 176, 43, 199, 0, 17, 187, 1, 42, 89, 42, 180, 0, 69]
abbrev dktX5_unit_6 : List UInt8 := dkwX5_unit_6 ++ dktX5_unit_7
def dkwX5_unit_5 : List UInt8 := [182, 0, 243, 77, 42, 180, 0, 46, 16, 41, 159, 0, 8, 42, 182, 0, 96, 191, 42, 89, 180, 0, 237, 4]
abbrev dktX5_unit_5 : List UInt8 := dkwX5_unit_5 ++ dktX5_unit_6
def dkwX5_unit_4 : List UInt8 := [180, 0, 46, 16, 40, 160, 0, 52, 42, 89, 180, 0, 237, 4, 96, 181, 0, 237, 42, 182, 0, 90, 42]
abbrev dktX5_unit_4 : List UInt8 := dkwX5_unit_4 ++ dktX5_unit_5
def dkwX5_unit_3 : List UInt8 := [180, 0, 24, 89, 180, 1, 39, 4, 96, 181, 1, 39, 42, 89, 180, 0, 240, 4, 96, 181, 0, 240, 42]
abbrev dktX5_unit_3 : List UInt8 := dkwX5_unit_3 ++ dktX5_unit_4
def dkwX5_unit_2 : List UInt8 := [42, 180, 0, 46, 16, 40, 160, 0, 17, 42, 180, 0, 237, 16, 6, 164, 0, 8, 42, 182, 0, 96, 191, 42]
abbrev dktX5_unit_2 : List UInt8 := dkwX5_unit_2 ++ dktX5_unit_3
def dkwX5_unit_1 : List UInt8 := [198, 0, 42, 42, 180, 0, 24, 180, 1, 39, 16, 60, 159, 0, 30, 42, 180, 0, 240, 16, 30, 159, 0, 21]
abbrev dktX5_unit_1 : List UInt8 := dkwX5_unit_1 ++ dktX5_unit_2
def dkwX5_unit_0 : List UInt8 := [42, 182, 1, 36, 76, 42, 180, 0, 46, 5, 159, 0, 16, 42, 180, 0, 46, 16, 40, 159, 0, 7, 43]
abbrev dktX5_unit_0 : List UInt8 := dkwX5_unit_0 ++ dktX5_unit_1
theorem dksX5_unit_0 : cX5_unit.data.toList.drop 0 = dktX5_unit_0 := by decide +kernel
theorem dksX5_unit_1 : cX5_unit.data.toList.drop 23 = dktX5_unit_1 := dk_seg dksX5_unit_0 23 rfl rfl
theorem dksX5_unit_2 : cX5_unit.data.toList.drop 47 = dktX5_unit_2 := dk_seg dksX5_unit_1 24 rfl rfl
theorem dksX5_unit_3 : cX5_unit.data.toList.drop 71 = dktX5_unit_3 := dk_seg dksX5_unit_2 24 rfl rfl
theorem dksX5_unit_4 : cX5_unit.data.toList.drop 94 = dktX5_unit_4 := dk_seg dksX5_unit_3 23 rfl rfl
theorem dksX5_unit_5 : cX5_unit.data.toList.drop 117 = dktX5_unit_5 := dk_seg dksX5_unit_4 23 rfl rfl
theorem dksX5_unit_6 : cX5_unit.data.toList.drop 141 = dktX5_unit_6 := dk_seg dksX5_unit_5 24 rfl rfl
theorem dksX5_unit_7 : cX5_unit.data.toList.drop 163 = dktX5_unit_7 := dk_seg dksX5_unit_6 22 rfl rfl
theorem dX5_unit_0 : decode cX5_unit 0 = .ok (.aload_n 0, 1) := dk_42 (dk_at dksX5_unit_0 0 rfl rfl)
theorem dX5_unit_1 : decode cX5_unit 1 = .ok (.invokevirtual 292, 3) := dk_182 1 36 (dk_at dksX5_unit_0 1 rfl rfl)
theorem dX5_unit_4 : decode cX5_unit 4 = .ok (.astore_n 1, 1) := dk_76 (dk_at dksX5_unit_0 4 rfl rfl)
theorem dX5_unit_5 : decode cX5_unit 5 = .ok (.aload_n 0, 1) := dk_42 (dk_at dksX5_unit_0 5 rfl rfl)
theorem dX5_unit_6 : decode cX5_unit 6 = .ok (.getfield 46, 3) := dk_180 0 46 (dk_at dksX5_unit_0 6 rfl rfl)
theorem dX5_unit_9 : decode cX5_unit 9 = .ok (.iconst 2, 1) := dk_5 (dk_at dksX5_unit_0 9 rfl rfl)
theorem dX5_unit_10 : decode cX5_unit 10 = .ok (.if_icmp .eq 16, 3) := dk_159 0 16 (dk_at dksX5_unit_0 10 rfl rfl)
theorem dX5_unit_13 : decode cX5_unit 13 = .ok (.aload_n 0, 1) := dk_42 (dk_at dksX5_unit_0 13 rfl rfl)
theorem dX5_unit_14 : decode cX5_unit 14 = .ok (.getfield 46, 3) := dk_180 0 46 (dk_at dksX5_unit_0 14 rfl rfl)
theorem dX5_unit_17 : decode cX5_unit 17 = .ok (.bipush 40, 2) := dk_16 40 (dk_at dksX5_unit_0 17 rfl rfl)
theorem dX5_unit_19 : decode cX5_unit 19 = .ok (.if_icmp .eq 7, 3) := dk_159 0 7 (dk_at dksX5_unit_0 19 rfl rfl)
theorem dX5_unit_22 : decode cX5_unit 22 = .ok (.aload_n 1, 1) := dk_43 (dk_at dksX5_unit_0 22 rfl rfl)
theorem dX5_unit_23 : decode cX5_unit 23 = .ok (.ifnull 42, 3) := dk_198 0 42 (dk_at dksX5_unit_1 0 rfl rfl)
theorem dX5_unit_26 : decode cX5_unit 26 = .ok (.aload_n 0, 1) := dk_42 (dk_at dksX5_unit_1 3 rfl rfl)
theorem dX5_unit_27 : decode cX5_unit 27 = .ok (.getfield 24, 3) := dk_180 0 24 (dk_at dksX5_unit_1 4 rfl rfl)
theorem dX5_unit_30 : decode cX5_unit 30 = .ok (.getfield 295, 3) := dk_180 1 39 (dk_at dksX5_unit_1 7 rfl rfl)
theorem dX5_unit_33 : decode cX5_unit 33 = .ok (.bipush 60, 2) := dk_16 60 (dk_at dksX5_unit_1 10 rfl rfl)
theorem dX5_unit_35 : decode cX5_unit 35 = .ok (.if_icmp .eq 30, 3) := dk_159 0 30 (dk_at dksX5_unit_1 12 rfl rfl)
theorem dX5_unit_38 : decode cX5_unit 38 = .ok (.aload_n 0, 1) := dk_42 (dk_at dksX5_unit_1 15 rfl rfl)
theorem dX5_unit_39 : decode cX5_unit 39 = .ok (.getfield 240, 3) := dk_180 0 240 (dk_at dksX5_unit_1 16 rfl rfl)
theorem dX5_unit_42 : decode cX5_unit 42 = .ok (.bipush 30, 2) := dk_16 30 (dk_at dksX5_unit_1 19 rfl rfl)
theorem dX5_unit_44 : decode cX5_unit 44 = .ok (.if_icmp .eq 21, 3) := dk_159 0 21 (dk_at dksX5_unit_1 21 rfl rfl)
theorem dX5_unit_47 : decode cX5_unit 47 = .ok (.aload_n 0, 1) := dk_42 (dk_at dksX5_unit_2 0 rfl rfl)
theorem dX5_unit_48 : decode cX5_unit 48 = .ok (.getfield 46, 3) := dk_180 0 46 (dk_at dksX5_unit_2 1 rfl rfl)
theorem dX5_unit_51 : decode cX5_unit 51 = .ok (.bipush 40, 2) := dk_16 40 (dk_at dksX5_unit_2 4 rfl rfl)
theorem dX5_unit_53 : decode cX5_unit 53 = .ok (.if_icmp .ne 17, 3) := dk_160 0 17 (dk_at dksX5_unit_2 6 rfl rfl)
theorem dX5_unit_56 : decode cX5_unit 56 = .ok (.aload_n 0, 1) := dk_42 (dk_at dksX5_unit_2 9 rfl rfl)
theorem dX5_unit_57 : decode cX5_unit 57 = .ok (.getfield 237, 3) := dk_180 0 237 (dk_at dksX5_unit_2 10 rfl rfl)
theorem dX5_unit_60 : decode cX5_unit 60 = .ok (.bipush 6, 2) := dk_16 6 (dk_at dksX5_unit_2 13 rfl rfl)
theorem dX5_unit_62 : decode cX5_unit 62 = .ok (.if_icmp .le 8, 3) := dk_164 0 8 (dk_at dksX5_unit_2 15 rfl rfl)
theorem dX5_unit_65 : decode cX5_unit 65 = .ok (.aload_n 0, 1) := dk_42 (dk_at dksX5_unit_2 18 rfl rfl)
theorem dX5_unit_66 : decode cX5_unit 66 = .ok (.invokevirtual 96, 3) := dk_182 0 96 (dk_at dksX5_unit_2 19 rfl rfl)
theorem dX5_unit_69 : decode cX5_unit 69 = .ok (.athrow, 1) := dk_191 (dk_at dksX5_unit_2 22 rfl rfl)
theorem dX5_unit_70 : decode cX5_unit 70 = .ok (.aload_n 0, 1) := dk_42 (dk_at dksX5_unit_2 23 rfl rfl)
theorem dX5_unit_71 : decode cX5_unit 71 = .ok (.getfield 24, 3) := dk_180 0 24 (dk_at dksX5_unit_3 0 rfl rfl)
theorem dX5_unit_74 : decode cX5_unit 74 = .ok (.dup, 1) := dk_89 (dk_at dksX5_unit_3 3 rfl rfl)
theorem dX5_unit_75 : decode cX5_unit 75 = .ok (.getfield 295, 3) := dk_180 1 39 (dk_at dksX5_unit_3 4 rfl rfl)
theorem dX5_unit_78 : decode cX5_unit 78 = .ok (.iconst 1, 1) := dk_4 (dk_at dksX5_unit_3 7 rfl rfl)
theorem dX5_unit_79 : decode cX5_unit 79 = .ok (.iadd, 1) := dk_96 (dk_at dksX5_unit_3 8 rfl rfl)
theorem dX5_unit_80 : decode cX5_unit 80 = .ok (.putfield 295, 3) := dk_181 1 39 (dk_at dksX5_unit_3 9 rfl rfl)
theorem dX5_unit_83 : decode cX5_unit 83 = .ok (.aload_n 0, 1) := dk_42 (dk_at dksX5_unit_3 12 rfl rfl)
theorem dX5_unit_84 : decode cX5_unit 84 = .ok (.dup, 1) := dk_89 (dk_at dksX5_unit_3 13 rfl rfl)
theorem dX5_unit_85 : decode cX5_unit 85 = .ok (.getfield 240, 3) := dk_180 0 240 (dk_at dksX5_unit_3 14 rfl rfl)
theorem dX5_unit_88 : decode cX5_unit 88 = .ok (.iconst 1, 1) := dk_4 (dk_at dksX5_unit_3 17 rfl rfl)
theorem dX5_unit_89 : decode cX5_unit 89 = .ok (.iadd, 1) := dk_96 (dk_at dksX5_unit_3 18 rfl rfl)
theorem dX5_unit_90 : decode cX5_unit 90 = .ok (.putfield 240, 3) := dk_181 0 240 (dk_at dksX5_unit_3 19 rfl rfl)
theorem dX5_unit_93 : decode cX5_unit 93 = .ok (.aload_n 0, 1) := dk_42 (dk_at dksX5_unit_3 22 rfl rfl)
theorem dX5_unit_94 : decode cX5_unit 94 = .ok (.getfield 46, 3) := dk_180 0 46 (dk_at dksX5_unit_4 0 rfl rfl)
theorem dX5_unit_97 : decode cX5_unit 97 = .ok (.bipush 40, 2) := dk_16 40 (dk_at dksX5_unit_4 3 rfl rfl)
theorem dX5_unit_99 : decode cX5_unit 99 = .ok (.if_icmp .ne 52, 3) := dk_160 0 52 (dk_at dksX5_unit_4 5 rfl rfl)
theorem dX5_unit_102 : decode cX5_unit 102 = .ok (.aload_n 0, 1) := dk_42 (dk_at dksX5_unit_4 8 rfl rfl)
theorem dX5_unit_103 : decode cX5_unit 103 = .ok (.dup, 1) := dk_89 (dk_at dksX5_unit_4 9 rfl rfl)
theorem dX5_unit_104 : decode cX5_unit 104 = .ok (.getfield 237, 3) := dk_180 0 237 (dk_at dksX5_unit_4 10 rfl rfl)
theorem dX5_unit_107 : decode cX5_unit 107 = .ok (.iconst 1, 1) := dk_4 (dk_at dksX5_unit_4 13 rfl rfl)
theorem dX5_unit_108 : decode cX5_unit 108 = .ok (.iadd, 1) := dk_96 (dk_at dksX5_unit_4 14 rfl rfl)
theorem dX5_unit_109 : decode cX5_unit 109 = .ok (.putfield 237, 3) := dk_181 0 237 (dk_at dksX5_unit_4 15 rfl rfl)
theorem dX5_unit_112 : decode cX5_unit 112 = .ok (.aload_n 0, 1) := dk_42 (dk_at dksX5_unit_4 18 rfl rfl)
theorem dX5_unit_113 : decode cX5_unit 113 = .ok (.invokevirtual 90, 3) := dk_182 0 90 (dk_at dksX5_unit_4 19 rfl rfl)
theorem dX5_unit_116 : decode cX5_unit 116 = .ok (.aload_n 0, 1) := dk_42 (dk_at dksX5_unit_4 22 rfl rfl)
theorem dX5_unit_117 : decode cX5_unit 117 = .ok (.invokevirtual 243, 3) := dk_182 0 243 (dk_at dksX5_unit_5 0 rfl rfl)
theorem dX5_unit_120 : decode cX5_unit 120 = .ok (.astore_n 2, 1) := dk_77 (dk_at dksX5_unit_5 3 rfl rfl)
theorem dX5_unit_121 : decode cX5_unit 121 = .ok (.aload_n 0, 1) := dk_42 (dk_at dksX5_unit_5 4 rfl rfl)
theorem dX5_unit_122 : decode cX5_unit 122 = .ok (.getfield 46, 3) := dk_180 0 46 (dk_at dksX5_unit_5 5 rfl rfl)
theorem dX5_unit_125 : decode cX5_unit 125 = .ok (.bipush 41, 2) := dk_16 41 (dk_at dksX5_unit_5 8 rfl rfl)
theorem dX5_unit_127 : decode cX5_unit 127 = .ok (.if_icmp .eq 8, 3) := dk_159 0 8 (dk_at dksX5_unit_5 10 rfl rfl)
theorem dX5_unit_130 : decode cX5_unit 130 = .ok (.aload_n 0, 1) := dk_42 (dk_at dksX5_unit_5 13 rfl rfl)
theorem dX5_unit_131 : decode cX5_unit 131 = .ok (.invokevirtual 96, 3) := dk_182 0 96 (dk_at dksX5_unit_5 14 rfl rfl)
theorem dX5_unit_134 : decode cX5_unit 134 = .ok (.athrow, 1) := dk_191 (dk_at dksX5_unit_5 17 rfl rfl)
theorem dX5_unit_135 : decode cX5_unit 135 = .ok (.aload_n 0, 1) := dk_42 (dk_at dksX5_unit_5 18 rfl rfl)
theorem dX5_unit_136 : decode cX5_unit 136 = .ok (.dup, 1) := dk_89 (dk_at dksX5_unit_5 19 rfl rfl)
theorem dX5_unit_137 : decode cX5_unit 137 = .ok (.getfield 237, 3) := dk_180 0 237 (dk_at dksX5_unit_5 20 rfl rfl)
theorem dX5_unit_140 : decode cX5_unit 140 = .ok (.iconst 1, 1) := dk_4 (dk_at dksX5_unit_5 23 rfl rfl)
theorem dX5_unit_141 : decode cX5_unit 141 = .ok (.isub, 1) := dk_100 (dk_at dksX5_unit_6 0 rfl rfl)
theorem dX5_unit_142 : decode cX5_unit 142 = .ok (.putfield 237, 3) := dk_181 0 237 (dk_at dksX5_unit_6 1 rfl rfl)
theorem dX5_unit_145 : decode cX5_unit 145 = .ok (.aload_n 0, 1) := dk_42 (dk_at dksX5_unit_6 4 rfl rfl)
theorem dX5_unit_146 : decode cX5_unit 146 = .ok (.invokevirtual 90, 3) := dk_182 0 90 (dk_at dksX5_unit_6 5 rfl rfl)
theorem dX5_unit_149 : decode cX5_unit 149 = .ok (.aload_n 2, 1) := dk_44 (dk_at dksX5_unit_6 8 rfl rfl)
theorem dX5_unit_150 : decode cX5_unit 150 = .ok (.areturn, 1) := dk_176 (dk_at dksX5_unit_6 9 rfl rfl)
theorem dX5_unit_151 : decode cX5_unit 151 = .ok (.aload_n 1, 1) := dk_43 (dk_at dksX5_unit_6 10 rfl rfl)
theorem dX5_unit_152 : decode cX5_unit 152 = .ok (.ifnonnull 17, 3) := dk_199 0 17 (dk_at dksX5_unit_6 11 rfl rfl)
theorem dX5_unit_155 : decode cX5_unit 155 = .ok (.new 298, 3) := dk_187 1 42 (dk_at dksX5_unit_6 14 rfl rfl)
theorem dX5_unit_158 : decode cX5_unit 158 = .ok (.dup, 1) := dk_89 (dk_at dksX5_unit_6 17 rfl rfl)
theorem dX5_unit_159 : decode cX5_unit 159 = .ok (.aload_n 0, 1) := dk_42 (dk_at dksX5_unit_6 18 rfl rfl)
theorem dX5_unit_160 : decode cX5_unit 160 = .ok (.getfield 69, 3) := dk_180 0 69 (dk_at dksX5_unit_6 19 rfl rfl)
theorem dX5_unit_163 : decode cX5_unit 163 = .ok (.invokespecial 300, 3) := dk_183 1 44 (dk_at dksX5_unit_7 0 rfl rfl)
theorem dX5_unit_166 : decode cX5_unit 166 = .ok (.goto 4, 3) := dk_167 0 4 (dk_at dksX5_unit_7 3 rfl rfl)
theorem dX5_unit_169 : decode cX5_unit 169 = .ok (.aload_n 1, 1) := dk_43 (dk_at dksX5_unit_7 6 rfl rfl)
theorem dX5_unit_170 : decode cX5_unit 170 = .ok (.astore_n 2, 1) := dk_77 (dk_at dksX5_unit_7 7 rfl rfl)
theorem dX5_unit_171 : decode cX5_unit 171 = .ok (.aload_n 0, 1) := dk_42 (dk_at dksX5_unit_7 8 rfl rfl)
theorem dX5_unit_172 : decode cX5_unit 172 = .ok (.invokevirtual 90, 3) := dk_182 0 90 (dk_at dksX5_unit_7 9 rfl rfl)
theorem dX5_unit_175 : decode cX5_unit 175 = .ok (.aload_n 2, 1) := dk_44 (dk_at dksX5_unit_7 12 rfl rfl)
theorem dX5_unit_176 : decode cX5_unit 176 = .ok (.areturn, 1) := dk_176 (dk_at dksX5_unit_7 13 rfl rfl)
abbrev cX5_asked : ByteArray := prog_17_method_29_code
def yX5_asked : MethodName := ⟨RX5, "asked", "()LPepperTables$Node;"⟩
def dkwX5_asked_8 : List UInt8 := [1, 176]
abbrev dktX5_asked_8 : List UInt8 := dkwX5_asked_8 ++ []
def dkwX5_asked_7 : List UInt8 := [178, 1, 15, 176, 178, 1, 21, 176, 178, 1, 24, 176, 178, 1, 27, 176, 178, 1, 30, 176, 178, 1, 33, 176]
abbrev dktX5_asked_7 : List UInt8 := dkwX5_asked_7 ++ dktX5_asked_8
def dkwX5_asked_6 : List UInt8 := [170, 0, 0, 0, 0, 62, 0, 0, 0, 0, 0, 0, 0, 5, 0, 0, 0, 38, 0, 0, 0, 42, 0, 0, 0, 46, 0, 0, 0, 50, 0, 0, 0, 54, 0, 0, 0, 58]
abbrev dktX5_asked_6 : List UInt8 := dkwX5_asked_6 ++ dktX5_asked_7
def dkwX5_asked_5 : List UInt8 := [18, 139, 182, 0, 80, 153, 0, 5, 8, 61, 28]
abbrev dktX5_asked_5 : List UInt8 := dkwX5_asked_5 ++ dktX5_asked_6
def dkwX5_asked_4 : List UInt8 := [153, 0, 33, 6, 61, 167, 0, 28, 43, 18, 137, 182, 0, 80, 153, 0, 19, 7, 61, 167, 0, 14, 43]
abbrev dktX5_asked_4 : List UInt8 := dkwX5_asked_4 ++ dktX5_asked_5
def dkwX5_asked_3 : List UInt8 := [61, 167, 0, 56, 43, 18, 133, 182, 0, 80, 153, 0, 47, 5, 61, 167, 0, 42, 43, 18, 135, 182, 0, 80]
abbrev dktX5_asked_3 : List UInt8 := dkwX5_asked_3 ++ dktX5_asked_4
def dkwX5_asked_2 : List UInt8 := [43, 18, 123, 182, 0, 80, 153, 0, 75, 3, 61, 167, 0, 70, 43, 18, 113, 182, 0, 80, 153, 0, 61, 4]
abbrev dktX5_asked_2 : List UInt8 := dkwX5_asked_2 ++ dktX5_asked_3
def dkwX5_asked_1 : List UInt8 := [171, 0, 0, 0, 0, 0, 140, 0, 0, 0, 6, 175, 66, 224, 27, 0, 0, 0, 129, 182, 61, 217, 135, 0, 0, 0, 101, 182, 99, 141, 155, 0, 0, 0, 87, 0, 1, 148, 77, 0, 0, 0, 59, 0, 1, 188, 196, 0, 0, 0, 73, 0, 48, 205, 240, 0, 0, 0, 115]
abbrev dktX5_asked_1 : List UInt8 := dkwX5_asked_1 ++ dktX5_asked_2
def dkwX5_asked_0 : List UInt8 := [42, 180, 0, 46, 4, 159, 0, 5, 1, 176, 42, 180, 0, 17, 76, 2, 61, 43, 182, 0, 107]
abbrev dktX5_asked_0 : List UInt8 := dkwX5_asked_0 ++ dktX5_asked_1
theorem dksX5_asked_0 : cX5_asked.data.toList.drop 0 = dktX5_asked_0 := by decide +kernel
theorem dksX5_asked_1 : cX5_asked.data.toList.drop 21 = dktX5_asked_1 := dk_seg dksX5_asked_0 21 rfl rfl
theorem dksX5_asked_2 : cX5_asked.data.toList.drop 80 = dktX5_asked_2 := dk_seg dksX5_asked_1 59 rfl rfl
theorem dksX5_asked_3 : cX5_asked.data.toList.drop 104 = dktX5_asked_3 := dk_seg dksX5_asked_2 24 rfl rfl
theorem dksX5_asked_4 : cX5_asked.data.toList.drop 128 = dktX5_asked_4 := dk_seg dksX5_asked_3 24 rfl rfl
theorem dksX5_asked_5 : cX5_asked.data.toList.drop 151 = dktX5_asked_5 := dk_seg dksX5_asked_4 23 rfl rfl
theorem dksX5_asked_6 : cX5_asked.data.toList.drop 162 = dktX5_asked_6 := dk_seg dksX5_asked_5 11 rfl rfl
theorem dksX5_asked_7 : cX5_asked.data.toList.drop 200 = dktX5_asked_7 := dk_seg dksX5_asked_6 38 rfl rfl
theorem dksX5_asked_8 : cX5_asked.data.toList.drop 224 = dktX5_asked_8 := dk_seg dksX5_asked_7 24 rfl rfl
theorem dX5_asked_0 : decode cX5_asked 0 = .ok (.aload_n 0, 1) := dk_42 (dk_at dksX5_asked_0 0 rfl rfl)
theorem dX5_asked_1 : decode cX5_asked 1 = .ok (.getfield 46, 3) := dk_180 0 46 (dk_at dksX5_asked_0 1 rfl rfl)
theorem dX5_asked_4 : decode cX5_asked 4 = .ok (.iconst 1, 1) := dk_4 (dk_at dksX5_asked_0 4 rfl rfl)
theorem dX5_asked_5 : decode cX5_asked 5 = .ok (.if_icmp .eq 5, 3) := dk_159 0 5 (dk_at dksX5_asked_0 5 rfl rfl)
theorem dX5_asked_8 : decode cX5_asked 8 = .ok (.aconst_null, 1) := dk_1 (dk_at dksX5_asked_0 8 rfl rfl)
theorem dX5_asked_9 : decode cX5_asked 9 = .ok (.areturn, 1) := dk_176 (dk_at dksX5_asked_0 9 rfl rfl)
theorem dX5_asked_10 : decode cX5_asked 10 = .ok (.aload_n 0, 1) := dk_42 (dk_at dksX5_asked_0 10 rfl rfl)
theorem dX5_asked_11 : decode cX5_asked 11 = .ok (.getfield 17, 3) := dk_180 0 17 (dk_at dksX5_asked_0 11 rfl rfl)
theorem dX5_asked_14 : decode cX5_asked 14 = .ok (.astore_n 1, 1) := dk_76 (dk_at dksX5_asked_0 14 rfl rfl)
theorem dX5_asked_15 : decode cX5_asked 15 = .ok (.iconst (-1), 1) := dk_2 (dk_at dksX5_asked_0 15 rfl rfl)
theorem dX5_asked_16 : decode cX5_asked 16 = .ok (.istore_n 2, 1) := dk_61 (dk_at dksX5_asked_0 16 rfl rfl)
theorem dX5_asked_17 : decode cX5_asked 17 = .ok (.aload_n 1, 1) := dk_43 (dk_at dksX5_asked_0 17 rfl rfl)
theorem dX5_asked_18 : decode cX5_asked 18 = .ok (.invokevirtual 107, 3) := dk_182 0 107 (dk_at dksX5_asked_0 18 rfl rfl)
theorem dX5_asked_21 : decode cX5_asked 21 = .ok (.lookupswitch 140 #[(-1354571749, 129), (-1237460601, 101), (-1234989669, 87), (103501, 59), (113860, 73), (3198448, 115)], 59) := by decide +kernel
theorem dX5_asked_80 : decode cX5_asked 80 = .ok (.aload_n 1, 1) := dk_43 (dk_at dksX5_asked_2 0 rfl rfl)
theorem dX5_asked_81 : decode cX5_asked 81 = .ok (.ldc 123, 2) := dk_18 123 (dk_at dksX5_asked_2 1 rfl rfl)
theorem dX5_asked_83 : decode cX5_asked 83 = .ok (.invokevirtual 80, 3) := dk_182 0 80 (dk_at dksX5_asked_2 3 rfl rfl)
theorem dX5_asked_86 : decode cX5_asked 86 = .ok (.ifCond .eq 75, 3) := dk_153 0 75 (dk_at dksX5_asked_2 6 rfl rfl)
theorem dX5_asked_89 : decode cX5_asked 89 = .ok (.iconst 0, 1) := dk_3 (dk_at dksX5_asked_2 9 rfl rfl)
theorem dX5_asked_90 : decode cX5_asked 90 = .ok (.istore_n 2, 1) := dk_61 (dk_at dksX5_asked_2 10 rfl rfl)
theorem dX5_asked_91 : decode cX5_asked 91 = .ok (.goto 70, 3) := dk_167 0 70 (dk_at dksX5_asked_2 11 rfl rfl)
theorem dX5_asked_94 : decode cX5_asked 94 = .ok (.aload_n 1, 1) := dk_43 (dk_at dksX5_asked_2 14 rfl rfl)
theorem dX5_asked_95 : decode cX5_asked 95 = .ok (.ldc 113, 2) := dk_18 113 (dk_at dksX5_asked_2 15 rfl rfl)
theorem dX5_asked_97 : decode cX5_asked 97 = .ok (.invokevirtual 80, 3) := dk_182 0 80 (dk_at dksX5_asked_2 17 rfl rfl)
theorem dX5_asked_100 : decode cX5_asked 100 = .ok (.ifCond .eq 61, 3) := dk_153 0 61 (dk_at dksX5_asked_2 20 rfl rfl)
theorem dX5_asked_103 : decode cX5_asked 103 = .ok (.iconst 1, 1) := dk_4 (dk_at dksX5_asked_2 23 rfl rfl)
theorem dX5_asked_104 : decode cX5_asked 104 = .ok (.istore_n 2, 1) := dk_61 (dk_at dksX5_asked_3 0 rfl rfl)
theorem dX5_asked_105 : decode cX5_asked 105 = .ok (.goto 56, 3) := dk_167 0 56 (dk_at dksX5_asked_3 1 rfl rfl)
theorem dX5_asked_108 : decode cX5_asked 108 = .ok (.aload_n 1, 1) := dk_43 (dk_at dksX5_asked_3 4 rfl rfl)
theorem dX5_asked_109 : decode cX5_asked 109 = .ok (.ldc 133, 2) := dk_18 133 (dk_at dksX5_asked_3 5 rfl rfl)
theorem dX5_asked_111 : decode cX5_asked 111 = .ok (.invokevirtual 80, 3) := dk_182 0 80 (dk_at dksX5_asked_3 7 rfl rfl)
theorem dX5_asked_114 : decode cX5_asked 114 = .ok (.ifCond .eq 47, 3) := dk_153 0 47 (dk_at dksX5_asked_3 10 rfl rfl)
theorem dX5_asked_117 : decode cX5_asked 117 = .ok (.iconst 2, 1) := dk_5 (dk_at dksX5_asked_3 13 rfl rfl)
theorem dX5_asked_118 : decode cX5_asked 118 = .ok (.istore_n 2, 1) := dk_61 (dk_at dksX5_asked_3 14 rfl rfl)
theorem dX5_asked_119 : decode cX5_asked 119 = .ok (.goto 42, 3) := dk_167 0 42 (dk_at dksX5_asked_3 15 rfl rfl)
theorem dX5_asked_122 : decode cX5_asked 122 = .ok (.aload_n 1, 1) := dk_43 (dk_at dksX5_asked_3 18 rfl rfl)
theorem dX5_asked_123 : decode cX5_asked 123 = .ok (.ldc 135, 2) := dk_18 135 (dk_at dksX5_asked_3 19 rfl rfl)
theorem dX5_asked_125 : decode cX5_asked 125 = .ok (.invokevirtual 80, 3) := dk_182 0 80 (dk_at dksX5_asked_3 21 rfl rfl)
theorem dX5_asked_128 : decode cX5_asked 128 = .ok (.ifCond .eq 33, 3) := dk_153 0 33 (dk_at dksX5_asked_4 0 rfl rfl)
theorem dX5_asked_131 : decode cX5_asked 131 = .ok (.iconst 3, 1) := dk_6 (dk_at dksX5_asked_4 3 rfl rfl)
theorem dX5_asked_132 : decode cX5_asked 132 = .ok (.istore_n 2, 1) := dk_61 (dk_at dksX5_asked_4 4 rfl rfl)
theorem dX5_asked_133 : decode cX5_asked 133 = .ok (.goto 28, 3) := dk_167 0 28 (dk_at dksX5_asked_4 5 rfl rfl)
theorem dX5_asked_136 : decode cX5_asked 136 = .ok (.aload_n 1, 1) := dk_43 (dk_at dksX5_asked_4 8 rfl rfl)
theorem dX5_asked_137 : decode cX5_asked 137 = .ok (.ldc 137, 2) := dk_18 137 (dk_at dksX5_asked_4 9 rfl rfl)
theorem dX5_asked_139 : decode cX5_asked 139 = .ok (.invokevirtual 80, 3) := dk_182 0 80 (dk_at dksX5_asked_4 11 rfl rfl)
theorem dX5_asked_142 : decode cX5_asked 142 = .ok (.ifCond .eq 19, 3) := dk_153 0 19 (dk_at dksX5_asked_4 14 rfl rfl)
theorem dX5_asked_145 : decode cX5_asked 145 = .ok (.iconst 4, 1) := dk_7 (dk_at dksX5_asked_4 17 rfl rfl)
theorem dX5_asked_146 : decode cX5_asked 146 = .ok (.istore_n 2, 1) := dk_61 (dk_at dksX5_asked_4 18 rfl rfl)
theorem dX5_asked_147 : decode cX5_asked 147 = .ok (.goto 14, 3) := dk_167 0 14 (dk_at dksX5_asked_4 19 rfl rfl)
theorem dX5_asked_150 : decode cX5_asked 150 = .ok (.aload_n 1, 1) := dk_43 (dk_at dksX5_asked_4 22 rfl rfl)
theorem dX5_asked_151 : decode cX5_asked 151 = .ok (.ldc 139, 2) := dk_18 139 (dk_at dksX5_asked_5 0 rfl rfl)
theorem dX5_asked_153 : decode cX5_asked 153 = .ok (.invokevirtual 80, 3) := dk_182 0 80 (dk_at dksX5_asked_5 2 rfl rfl)
theorem dX5_asked_156 : decode cX5_asked 156 = .ok (.ifCond .eq 5, 3) := dk_153 0 5 (dk_at dksX5_asked_5 5 rfl rfl)
theorem dX5_asked_159 : decode cX5_asked 159 = .ok (.iconst 5, 1) := dk_8 (dk_at dksX5_asked_5 8 rfl rfl)
theorem dX5_asked_160 : decode cX5_asked 160 = .ok (.istore_n 2, 1) := dk_61 (dk_at dksX5_asked_5 9 rfl rfl)
theorem dX5_asked_161 : decode cX5_asked 161 = .ok (.iload_n 2, 1) := dk_28 (dk_at dksX5_asked_5 10 rfl rfl)
theorem dX5_asked_162 : decode cX5_asked 162 = .ok (.tableswitch 62 0 5 #[38, 42, 46, 50, 54, 58], 38) := by decide +kernel
theorem dX5_asked_200 : decode cX5_asked 200 = .ok (.getstatic 271, 3) := dk_178 1 15 (dk_at dksX5_asked_7 0 rfl rfl)
theorem dX5_asked_203 : decode cX5_asked 203 = .ok (.areturn, 1) := dk_176 (dk_at dksX5_asked_7 3 rfl rfl)
theorem dX5_asked_204 : decode cX5_asked 204 = .ok (.getstatic 277, 3) := dk_178 1 21 (dk_at dksX5_asked_7 4 rfl rfl)
theorem dX5_asked_207 : decode cX5_asked 207 = .ok (.areturn, 1) := dk_176 (dk_at dksX5_asked_7 7 rfl rfl)
theorem dX5_asked_208 : decode cX5_asked 208 = .ok (.getstatic 280, 3) := dk_178 1 24 (dk_at dksX5_asked_7 8 rfl rfl)
theorem dX5_asked_211 : decode cX5_asked 211 = .ok (.areturn, 1) := dk_176 (dk_at dksX5_asked_7 11 rfl rfl)
theorem dX5_asked_212 : decode cX5_asked 212 = .ok (.getstatic 283, 3) := dk_178 1 27 (dk_at dksX5_asked_7 12 rfl rfl)
theorem dX5_asked_215 : decode cX5_asked 215 = .ok (.areturn, 1) := dk_176 (dk_at dksX5_asked_7 15 rfl rfl)
theorem dX5_asked_216 : decode cX5_asked 216 = .ok (.getstatic 286, 3) := dk_178 1 30 (dk_at dksX5_asked_7 16 rfl rfl)
theorem dX5_asked_219 : decode cX5_asked 219 = .ok (.areturn, 1) := dk_176 (dk_at dksX5_asked_7 19 rfl rfl)
theorem dX5_asked_220 : decode cX5_asked 220 = .ok (.getstatic 289, 3) := dk_178 1 33 (dk_at dksX5_asked_7 20 rfl rfl)
theorem dX5_asked_223 : decode cX5_asked 223 = .ok (.areturn, 1) := dk_176 (dk_at dksX5_asked_7 23 rfl rfl)
theorem dX5_asked_224 : decode cX5_asked 224 = .ok (.aconst_null, 1) := dk_1 (dk_at dksX5_asked_8 0 rfl rfl)
theorem dX5_asked_225 : decode cX5_asked 225 = .ok (.areturn, 1) := dk_176 (dk_at dksX5_asked_8 1 rfl rfl)
abbrev cX5_sneeze : ByteArray := prog_17_method_21_code
def yX5_sneeze : MethodName := ⟨RX5, "sneeze", "()V"⟩
def dkwX5_sneeze_0 : List UInt8 := [42, 182, 0, 90, 42, 4, 181, 0, 193, 42, 180, 0, 24, 42, 3, 16, 100, 182, 0, 104, 181, 0, 232, 177]
abbrev dktX5_sneeze_0 : List UInt8 := dkwX5_sneeze_0 ++ []
theorem dksX5_sneeze_0 : cX5_sneeze.data.toList.drop 0 = dktX5_sneeze_0 := by decide +kernel
theorem dX5_sneeze_0 : decode cX5_sneeze 0 = .ok (.aload_n 0, 1) := dk_42 (dk_at dksX5_sneeze_0 0 rfl rfl)
theorem dX5_sneeze_1 : decode cX5_sneeze 1 = .ok (.invokevirtual 90, 3) := dk_182 0 90 (dk_at dksX5_sneeze_0 1 rfl rfl)
theorem dX5_sneeze_4 : decode cX5_sneeze 4 = .ok (.aload_n 0, 1) := dk_42 (dk_at dksX5_sneeze_0 4 rfl rfl)
theorem dX5_sneeze_5 : decode cX5_sneeze 5 = .ok (.iconst 1, 1) := dk_4 (dk_at dksX5_sneeze_0 5 rfl rfl)
theorem dX5_sneeze_6 : decode cX5_sneeze 6 = .ok (.putfield 193, 3) := dk_181 0 193 (dk_at dksX5_sneeze_0 6 rfl rfl)
theorem dX5_sneeze_9 : decode cX5_sneeze 9 = .ok (.aload_n 0, 1) := dk_42 (dk_at dksX5_sneeze_0 9 rfl rfl)
theorem dX5_sneeze_10 : decode cX5_sneeze 10 = .ok (.getfield 24, 3) := dk_180 0 24 (dk_at dksX5_sneeze_0 10 rfl rfl)
theorem dX5_sneeze_13 : decode cX5_sneeze 13 = .ok (.aload_n 0, 1) := dk_42 (dk_at dksX5_sneeze_0 13 rfl rfl)
theorem dX5_sneeze_14 : decode cX5_sneeze 14 = .ok (.iconst 0, 1) := dk_3 (dk_at dksX5_sneeze_0 14 rfl rfl)
theorem dX5_sneeze_15 : decode cX5_sneeze 15 = .ok (.bipush 100, 2) := dk_16 100 (dk_at dksX5_sneeze_0 15 rfl rfl)
theorem dX5_sneeze_17 : decode cX5_sneeze 17 = .ok (.invokevirtual 104, 3) := dk_182 0 104 (dk_at dksX5_sneeze_0 17 rfl rfl)
theorem dX5_sneeze_20 : decode cX5_sneeze 20 = .ok (.putfield 232, 3) := dk_181 0 232 (dk_at dksX5_sneeze_0 20 rfl rfl)
theorem dX5_sneeze_23 : decode cX5_sneeze 23 = .ok (.return_, 1) := dk_177 (dk_at dksX5_sneeze_0 23 rfl rfl)
abbrev cX5_draw : ByteArray := prog_17_method_22_code
def yX5_draw : MethodName := ⟨RX5, "draw", "()V"⟩
def dkwX5_draw_1 : List UInt8 := [177]
abbrev dktX5_draw_1 : List UInt8 := dkwX5_draw_1 ++ []
def dkwX5_draw_0 : List UInt8 := [42, 182, 0, 90, 42, 4, 181, 0, 199, 42, 180, 0, 24, 42, 3, 17, 3, 231, 182, 0, 104, 181, 0, 234]
abbrev dktX5_draw_0 : List UInt8 := dkwX5_draw_0 ++ dktX5_draw_1
theorem dksX5_draw_0 : cX5_draw.data.toList.drop 0 = dktX5_draw_0 := by decide +kernel
theorem dksX5_draw_1 : cX5_draw.data.toList.drop 24 = dktX5_draw_1 := dk_seg dksX5_draw_0 24 rfl rfl
theorem dX5_draw_0 : decode cX5_draw 0 = .ok (.aload_n 0, 1) := dk_42 (dk_at dksX5_draw_0 0 rfl rfl)
theorem dX5_draw_1 : decode cX5_draw 1 = .ok (.invokevirtual 90, 3) := dk_182 0 90 (dk_at dksX5_draw_0 1 rfl rfl)
theorem dX5_draw_4 : decode cX5_draw 4 = .ok (.aload_n 0, 1) := dk_42 (dk_at dksX5_draw_0 4 rfl rfl)
theorem dX5_draw_5 : decode cX5_draw 5 = .ok (.iconst 1, 1) := dk_4 (dk_at dksX5_draw_0 5 rfl rfl)
theorem dX5_draw_6 : decode cX5_draw 6 = .ok (.putfield 199, 3) := dk_181 0 199 (dk_at dksX5_draw_0 6 rfl rfl)
theorem dX5_draw_9 : decode cX5_draw 9 = .ok (.aload_n 0, 1) := dk_42 (dk_at dksX5_draw_0 9 rfl rfl)
theorem dX5_draw_10 : decode cX5_draw 10 = .ok (.getfield 24, 3) := dk_180 0 24 (dk_at dksX5_draw_0 10 rfl rfl)
theorem dX5_draw_13 : decode cX5_draw 13 = .ok (.aload_n 0, 1) := dk_42 (dk_at dksX5_draw_0 13 rfl rfl)
theorem dX5_draw_14 : decode cX5_draw 14 = .ok (.iconst 0, 1) := dk_3 (dk_at dksX5_draw_0 14 rfl rfl)
theorem dX5_draw_15 : decode cX5_draw 15 = .ok (.sipush 999, 3) := dk_17 3 231 (dk_at dksX5_draw_0 15 rfl rfl)
theorem dX5_draw_18 : decode cX5_draw 18 = .ok (.invokevirtual 104, 3) := dk_182 0 104 (dk_at dksX5_draw_0 18 rfl rfl)
theorem dX5_draw_21 : decode cX5_draw 21 = .ok (.putfield 234, 3) := dk_181 0 234 (dk_at dksX5_draw_0 21 rfl rfl)
theorem dX5_draw_24 : decode cX5_draw 24 = .ok (.return_, 1) := dk_177 (dk_at dksX5_draw_1 0 rfl rfl)
theorem q146 : (Jvm.Cond.initialized "PepperTables$Reader") ∈ lw_all := lw_g (lw_at lw_m1 11 rfl) rfl
theorem q245 : (Jvm.Cond.fieldLink "PepperTables$Reader" (158 : Nat) "PepperTables$Book" "people" "Ljava/util/ArrayList;") ∈ lw_all := lw_g (lw_at lw_m1 110 rfl) rfl
theorem q249 : (Jvm.Cond.fieldLink "PepperTables$Reader" (169 : Nat) "PepperTables$Book" "sacks" "Ljava/util/ArrayList;") ∈ lw_all := lw_g (lw_at lw_m1 114 rfl) rfl
theorem q253 : (Jvm.Cond.fieldLink "PepperTables$Reader" (183 : Nat) "PepperTables$Book" "things" "Ljava/util/ArrayList;") ∈ lw_all := lw_g (lw_at lw_m1 118 rfl) rfl
theorem q257 : (Jvm.Cond.fieldLink "PepperTables$Reader" (188 : Nat) "PepperTables$Book" "said" "LPepperTables$Node;") ∈ lw_all := lw_g (lw_at lw_m1 122 rfl) rfl
theorem q259 : (Jvm.Cond.fieldLink "PepperTables$Reader" (232 : Nat) "PepperTables$Book" "sneeze" "I") ∈ lw_all := lw_g (lw_at lw_m1 124 rfl) rfl
theorem q262 : (Jvm.Cond.fieldLink "PepperTables$Reader" (234 : Nat) "PepperTables$Book" "seed" "I") ∈ lw_all := lw_g (lw_at lw_m1 127 rfl) rfl
theorem q263 : (Jvm.Cond.fieldLink "PepperTables$Reader" (295 : Nat) "PepperTables$Book" "units" "I") ∈ lw_all := lw_g (lw_at lw_m1 128 rfl) rfl
theorem q346 : (Jvm.Cond.fieldLinkNest "PepperTables$Reader" (35 : Nat) "PepperTables" "tape" "[B" "PepperTables") ∈ lw_tbl := lw_at lw_m1 211 rfl
theorem q348 : (Jvm.Cond.fieldLinkNest "PepperTables$Reader" (32 : Nat) "PepperTables" "taped" "I" "PepperTables") ∈ lw_tbl := lw_at lw_m1 213 rfl
theorem q438 : (Jvm.Cond.instantiable "PepperTables$Reader" (11 : Nat)) ∈ lw_all := lw_g (lw_at lw_m2 63 rfl) rfl
theorem q440 : (Jvm.Cond.instanceMethod ({ cls := "PepperTables$Reader", name := "<init>", desc := "(LPepperTables;)V" } : Jvm.MethodName)) ∈ lw_all := lw_g (lw_at lw_m2 65 rfl) rfl
theorem q441 : (Jvm.Cond.code ({ cls := "PepperTables$Reader", name := "<init>", desc := "(LPepperTables;)V" } : Jvm.MethodName) prog_17_method_1_code (2 : Nat) (Option.none : Option Jvm.ClassFile.FieldType)) ∈ lw_all := lw_g (lw_at lw_m2 66 rfl) rfl
theorem q442 : (Jvm.Cond.methodLink "PepperTables$Reader" (9 : Nat) ({ cls := "java/lang/Object", name := "<init>", desc := "()V" } : Jvm.MethodName)) ∈ lw_all := lw_g (lw_at lw_m2 67 rfl) rfl
theorem q443 : (Jvm.Cond.stringRef "PepperTables$Reader" (15 : Nat) "") ∈ lw_tbl := lw_at lw_m2 68 rfl
theorem q444 : (Jvm.Cond.classLink "PepperTables$Reader" (21 : Nat) "PepperTables$Book") ∈ lw_all := lw_g (lw_at lw_m2 69 rfl) rfl
theorem q445 : (Jvm.Cond.methodLinkNest "PepperTables$Reader" (23 : Nat) ({ cls := "PepperTables$Book", name := "<init>", desc := "()V" } : Jvm.MethodName) "PepperTables") ∈ lw_tbl := lw_at lw_m2 70 rfl
theorem q446 : (Jvm.Cond.fieldLink "PepperTables$Reader" (28 : Nat) "PepperTables$Reader" "at" "I") ∈ lw_all := lw_g (lw_at lw_m2 71 rfl) rfl
theorem q447 : (Jvm.Cond.fieldLink "PepperTables$Reader" (46 : Nat) "PepperTables$Reader" "sort" "I") ∈ lw_all := lw_g (lw_at lw_m2 72 rfl) rfl
theorem q448 : (Jvm.Cond.fieldLink "PepperTables$Reader" (43 : Nat) "PepperTables$Reader" "place" "I") ∈ lw_all := lw_g (lw_at lw_m2 73 rfl) rfl
theorem q449 : (Jvm.Cond.fieldLink "PepperTables$Reader" (69 : Nat) "PepperTables$Reader" "number" "I") ∈ lw_all := lw_g (lw_at lw_m2 74 rfl) rfl
theorem q450 : (Jvm.Cond.fieldLink "PepperTables$Reader" (237 : Nat) "PepperTables$Reader" "deep" "I") ∈ lw_all := lw_g (lw_at lw_m2 75 rfl) rfl
theorem q451 : (Jvm.Cond.fieldLink "PepperTables$Reader" (240 : Nat) "PepperTables$Reader" "own" "I") ∈ lw_all := lw_g (lw_at lw_m2 76 rfl) rfl
theorem q452 : (Jvm.Cond.fieldLink "PepperTables$Reader" (193 : Nat) "PepperTables$Reader" "hasSneeze" "Z") ∈ lw_all := lw_g (lw_at lw_m2 77 rfl) rfl
theorem q453 : (Jvm.Cond.fieldLink "PepperTables$Reader" (199 : Nat) "PepperTables$Reader" "hasDraw" "Z") ∈ lw_all := lw_g (lw_at lw_m2 78 rfl) rfl
theorem q454 : (Jvm.Cond.fieldLink "PepperTables$Reader" (17 : Nat) "PepperTables$Reader" "word" "Ljava/lang/String;") ∈ lw_all := lw_g (lw_at lw_m2 79 rfl) rfl
theorem q455 : (Jvm.Cond.fieldLink "PepperTables$Reader" (24 : Nat) "PepperTables$Reader" "made" "LPepperTables$Book;") ∈ lw_all := lw_g (lw_at lw_m2 80 rfl) rfl
theorem q456 : (Jvm.Cond.fieldLink "PepperTables$Reader" (3 : Nat) "PepperTables$Reader" "this$0" "LPepperTables;") ∈ lw_all := lw_g (lw_at lw_m2 81 rfl) rfl
theorem q457 : (Jvm.Cond.lays "PepperTables$Reader" "PepperTables$Reader" "at" "I") ∈ lw_all := lw_g (lw_at lw_m2 82 rfl) rfl
theorem q458 : (Jvm.Cond.soleField "PepperTables$Reader" "at") ∈ lw_all := lw_g (lw_at lw_m2 83 rfl) rfl
theorem q459 : (Jvm.Cond.lays "PepperTables$Reader" "PepperTables$Reader" "sort" "I") ∈ lw_all := lw_g (lw_at lw_m2 84 rfl) rfl
theorem q460 : (Jvm.Cond.soleField "PepperTables$Reader" "sort") ∈ lw_all := lw_g (lw_at lw_m2 85 rfl) rfl
theorem q461 : (Jvm.Cond.lays "PepperTables$Reader" "PepperTables$Reader" "place" "I") ∈ lw_all := lw_g (lw_at lw_m2 86 rfl) rfl
theorem q462 : (Jvm.Cond.soleField "PepperTables$Reader" "place") ∈ lw_all := lw_g (lw_at lw_m2 87 rfl) rfl
theorem q463 : (Jvm.Cond.lays "PepperTables$Reader" "PepperTables$Reader" "number" "I") ∈ lw_all := lw_g (lw_at lw_m2 88 rfl) rfl
theorem q464 : (Jvm.Cond.soleField "PepperTables$Reader" "number") ∈ lw_all := lw_g (lw_at lw_m2 89 rfl) rfl
theorem q465 : (Jvm.Cond.lays "PepperTables$Reader" "PepperTables$Reader" "deep" "I") ∈ lw_all := lw_g (lw_at lw_m2 90 rfl) rfl
theorem q466 : (Jvm.Cond.soleField "PepperTables$Reader" "deep") ∈ lw_all := lw_g (lw_at lw_m2 91 rfl) rfl
theorem q467 : (Jvm.Cond.lays "PepperTables$Reader" "PepperTables$Reader" "own" "I") ∈ lw_all := lw_g (lw_at lw_m2 92 rfl) rfl
theorem q468 : (Jvm.Cond.soleField "PepperTables$Reader" "own") ∈ lw_all := lw_g (lw_at lw_m2 93 rfl) rfl
theorem q469 : (Jvm.Cond.lays "PepperTables$Reader" "PepperTables$Reader" "hasSneeze" "Z") ∈ lw_all := lw_g (lw_at lw_m2 94 rfl) rfl
theorem q470 : (Jvm.Cond.soleField "PepperTables$Reader" "hasSneeze") ∈ lw_all := lw_g (lw_at lw_m2 95 rfl) rfl
theorem q471 : (Jvm.Cond.lays "PepperTables$Reader" "PepperTables$Reader" "hasDraw" "Z") ∈ lw_all := lw_g (lw_at lw_m2 96 rfl) rfl
theorem q472 : (Jvm.Cond.soleField "PepperTables$Reader" "hasDraw") ∈ lw_all := lw_g (lw_at lw_m2 97 rfl) rfl
theorem q473 : (Jvm.Cond.lays "PepperTables$Reader" "PepperTables$Reader" "word" "Ljava/lang/String;") ∈ lw_all := lw_g (lw_at lw_m2 98 rfl) rfl
theorem q474 : (Jvm.Cond.soleField "PepperTables$Reader" "word") ∈ lw_all := lw_g (lw_at lw_m2 99 rfl) rfl
theorem q475 : (Jvm.Cond.laysFinal "PepperTables$Reader" "PepperTables$Reader" "made" "LPepperTables$Book;") ∈ lw_all := lw_g (lw_at lw_m2 100 rfl) rfl
theorem q476 : (Jvm.Cond.soleField "PepperTables$Reader" "made") ∈ lw_all := lw_g (lw_at lw_m2 101 rfl) rfl
theorem q477 : (Jvm.Cond.laysFinal "PepperTables$Reader" "PepperTables$Reader" "this$0" "LPepperTables;") ∈ lw_all := lw_g (lw_at lw_m2 102 rfl) rfl
theorem q478 : (Jvm.Cond.soleField "PepperTables$Reader" "this$0") ∈ lw_all := lw_g (lw_at lw_m2 103 rfl) rfl
theorem q479 : (Jvm.Cond.superclass "PepperTables$Reader" "java/lang/Object") ∈ lw_all := lw_g (lw_at lw_m2 104 rfl) rfl
theorem q481 : (Jvm.Cond.instanceMethod ({ cls := "PepperTables$Reader", name := "text", desc := "()LPepperTables$Book;" } : Jvm.MethodName)) ∈ lw_all := lw_g (lw_at lw_m2 106 rfl) rfl
theorem q482 : (Jvm.Cond.selects "PepperTables$Reader" ({ cls := "PepperTables$Reader", name := "text", desc := "()LPepperTables$Book;" } : Jvm.MethodName) ({ cls := "PepperTables$Reader", name := "text", desc := "()LPepperTables$Book;" } : Jvm.MethodName)) ∈ lw_all := lw_g (lw_at lw_m2 107 rfl) rfl
theorem q483 : (Jvm.Cond.code ({ cls := "PepperTables$Reader", name := "text", desc := "()LPepperTables$Book;" } : Jvm.MethodName) prog_17_method_16_code (1 : Nat) (Option.some (Jvm.ClassFile.FieldType.object "PepperTables$Book"))) ∈ lw_all := lw_g (lw_at lw_m2 108 rfl) rfl
theorem q484 : (Jvm.Cond.methodLink "PepperTables$Reader" (90 : Nat) ({ cls := "PepperTables$Reader", name := "go", desc := "()V" } : Jvm.MethodName)) ∈ lw_all := lw_g (lw_at lw_m2 109 rfl) rfl
theorem q485 : (Jvm.Cond.privateMethod ({ cls := "PepperTables$Reader", name := "go", desc := "()V" } : Jvm.MethodName)) ∈ lw_tbl := lw_at lw_m2 110 rfl
theorem q486 : (Jvm.Cond.instanceMethod ({ cls := "PepperTables$Reader", name := "go", desc := "()V" } : Jvm.MethodName)) ∈ lw_all := lw_g (lw_at lw_m2 111 rfl) rfl
theorem q487 : (Jvm.Cond.code ({ cls := "PepperTables$Reader", name := "go", desc := "()V" } : Jvm.MethodName) prog_17_method_6_code (4 : Nat) (Option.none : Option Jvm.ClassFile.FieldType)) ∈ lw_all := lw_g (lw_at lw_m2 112 rfl) rfl
theorem q488 : (Jvm.Cond.methodLink "PepperTables$Reader" (39 : Nat) ({ cls := "PepperTables$Reader", name := "here", desc := "(I)I" } : Jvm.MethodName)) ∈ lw_all := lw_g (lw_at lw_m2 113 rfl) rfl
theorem q489 : (Jvm.Cond.privateMethod ({ cls := "PepperTables$Reader", name := "here", desc := "(I)I" } : Jvm.MethodName)) ∈ lw_tbl := lw_at lw_m2 114 rfl
theorem q490 : (Jvm.Cond.instanceMethod ({ cls := "PepperTables$Reader", name := "here", desc := "(I)I" } : Jvm.MethodName)) ∈ lw_all := lw_g (lw_at lw_m2 115 rfl) rfl
theorem q491 : (Jvm.Cond.code ({ cls := "PepperTables$Reader", name := "here", desc := "(I)I" } : Jvm.MethodName) prog_17_method_2_code (2 : Nat) (Option.some Jvm.ClassFile.FieldType.int)) ∈ lw_all := lw_g (lw_at lw_m2 116 rfl) rfl
theorem q492 : (Jvm.Cond.methodLink "PepperTables$Reader" (49 : Nat) ({ cls := "PepperTables$Reader", name := "isLetter", desc := "(I)Z" } : Jvm.MethodName)) ∈ lw_all := lw_g (lw_at lw_m2 117 rfl) rfl
theorem q493 : (Jvm.Cond.privateMethod ({ cls := "PepperTables$Reader", name := "isLetter", desc := "(I)Z" } : Jvm.MethodName)) ∈ lw_tbl := lw_at lw_m2 118 rfl
theorem q494 : (Jvm.Cond.instanceMethod ({ cls := "PepperTables$Reader", name := "isLetter", desc := "(I)Z" } : Jvm.MethodName)) ∈ lw_all := lw_g (lw_at lw_m2 119 rfl) rfl
theorem q495 : (Jvm.Cond.code ({ cls := "PepperTables$Reader", name := "isLetter", desc := "(I)Z" } : Jvm.MethodName) prog_17_method_3_code (2 : Nat) (Option.some Jvm.ClassFile.FieldType.boolean)) ∈ lw_all := lw_g (lw_at lw_m2 120 rfl) rfl
theorem q496 : (Jvm.Cond.classLink "PepperTables$Reader" (53 : Nat) "java/lang/StringBuilder") ∈ lw_all := lw_g (lw_at lw_m2 121 rfl) rfl
theorem q498 : (Jvm.Cond.methodLink "PepperTables$Reader" (55 : Nat) ({ cls := "java/lang/StringBuilder", name := "<init>", desc := "(I)V" } : Jvm.MethodName)) ∈ lw_all := lw_g (lw_at lw_m2 123 rfl) rfl
theorem q527 : (Jvm.Cond.methodLink "PepperTables$Reader" (58 : Nat) ({ cls := "java/lang/StringBuilder", name := "append", desc := "(C)Ljava/lang/StringBuilder;" } : Jvm.MethodName)) ∈ lw_all := lw_g (lw_at lw_m2 152 rfl) rfl
theorem q620 : (Jvm.Cond.methodLink "PepperTables$Reader" (62 : Nat) ({ cls := "java/lang/StringBuilder", name := "toString", desc := "()Ljava/lang/String;" } : Jvm.MethodName)) ∈ lw_all := lw_g (lw_at lw_m3 5 rfl) rfl
theorem q683 : (Jvm.Cond.methodLink "PepperTables$Reader" (66 : Nat) ({ cls := "PepperTables$Reader", name := "isDigit", desc := "(I)Z" } : Jvm.MethodName)) ∈ lw_all := lw_g (lw_at lw_m3 68 rfl) rfl
theorem q684 : (Jvm.Cond.privateMethod ({ cls := "PepperTables$Reader", name := "isDigit", desc := "(I)Z" } : Jvm.MethodName)) ∈ lw_tbl := lw_at lw_m3 69 rfl
theorem q685 : (Jvm.Cond.instanceMethod ({ cls := "PepperTables$Reader", name := "isDigit", desc := "(I)Z" } : Jvm.MethodName)) ∈ lw_all := lw_g (lw_at lw_m3 70 rfl) rfl
theorem q686 : (Jvm.Cond.code ({ cls := "PepperTables$Reader", name := "isDigit", desc := "(I)Z" } : Jvm.MethodName) prog_17_method_4_code (2 : Nat) (Option.some Jvm.ClassFile.FieldType.boolean)) ∈ lw_all := lw_g (lw_at lw_m3 71 rfl) rfl
theorem q687 : (Jvm.Cond.methodLink "PepperTables$Reader" (72 : Nat) ({ cls := "PepperTables$Reader", name := "isSign", desc := "(I)Z" } : Jvm.MethodName)) ∈ lw_all := lw_g (lw_at lw_m3 72 rfl) rfl
theorem q688 : (Jvm.Cond.static ({ cls := "PepperTables$Reader", name := "isSign", desc := "(I)Z" } : Jvm.MethodName)) ∈ lw_all := lw_g (lw_at lw_m3 73 rfl) rfl
theorem q689 : (Jvm.Cond.code ({ cls := "PepperTables$Reader", name := "isSign", desc := "(I)Z" } : Jvm.MethodName) prog_17_method_5_code (1 : Nat) (Option.some Jvm.ClassFile.FieldType.boolean)) ∈ lw_all := lw_g (lw_at lw_m3 74 rfl) rfl
theorem q690 : (Jvm.Cond.methodLink "PepperTables$Reader" (155 : Nat) ({ cls := "PepperTables$Reader", name := "line", desc := "()V" } : Jvm.MethodName)) ∈ lw_all := lw_g (lw_at lw_m3 75 rfl) rfl
theorem q691 : (Jvm.Cond.privateMethod ({ cls := "PepperTables$Reader", name := "line", desc := "()V" } : Jvm.MethodName)) ∈ lw_tbl := lw_at lw_m3 76 rfl
theorem q692 : (Jvm.Cond.instanceMethod ({ cls := "PepperTables$Reader", name := "line", desc := "()V" } : Jvm.MethodName)) ∈ lw_all := lw_g (lw_at lw_m3 77 rfl) rfl
theorem q693 : (Jvm.Cond.code ({ cls := "PepperTables$Reader", name := "line", desc := "()V" } : Jvm.MethodName) prog_17_method_17_code (1 : Nat) (Option.none : Option Jvm.ClassFile.FieldType)) ∈ lw_all := lw_g (lw_at lw_m3 78 rfl) rfl
theorem q694 : (Jvm.Cond.stringRef "PepperTables$Reader" (111 : Nat) "person") ∈ lw_tbl := lw_at lw_m3 79 rfl
theorem q695 : (Jvm.Cond.methodLink "PepperTables$Reader" (86 : Nat) ({ cls := "PepperTables$Reader", name := "is", desc := "(Ljava/lang/String;)Z" } : Jvm.MethodName)) ∈ lw_all := lw_g (lw_at lw_m3 80 rfl) rfl
theorem q696 : (Jvm.Cond.privateMethod ({ cls := "PepperTables$Reader", name := "is", desc := "(Ljava/lang/String;)Z" } : Jvm.MethodName)) ∈ lw_tbl := lw_at lw_m3 81 rfl
theorem q697 : (Jvm.Cond.instanceMethod ({ cls := "PepperTables$Reader", name := "is", desc := "(Ljava/lang/String;)Z" } : Jvm.MethodName)) ∈ lw_all := lw_g (lw_at lw_m3 82 rfl) rfl
theorem q698 : (Jvm.Cond.code ({ cls := "PepperTables$Reader", name := "is", desc := "(Ljava/lang/String;)Z" } : Jvm.MethodName) prog_17_method_8_code (2 : Nat) (Option.some Jvm.ClassFile.FieldType.boolean)) ∈ lw_all := lw_g (lw_at lw_m3 83 rfl) rfl
theorem q699 : (Jvm.Cond.methodLink "PepperTables$Reader" (80 : Nat) ({ cls := "java/lang/String", name := "equals", desc := "(Ljava/lang/Object;)Z" } : Jvm.MethodName)) ∈ lw_all := lw_g (lw_at lw_m3 84 rfl) rfl
theorem q707 : (Jvm.Cond.methodLink "PepperTables$Reader" (162 : Nat) ({ cls := "java/util/ArrayList", name := "size", desc := "()I" } : Jvm.MethodName)) ∈ lw_all := lw_g (lw_at lw_m3 92 rfl) rfl
theorem q708 : (Jvm.Cond.methodLink "PepperTables$Reader" (167 : Nat) ({ cls := "PepperTables$Reader", name := "person", desc := "()V" } : Jvm.MethodName)) ∈ lw_all := lw_g (lw_at lw_m3 93 rfl) rfl
theorem q709 : (Jvm.Cond.privateMethod ({ cls := "PepperTables$Reader", name := "person", desc := "()V" } : Jvm.MethodName)) ∈ lw_tbl := lw_at lw_m3 94 rfl
theorem q710 : (Jvm.Cond.instanceMethod ({ cls := "PepperTables$Reader", name := "person", desc := "()V" } : Jvm.MethodName)) ∈ lw_all := lw_g (lw_at lw_m3 95 rfl) rfl
theorem q711 : (Jvm.Cond.code ({ cls := "PepperTables$Reader", name := "person", desc := "()V" } : Jvm.MethodName) prog_17_method_18_code (2 : Nat) (Option.none : Option Jvm.ClassFile.FieldType)) ∈ lw_all := lw_g (lw_at lw_m3 96 rfl) rfl
theorem q712 : (Jvm.Cond.classLink "PepperTables$Reader" (204 : Nat) "PepperTables$Person") ∈ lw_all := lw_g (lw_at lw_m3 97 rfl) rfl
theorem q714 : (Jvm.Cond.methodLink "PepperTables$Reader" (174 : Nat) ({ cls := "PepperTables$Reader", name := "newName", desc := "(Ljava/util/ArrayList;)Ljava/lang/String;" } : Jvm.MethodName)) ∈ lw_all := lw_g (lw_at lw_m3 99 rfl) rfl
theorem q715 : (Jvm.Cond.privateMethod ({ cls := "PepperTables$Reader", name := "newName", desc := "(Ljava/util/ArrayList;)Ljava/lang/String;" } : Jvm.MethodName)) ∈ lw_tbl := lw_at lw_m3 100 rfl
theorem q716 : (Jvm.Cond.instanceMethod ({ cls := "PepperTables$Reader", name := "newName", desc := "(Ljava/util/ArrayList;)Ljava/lang/String;" } : Jvm.MethodName)) ∈ lw_all := lw_g (lw_at lw_m3 101 rfl) rfl
theorem q717 : (Jvm.Cond.code ({ cls := "PepperTables$Reader", name := "newName", desc := "(Ljava/util/ArrayList;)Ljava/lang/String;" } : Jvm.MethodName) prog_17_method_14_code (3 : Nat) (Option.some (Jvm.ClassFile.FieldType.object "java/lang/String"))) ∈ lw_all := lw_g (lw_at lw_m3 102 rfl) rfl
theorem q718 : (Jvm.Cond.methodLink "PepperTables$Reader" (147 : Nat) ({ cls := "PepperTables$Reader", name := "isName", desc := "()Z" } : Jvm.MethodName)) ∈ lw_all := lw_g (lw_at lw_m3 103 rfl) rfl
theorem q719 : (Jvm.Cond.privateMethod ({ cls := "PepperTables$Reader", name := "isName", desc := "()Z" } : Jvm.MethodName)) ∈ lw_tbl := lw_at lw_m3 104 rfl
theorem q720 : (Jvm.Cond.instanceMethod ({ cls := "PepperTables$Reader", name := "isName", desc := "()Z" } : Jvm.MethodName)) ∈ lw_all := lw_g (lw_at lw_m3 105 rfl) rfl
theorem q721 : (Jvm.Cond.code ({ cls := "PepperTables$Reader", name := "isName", desc := "()Z" } : Jvm.MethodName) prog_17_method_13_code (3 : Nat) (Option.some Jvm.ClassFile.FieldType.boolean)) ∈ lw_all := lw_g (lw_at lw_m3 106 rfl) rfl
theorem q722 : (Jvm.Cond.methodLink "PepperTables$Reader" (107 : Nat) ({ cls := "java/lang/String", name := "hashCode", desc := "()I" } : Jvm.MethodName)) ∈ lw_all := lw_g (lw_at lw_m3 107 rfl) rfl
theorem q775 : (Jvm.Cond.stringRef "PepperTables$Reader" (113 : Nat) "shy") ∈ lw_tbl := lw_at lw_m3 160 rfl
theorem q776 : (Jvm.Cond.stringRef "PepperTables$Reader" (115 : Nat) "sack") ∈ lw_tbl := lw_at lw_m3 161 rfl
theorem q777 : (Jvm.Cond.stringRef "PepperTables$Reader" (117 : Nat) "thing") ∈ lw_tbl := lw_at lw_m3 162 rfl
theorem q778 : (Jvm.Cond.stringRef "PepperTables$Reader" (119 : Nat) "by") ∈ lw_tbl := lw_at lw_m3 163 rfl
theorem q779 : (Jvm.Cond.stringRef "PepperTables$Reader" (121 : Nat) "to") ∈ lw_tbl := lw_at lw_m3 164 rfl
theorem q780 : (Jvm.Cond.stringRef "PepperTables$Reader" (123 : Nat) "hot") ∈ lw_tbl := lw_at lw_m3 165 rfl
theorem q781 : (Jvm.Cond.stringRef "PepperTables$Reader" (125 : Nat) "in") ∈ lw_tbl := lw_at lw_m3 166 rfl
theorem q782 : (Jvm.Cond.stringRef "PepperTables$Reader" (127 : Nat) "said") ∈ lw_tbl := lw_at lw_m3 167 rfl
theorem q783 : (Jvm.Cond.stringRef "PepperTables$Reader" (129 : Nat) "sneeze") ∈ lw_tbl := lw_at lw_m3 168 rfl
theorem q784 : (Jvm.Cond.stringRef "PepperTables$Reader" (131 : Nat) "draw") ∈ lw_tbl := lw_at lw_m3 169 rfl
theorem q785 : (Jvm.Cond.stringRef "PepperTables$Reader" (133 : Nat) "guests") ∈ lw_tbl := lw_at lw_m3 170 rfl
theorem q786 : (Jvm.Cond.stringRef "PepperTables$Reader" (135 : Nat) "ground") ∈ lw_tbl := lw_at lw_m3 171 rfl
theorem q787 : (Jvm.Cond.stringRef "PepperTables$Reader" (137 : Nat) "heat") ∈ lw_tbl := lw_at lw_m3 172 rfl
theorem q788 : (Jvm.Cond.stringRef "PepperTables$Reader" (139 : Nat) "course") ∈ lw_tbl := lw_at lw_m3 173 rfl
theorem q789 : (Jvm.Cond.stringRef "PepperTables$Reader" (141 : Nat) "and") ∈ lw_tbl := lw_at lw_m3 174 rfl
theorem q790 : (Jvm.Cond.stringRef "PepperTables$Reader" (143 : Nat) "or") ∈ lw_tbl := lw_at lw_m3 175 rfl
theorem q791 : (Jvm.Cond.stringRef "PepperTables$Reader" (145 : Nat) "not") ∈ lw_tbl := lw_at lw_m3 176 rfl
theorem q792 : (Jvm.Cond.methodLink "PepperTables$Reader" (96 : Nat) ({ cls := "PepperTables$Reader", name := "wrong", desc := "()LPepperTables$Wrong;" } : Jvm.MethodName)) ∈ lw_all := lw_g (lw_at lw_m3 177 rfl) rfl
theorem q793 : (Jvm.Cond.privateMethod ({ cls := "PepperTables$Reader", name := "wrong", desc := "()LPepperTables$Wrong;" } : Jvm.MethodName)) ∈ lw_tbl := lw_at lw_m3 178 rfl
theorem q794 : (Jvm.Cond.instanceMethod ({ cls := "PepperTables$Reader", name := "wrong", desc := "()LPepperTables$Wrong;" } : Jvm.MethodName)) ∈ lw_all := lw_g (lw_at lw_m3 179 rfl) rfl
theorem q795 : (Jvm.Cond.code ({ cls := "PepperTables$Reader", name := "wrong", desc := "()LPepperTables$Wrong;" } : Jvm.MethodName) prog_17_method_7_code (1 : Nat) (Option.some (Jvm.ClassFile.FieldType.object "PepperTables$Wrong"))) ∈ lw_all := lw_g (lw_at lw_m3 180 rfl) rfl
theorem q796 : (Jvm.Cond.classLink "PepperTables$Reader" (75 : Nat) "PepperTables$Wrong") ∈ lw_all := lw_g (lw_at lw_m3 181 rfl) rfl
theorem q833 : (Jvm.Cond.methodLink "PepperTables$Reader" (77 : Nat) ({ cls := "PepperTables$Wrong", name := "<init>", desc := "(II)V" } : Jvm.MethodName)) ∈ lw_all := lw_g (lw_at lw_m3 218 rfl) rfl
theorem q863 : (Jvm.Cond.methodLinkNest "PepperTables$Reader" (151 : Nat) ({ cls := "PepperTables", name := "find", desc := "(Ljava/util/ArrayList;Ljava/lang/String;)I" } : Jvm.MethodName) "PepperTables") ∈ lw_tbl := lw_at lw_m4 8 rfl
theorem q870 : (Jvm.Cond.methodLink "PepperTables$Reader" (206 : Nat) ({ cls := "PepperTables$Person", name := "<init>", desc := "(Ljava/lang/String;)V" } : Jvm.MethodName)) ∈ lw_all := lw_g (lw_at lw_m4 15 rfl) rfl
theorem q879 : (Jvm.Cond.fieldLink "PepperTables$Reader" (211 : Nat) "PepperTables$Person" "shy" "I") ∈ lw_all := lw_g (lw_at lw_m4 24 rfl) rfl
theorem q887 : (Jvm.Cond.methodLink "PepperTables$Reader" (207 : Nat) ({ cls := "PepperTables$Reader", name := "told", desc := "(Ljava/lang/String;II)I" } : Jvm.MethodName)) ∈ lw_all := lw_g (lw_at lw_m4 32 rfl) rfl
theorem q888 : (Jvm.Cond.privateMethod ({ cls := "PepperTables$Reader", name := "told", desc := "(Ljava/lang/String;II)I" } : Jvm.MethodName)) ∈ lw_tbl := lw_at lw_m4 33 rfl
theorem q889 : (Jvm.Cond.instanceMethod ({ cls := "PepperTables$Reader", name := "told", desc := "(Ljava/lang/String;II)I" } : Jvm.MethodName)) ∈ lw_all := lw_g (lw_at lw_m4 34 rfl) rfl
theorem q890 : (Jvm.Cond.code ({ cls := "PepperTables$Reader", name := "told", desc := "(Ljava/lang/String;II)I" } : Jvm.MethodName) prog_17_method_12_code (4 : Nat) (Option.some Jvm.ClassFile.FieldType.int)) ∈ lw_all := lw_g (lw_at lw_m4 35 rfl) rfl
theorem q891 : (Jvm.Cond.methodLink "PepperTables$Reader" (100 : Nat) ({ cls := "PepperTables$Reader", name := "key", desc := "(Ljava/lang/String;)V" } : Jvm.MethodName)) ∈ lw_all := lw_g (lw_at lw_m4 36 rfl) rfl
theorem q892 : (Jvm.Cond.privateMethod ({ cls := "PepperTables$Reader", name := "key", desc := "(Ljava/lang/String;)V" } : Jvm.MethodName)) ∈ lw_tbl := lw_at lw_m4 37 rfl
theorem q893 : (Jvm.Cond.instanceMethod ({ cls := "PepperTables$Reader", name := "key", desc := "(Ljava/lang/String;)V" } : Jvm.MethodName)) ∈ lw_all := lw_g (lw_at lw_m4 38 rfl) rfl
theorem q894 : (Jvm.Cond.code ({ cls := "PepperTables$Reader", name := "key", desc := "(Ljava/lang/String;)V" } : Jvm.MethodName) prog_17_method_10_code (2 : Nat) (Option.none : Option Jvm.ClassFile.FieldType)) ∈ lw_all := lw_g (lw_at lw_m4 39 rfl) rfl
theorem q895 : (Jvm.Cond.methodLink "PepperTables$Reader" (93 : Nat) ({ cls := "PepperTables$Reader", name := "takes", desc := "(Ljava/lang/String;)Z" } : Jvm.MethodName)) ∈ lw_all := lw_g (lw_at lw_m4 40 rfl) rfl
theorem q896 : (Jvm.Cond.privateMethod ({ cls := "PepperTables$Reader", name := "takes", desc := "(Ljava/lang/String;)Z" } : Jvm.MethodName)) ∈ lw_tbl := lw_at lw_m4 41 rfl
theorem q897 : (Jvm.Cond.instanceMethod ({ cls := "PepperTables$Reader", name := "takes", desc := "(Ljava/lang/String;)Z" } : Jvm.MethodName)) ∈ lw_all := lw_g (lw_at lw_m4 42 rfl) rfl
theorem q898 : (Jvm.Cond.code ({ cls := "PepperTables$Reader", name := "takes", desc := "(Ljava/lang/String;)Z" } : Jvm.MethodName) prog_17_method_9_code (3 : Nat) (Option.some Jvm.ClassFile.FieldType.boolean)) ∈ lw_all := lw_g (lw_at lw_m4 43 rfl) rfl
theorem q899 : (Jvm.Cond.methodLink "PepperTables$Reader" (104 : Nat) ({ cls := "PepperTables$Reader", name := "number", desc := "(II)I" } : Jvm.MethodName)) ∈ lw_all := lw_g (lw_at lw_m4 44 rfl) rfl
theorem q900 : (Jvm.Cond.privateMethod ({ cls := "PepperTables$Reader", name := "number", desc := "(II)I" } : Jvm.MethodName)) ∈ lw_tbl := lw_at lw_m4 45 rfl
theorem q901 : (Jvm.Cond.instanceMethod ({ cls := "PepperTables$Reader", name := "number", desc := "(II)I" } : Jvm.MethodName)) ∈ lw_all := lw_g (lw_at lw_m4 46 rfl) rfl
theorem q902 : (Jvm.Cond.code ({ cls := "PepperTables$Reader", name := "number", desc := "(II)I" } : Jvm.MethodName) prog_17_method_11_code (4 : Nat) (Option.some Jvm.ClassFile.FieldType.int)) ∈ lw_all := lw_g (lw_at lw_m4 47 rfl) rfl
theorem q903 : (Jvm.Cond.methodLink "PepperTables$Reader" (180 : Nat) ({ cls := "java/util/ArrayList", name := "add", desc := "(Ljava/lang/Object;)Z" } : Jvm.MethodName)) ∈ lw_all := lw_g (lw_at lw_m4 48 rfl) rfl
theorem q942 : (Jvm.Cond.selects "PepperTables$Reader" ({ cls := "java/lang/Object", name := "getClass", desc := "()Ljava/lang/Class;" } : Jvm.MethodName) ({ cls := "java/lang/Object", name := "getClass", desc := "()Ljava/lang/Class;" } : Jvm.MethodName)) ∈ lw_all := lw_g (lw_at lw_m4 87 rfl) rfl
theorem q959 : (Jvm.Cond.classLink "PepperTables$Reader" (172 : Nat) "PepperTables$Named") ∈ lw_all := lw_g (lw_at lw_m4 104 rfl) rfl
theorem q961 : (Jvm.Cond.methodLink "PepperTables$Reader" (178 : Nat) ({ cls := "PepperTables$Named", name := "<init>", desc := "(Ljava/lang/String;)V" } : Jvm.MethodName)) ∈ lw_all := lw_g (lw_at lw_m4 106 rfl) rfl
theorem q964 : (Jvm.Cond.methodLink "PepperTables$Reader" (186 : Nat) ({ cls := "PepperTables$Reader", name := "thing", desc := "()V" } : Jvm.MethodName)) ∈ lw_all := lw_g (lw_at lw_m4 109 rfl) rfl
theorem q965 : (Jvm.Cond.privateMethod ({ cls := "PepperTables$Reader", name := "thing", desc := "()V" } : Jvm.MethodName)) ∈ lw_tbl := lw_at lw_m4 110 rfl
theorem q966 : (Jvm.Cond.instanceMethod ({ cls := "PepperTables$Reader", name := "thing", desc := "()V" } : Jvm.MethodName)) ∈ lw_all := lw_g (lw_at lw_m4 111 rfl) rfl
theorem q967 : (Jvm.Cond.code ({ cls := "PepperTables$Reader", name := "thing", desc := "()V" } : Jvm.MethodName) prog_17_method_19_code (2 : Nat) (Option.none : Option Jvm.ClassFile.FieldType)) ∈ lw_all := lw_g (lw_at lw_m4 112 rfl) rfl
theorem q968 : (Jvm.Cond.classLink "PepperTables$Reader" (213 : Nat) "PepperTables$Thing") ∈ lw_all := lw_g (lw_at lw_m4 113 rfl) rfl
theorem q970 : (Jvm.Cond.methodLink "PepperTables$Reader" (215 : Nat) ({ cls := "PepperTables$Thing", name := "<init>", desc := "(Ljava/lang/String;)V" } : Jvm.MethodName)) ∈ lw_all := lw_g (lw_at lw_m4 115 rfl) rfl
theorem q975 : (Jvm.Cond.fieldLink "PepperTables$Reader" (220 : Nat) "PepperTables$Thing" "by" "I") ∈ lw_all := lw_g (lw_at lw_m4 120 rfl) rfl
theorem q977 : (Jvm.Cond.fieldLink "PepperTables$Reader" (222 : Nat) "PepperTables$Thing" "to" "I") ∈ lw_all := lw_g (lw_at lw_m4 122 rfl) rfl
theorem q979 : (Jvm.Cond.fieldLink "PepperTables$Reader" (224 : Nat) "PepperTables$Thing" "hot" "I") ∈ lw_all := lw_g (lw_at lw_m4 124 rfl) rfl
theorem q982 : (Jvm.Cond.fieldLink "PepperTables$Reader" (226 : Nat) "PepperTables$Thing" "in" "I") ∈ lw_all := lw_g (lw_at lw_m4 127 rfl) rfl
theorem q993 : (Jvm.Cond.methodLink "PepperTables$Reader" (216 : Nat) ({ cls := "PepperTables$Reader", name := "oldName", desc := "(Ljava/lang/String;Ljava/util/ArrayList;)I" } : Jvm.MethodName)) ∈ lw_all := lw_g (lw_at lw_m4 138 rfl) rfl
theorem q994 : (Jvm.Cond.privateMethod ({ cls := "PepperTables$Reader", name := "oldName", desc := "(Ljava/lang/String;Ljava/util/ArrayList;)I" } : Jvm.MethodName)) ∈ lw_tbl := lw_at lw_m4 139 rfl
theorem q995 : (Jvm.Cond.instanceMethod ({ cls := "PepperTables$Reader", name := "oldName", desc := "(Ljava/lang/String;Ljava/util/ArrayList;)I" } : Jvm.MethodName)) ∈ lw_all := lw_g (lw_at lw_m4 140 rfl) rfl
theorem q996 : (Jvm.Cond.code ({ cls := "PepperTables$Reader", name := "oldName", desc := "(Ljava/lang/String;Ljava/util/ArrayList;)I" } : Jvm.MethodName) prog_17_method_15_code (3 : Nat) (Option.some Jvm.ClassFile.FieldType.int)) ∈ lw_all := lw_g (lw_at lw_m4 141 rfl) rfl
theorem q997 : (Jvm.Cond.methodLink "PepperTables$Reader" (191 : Nat) ({ cls := "PepperTables$Reader", name := "said", desc := "()V" } : Jvm.MethodName)) ∈ lw_all := lw_g (lw_at lw_m4 142 rfl) rfl
theorem q998 : (Jvm.Cond.privateMethod ({ cls := "PepperTables$Reader", name := "said", desc := "()V" } : Jvm.MethodName)) ∈ lw_tbl := lw_at lw_m4 143 rfl
theorem q999 : (Jvm.Cond.instanceMethod ({ cls := "PepperTables$Reader", name := "said", desc := "()V" } : Jvm.MethodName)) ∈ lw_all := lw_g (lw_at lw_m4 144 rfl) rfl
theorem q1000 : (Jvm.Cond.code ({ cls := "PepperTables$Reader", name := "said", desc := "()V" } : Jvm.MethodName) prog_17_method_20_code (1 : Nat) (Option.none : Option Jvm.ClassFile.FieldType)) ∈ lw_all := lw_g (lw_at lw_m4 145 rfl) rfl
theorem q1001 : (Jvm.Cond.methodLink "PepperTables$Reader" (228 : Nat) ({ cls := "PepperTables$Reader", name := "e", desc := "()LPepperTables$Node;" } : Jvm.MethodName)) ∈ lw_all := lw_g (lw_at lw_m4 146 rfl) rfl
theorem q1002 : (Jvm.Cond.privateMethod ({ cls := "PepperTables$Reader", name := "e", desc := "()LPepperTables$Node;" } : Jvm.MethodName)) ∈ lw_tbl := lw_at lw_m4 147 rfl
theorem q1003 : (Jvm.Cond.instanceMethod ({ cls := "PepperTables$Reader", name := "e", desc := "()LPepperTables$Node;" } : Jvm.MethodName)) ∈ lw_all := lw_g (lw_at lw_m4 148 rfl) rfl
theorem q1004 : (Jvm.Cond.code ({ cls := "PepperTables$Reader", name := "e", desc := "()LPepperTables$Node;" } : Jvm.MethodName) prog_17_method_23_code (1 : Nat) (Option.some (Jvm.ClassFile.FieldType.object "PepperTables$Node"))) ∈ lw_all := lw_g (lw_at lw_m4 149 rfl) rfl
theorem q1005 : (Jvm.Cond.methodLink "PepperTables$Reader" (243 : Nat) ({ cls := "PepperTables$Reader", name := "both", desc := "()LPepperTables$Node;" } : Jvm.MethodName)) ∈ lw_all := lw_g (lw_at lw_m4 150 rfl) rfl
theorem q1006 : (Jvm.Cond.privateMethod ({ cls := "PepperTables$Reader", name := "both", desc := "()LPepperTables$Node;" } : Jvm.MethodName)) ∈ lw_tbl := lw_at lw_m4 151 rfl
theorem q1007 : (Jvm.Cond.instanceMethod ({ cls := "PepperTables$Reader", name := "both", desc := "()LPepperTables$Node;" } : Jvm.MethodName)) ∈ lw_all := lw_g (lw_at lw_m4 152 rfl) rfl
theorem q1008 : (Jvm.Cond.code ({ cls := "PepperTables$Reader", name := "both", desc := "()LPepperTables$Node;" } : Jvm.MethodName) prog_17_method_24_code (2 : Nat) (Option.some (Jvm.ClassFile.FieldType.object "PepperTables$Node"))) ∈ lw_all := lw_g (lw_at lw_m4 153 rfl) rfl
theorem q1009 : (Jvm.Cond.methodLink "PepperTables$Reader" (246 : Nat) ({ cls := "PepperTables$Reader", name := "all", desc := "()LPepperTables$Node;" } : Jvm.MethodName)) ∈ lw_all := lw_g (lw_at lw_m4 154 rfl) rfl
theorem q1010 : (Jvm.Cond.privateMethod ({ cls := "PepperTables$Reader", name := "all", desc := "()LPepperTables$Node;" } : Jvm.MethodName)) ∈ lw_tbl := lw_at lw_m4 155 rfl
theorem q1011 : (Jvm.Cond.instanceMethod ({ cls := "PepperTables$Reader", name := "all", desc := "()LPepperTables$Node;" } : Jvm.MethodName)) ∈ lw_all := lw_g (lw_at lw_m4 156 rfl) rfl
theorem q1012 : (Jvm.Cond.code ({ cls := "PepperTables$Reader", name := "all", desc := "()LPepperTables$Node;" } : Jvm.MethodName) prog_17_method_25_code (2 : Nat) (Option.some (Jvm.ClassFile.FieldType.object "PepperTables$Node"))) ∈ lw_all := lw_g (lw_at lw_m4 157 rfl) rfl
theorem q1013 : (Jvm.Cond.methodLink "PepperTables$Reader" (254 : Nat) ({ cls := "PepperTables$Reader", name := "one", desc := "()LPepperTables$Node;" } : Jvm.MethodName)) ∈ lw_all := lw_g (lw_at lw_m4 158 rfl) rfl
theorem q1014 : (Jvm.Cond.privateMethod ({ cls := "PepperTables$Reader", name := "one", desc := "()LPepperTables$Node;" } : Jvm.MethodName)) ∈ lw_tbl := lw_at lw_m4 159 rfl
theorem q1015 : (Jvm.Cond.instanceMethod ({ cls := "PepperTables$Reader", name := "one", desc := "()LPepperTables$Node;" } : Jvm.MethodName)) ∈ lw_all := lw_g (lw_at lw_m4 160 rfl) rfl
theorem q1016 : (Jvm.Cond.code ({ cls := "PepperTables$Reader", name := "one", desc := "()LPepperTables$Node;" } : Jvm.MethodName) prog_17_method_26_code (3 : Nat) (Option.some (Jvm.ClassFile.FieldType.object "PepperTables$Node"))) ∈ lw_all := lw_g (lw_at lw_m4 161 rfl) rfl
theorem q1017 : (Jvm.Cond.classLink "PepperTables$Reader" (257 : Nat) "PepperTables$Not") ∈ lw_all := lw_g (lw_at lw_m4 162 rfl) rfl
theorem q1019 : (Jvm.Cond.methodLink "PepperTables$Reader" (259 : Nat) ({ cls := "PepperTables$Not", name := "<init>", desc := "(LPepperTables$Node;)V" } : Jvm.MethodName)) ∈ lw_all := lw_g (lw_at lw_m4 164 rfl) rfl
theorem q1027 : (Jvm.Cond.methodLink "PepperTables$Reader" (262 : Nat) ({ cls := "PepperTables$Reader", name := "sum", desc := "()LPepperTables$Node;" } : Jvm.MethodName)) ∈ lw_all := lw_g (lw_at lw_m4 172 rfl) rfl
theorem q1028 : (Jvm.Cond.privateMethod ({ cls := "PepperTables$Reader", name := "sum", desc := "()LPepperTables$Node;" } : Jvm.MethodName)) ∈ lw_tbl := lw_at lw_m4 173 rfl
theorem q1029 : (Jvm.Cond.instanceMethod ({ cls := "PepperTables$Reader", name := "sum", desc := "()LPepperTables$Node;" } : Jvm.MethodName)) ∈ lw_all := lw_g (lw_at lw_m4 174 rfl) rfl
theorem q1030 : (Jvm.Cond.code ({ cls := "PepperTables$Reader", name := "sum", desc := "()LPepperTables$Node;" } : Jvm.MethodName) prog_17_method_27_code (3 : Nat) (Option.some (Jvm.ClassFile.FieldType.object "PepperTables$Node"))) ∈ lw_all := lw_g (lw_at lw_m4 175 rfl) rfl
theorem q1031 : (Jvm.Cond.methodLink "PepperTables$Reader" (265 : Nat) ({ cls := "PepperTables$Reader", name := "term", desc := "()LPepperTables$Node;" } : Jvm.MethodName)) ∈ lw_all := lw_g (lw_at lw_m4 176 rfl) rfl
theorem q1032 : (Jvm.Cond.privateMethod ({ cls := "PepperTables$Reader", name := "term", desc := "()LPepperTables$Node;" } : Jvm.MethodName)) ∈ lw_tbl := lw_at lw_m4 177 rfl
theorem q1033 : (Jvm.Cond.instanceMethod ({ cls := "PepperTables$Reader", name := "term", desc := "()LPepperTables$Node;" } : Jvm.MethodName)) ∈ lw_all := lw_g (lw_at lw_m4 178 rfl) rfl
theorem q1034 : (Jvm.Cond.code ({ cls := "PepperTables$Reader", name := "term", desc := "()LPepperTables$Node;" } : Jvm.MethodName) prog_17_method_28_code (3 : Nat) (Option.some (Jvm.ClassFile.FieldType.object "PepperTables$Node"))) ∈ lw_all := lw_g (lw_at lw_m4 179 rfl) rfl
theorem q1035 : (Jvm.Cond.methodLink "PepperTables$Reader" (268 : Nat) ({ cls := "PepperTables$Reader", name := "unit", desc := "()LPepperTables$Node;" } : Jvm.MethodName)) ∈ lw_all := lw_g (lw_at lw_m4 180 rfl) rfl
theorem q1036 : (Jvm.Cond.privateMethod ({ cls := "PepperTables$Reader", name := "unit", desc := "()LPepperTables$Node;" } : Jvm.MethodName)) ∈ lw_tbl := lw_at lw_m4 181 rfl
theorem q1037 : (Jvm.Cond.instanceMethod ({ cls := "PepperTables$Reader", name := "unit", desc := "()LPepperTables$Node;" } : Jvm.MethodName)) ∈ lw_all := lw_g (lw_at lw_m4 182 rfl) rfl
theorem q1038 : (Jvm.Cond.code ({ cls := "PepperTables$Reader", name := "unit", desc := "()LPepperTables$Node;" } : Jvm.MethodName) prog_17_method_30_code (3 : Nat) (Option.some (Jvm.ClassFile.FieldType.object "PepperTables$Node"))) ∈ lw_all := lw_g (lw_at lw_m4 183 rfl) rfl
theorem q1039 : (Jvm.Cond.methodLink "PepperTables$Reader" (292 : Nat) ({ cls := "PepperTables$Reader", name := "asked", desc := "()LPepperTables$Node;" } : Jvm.MethodName)) ∈ lw_all := lw_g (lw_at lw_m4 184 rfl) rfl
theorem q1040 : (Jvm.Cond.privateMethod ({ cls := "PepperTables$Reader", name := "asked", desc := "()LPepperTables$Node;" } : Jvm.MethodName)) ∈ lw_tbl := lw_at lw_m4 185 rfl
theorem q1041 : (Jvm.Cond.instanceMethod ({ cls := "PepperTables$Reader", name := "asked", desc := "()LPepperTables$Node;" } : Jvm.MethodName)) ∈ lw_all := lw_g (lw_at lw_m4 186 rfl) rfl
theorem q1042 : (Jvm.Cond.code ({ cls := "PepperTables$Reader", name := "asked", desc := "()LPepperTables$Node;" } : Jvm.MethodName) prog_17_method_29_code (3 : Nat) (Option.some (Jvm.ClassFile.FieldType.object "PepperTables$Node"))) ∈ lw_all := lw_g (lw_at lw_m4 187 rfl) rfl
theorem q1043 : (Jvm.Cond.fieldLink "PepperTables$Reader" (271 : Nat) "PepperTables$Asked" "HOW_HOT" "LPepperTables$Asked;") ∈ lw_all := lw_g (lw_at lw_m4 188 rfl) rfl
theorem q1045 : (Jvm.Cond.fieldLink "PepperTables$Reader" (277 : Nat) "PepperTables$Asked" "HOW_SHY" "LPepperTables$Asked;") ∈ lw_all := lw_g (lw_at lw_m4 190 rfl) rfl
theorem q1047 : (Jvm.Cond.fieldLink "PepperTables$Reader" (280 : Nat) "PepperTables$Asked" "HOW_MANY" "LPepperTables$Asked;") ∈ lw_all := lw_g (lw_at lw_m4 192 rfl) rfl
theorem q1049 : (Jvm.Cond.fieldLink "PepperTables$Reader" (283 : Nat) "PepperTables$Asked" "HOW_OFTEN" "LPepperTables$Asked;") ∈ lw_all := lw_g (lw_at lw_m4 194 rfl) rfl
theorem q1051 : (Jvm.Cond.fieldLink "PepperTables$Reader" (286 : Nat) "PepperTables$Asked" "ITS_HEAT" "LPepperTables$Asked;") ∈ lw_all := lw_g (lw_at lw_m4 196 rfl) rfl
theorem q1053 : (Jvm.Cond.fieldLink "PepperTables$Reader" (289 : Nat) "PepperTables$Asked" "A_COURSE" "LPepperTables$Asked;") ∈ lw_all := lw_g (lw_at lw_m4 198 rfl) rfl
theorem q1055 : (Jvm.Cond.classLink "PepperTables$Reader" (298 : Nat) "PepperTables$Value") ∈ lw_all := lw_g (lw_at lw_m4 200 rfl) rfl
theorem q1057 : (Jvm.Cond.methodLink "PepperTables$Reader" (300 : Nat) ({ cls := "PepperTables$Value", name := "<init>", desc := "(I)V" } : Jvm.MethodName)) ∈ lw_all := lw_g (lw_at lw_m4 202 rfl) rfl
theorem q1065 : (Jvm.Cond.classLink "PepperTables$Reader" (249 : Nat) "PepperTables$Pair") ∈ lw_all := lw_g (lw_at lw_m4 210 rfl) rfl
theorem q1067 : (Jvm.Cond.methodLink "PepperTables$Reader" (251 : Nat) ({ cls := "PepperTables$Pair", name := "<init>", desc := "(LPepperTables$Node;LPepperTables$Node;C)V" } : Jvm.MethodName)) ∈ lw_all := lw_g (lw_at lw_m4 212 rfl) rfl
theorem q1081 : (Jvm.Cond.methodLink "PepperTables$Reader" (197 : Nat) ({ cls := "PepperTables$Reader", name := "sneeze", desc := "()V" } : Jvm.MethodName)) ∈ lw_all := lw_g (lw_at lw_m4 226 rfl) rfl
theorem q1082 : (Jvm.Cond.privateMethod ({ cls := "PepperTables$Reader", name := "sneeze", desc := "()V" } : Jvm.MethodName)) ∈ lw_tbl := lw_at lw_m4 227 rfl
theorem q1083 : (Jvm.Cond.instanceMethod ({ cls := "PepperTables$Reader", name := "sneeze", desc := "()V" } : Jvm.MethodName)) ∈ lw_all := lw_g (lw_at lw_m4 228 rfl) rfl
theorem q1084 : (Jvm.Cond.code ({ cls := "PepperTables$Reader", name := "sneeze", desc := "()V" } : Jvm.MethodName) prog_17_method_21_code (1 : Nat) (Option.none : Option Jvm.ClassFile.FieldType)) ∈ lw_all := lw_g (lw_at lw_m4 229 rfl) rfl
theorem q1085 : (Jvm.Cond.methodLink "PepperTables$Reader" (202 : Nat) ({ cls := "PepperTables$Reader", name := "draw", desc := "()V" } : Jvm.MethodName)) ∈ lw_all := lw_g (lw_at lw_m4 230 rfl) rfl
theorem q1086 : (Jvm.Cond.privateMethod ({ cls := "PepperTables$Reader", name := "draw", desc := "()V" } : Jvm.MethodName)) ∈ lw_tbl := lw_at lw_m4 231 rfl
theorem q1087 : (Jvm.Cond.instanceMethod ({ cls := "PepperTables$Reader", name := "draw", desc := "()V" } : Jvm.MethodName)) ∈ lw_all := lw_g (lw_at lw_m4 232 rfl) rfl
theorem q1088 : (Jvm.Cond.code ({ cls := "PepperTables$Reader", name := "draw", desc := "()V" } : Jvm.MethodName) prog_17_method_22_code (1 : Nat) (Option.none : Option Jvm.ClassFile.FieldType)) ∈ lw_all := lw_g (lw_at lw_m4 233 rfl) rfl
theorem q2418 : (Jvm.Cond.castable "PepperTables$Reader" "java/lang/Object") ∈ lw_tbl := lw_at lw_m10 123 rfl
theorem in_X5 : ∀ w ∈ wsX50, w ∈ lw_all := lw_in wsX50 [457, 459, 461, 463, 465, 467, 469, 471, 473, 475, 477] (by decide +kernel) (by decide +kernel)

