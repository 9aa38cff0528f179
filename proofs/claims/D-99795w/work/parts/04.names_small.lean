/-! PepperTables$Book -/
set_option maxRecDepth 100000
def RX1 : String := "PepperTables$Book"
def TX1 : u_T := fun k => match k with
  | 0 => ("PepperTables$Book", "people", "Ljava/util/ArrayList;", true)
  | 1 => ("PepperTables$Book", "sacks", "Ljava/util/ArrayList;", true)
  | 2 => ("PepperTables$Book", "things", "Ljava/util/ArrayList;", true)
  | 3 => ("PepperTables$Book", "ask", "LPepperTables$Ask;", true)
  | 4 => ("PepperTables$Book", "said", "LPepperTables$Node;", false)
  | 5 => ("PepperTables$Book", "sneeze", "I", false)
  | 6 => ("PepperTables$Book", "seed", "I", false)
  | _ => ("PepperTables$Book", "units", "I", false)
def tyX1 : Nat → FieldType := fun k => match k with
  | 0 => .object "java/util/ArrayList"
  | 1 => .object "java/util/ArrayList"
  | 2 => .object "java/util/ArrayList"
  | 3 => .object "PepperTables$Ask"
  | 4 => .object "PepperTables$Node"
  | 5 => .int
  | 6 => .int
  | _ => .int
abbrev wsX10 : List Cond := u_ws RX1 TX1 8
theorem nmX1 : ∀ a, a < 8 → ∀ b, b < 8 → a ≠ b → (TX1 a).2.1 ≠ (TX1 b).2.1 := by decide +kernel
theorem tyX1_ok : ∀ k, k < 8 → parseFieldDescriptor (TX1 k).2.2.1 = some (tyX1 k) := by decide +kernel
abbrev cX1_init : ByteArray := prog_10_method_1_code
def yX1_init : MethodName := ⟨RX1, "<init>", "()V"⟩
def dkwX1_init_2 : List UInt8 := [183, 0, 26, 181, 0, 27, 177]
abbrev dktX1_init_2 : List UInt8 := dkwX1_init_2 ++ []
def dkwX1_init_1 : List UInt8 := [183, 0, 9, 181, 0, 18, 42, 187, 0, 7, 89, 5, 183, 0, 9, 181, 0, 21, 42, 187, 0, 24, 89]
abbrev dktX1_init_1 : List UInt8 := dkwX1_init_1 ++ dktX1_init_2
def dkwX1_init_0 : List UInt8 := [42, 183, 0, 1, 42, 187, 0, 7, 89, 5, 183, 0, 9, 181, 0, 12, 42, 187, 0, 7, 89, 5]
abbrev dktX1_init_0 : List UInt8 := dkwX1_init_0 ++ dktX1_init_1
theorem dksX1_init_0 : cX1_init.data.toList.drop 0 = dktX1_init_0 := by decide +kernel
theorem dksX1_init_1 : cX1_init.data.toList.drop 22 = dktX1_init_1 := dk_seg dksX1_init_0 22 rfl rfl
theorem dksX1_init_2 : cX1_init.data.toList.drop 45 = dktX1_init_2 := dk_seg dksX1_init_1 23 rfl rfl
theorem dX1_init_0 : decode cX1_init 0 = .ok (.aload_n 0, 1) := dk_42 (dk_at dksX1_init_0 0 rfl rfl)
theorem dX1_init_1 : decode cX1_init 1 = .ok (.invokespecial 1, 3) := dk_183 0 1 (dk_at dksX1_init_0 1 rfl rfl)
theorem dX1_init_4 : decode cX1_init 4 = .ok (.aload_n 0, 1) := dk_42 (dk_at dksX1_init_0 4 rfl rfl)
theorem dX1_init_5 : decode cX1_init 5 = .ok (.new 7, 3) := dk_187 0 7 (dk_at dksX1_init_0 5 rfl rfl)
theorem dX1_init_8 : decode cX1_init 8 = .ok (.dup, 1) := dk_89 (dk_at dksX1_init_0 8 rfl rfl)
theorem dX1_init_9 : decode cX1_init 9 = .ok (.iconst 2, 1) := dk_5 (dk_at dksX1_init_0 9 rfl rfl)
theorem dX1_init_10 : decode cX1_init 10 = .ok (.invokespecial 9, 3) := dk_183 0 9 (dk_at dksX1_init_0 10 rfl rfl)
theorem dX1_init_13 : decode cX1_init 13 = .ok (.putfield 12, 3) := dk_181 0 12 (dk_at dksX1_init_0 13 rfl rfl)
theorem dX1_init_16 : decode cX1_init 16 = .ok (.aload_n 0, 1) := dk_42 (dk_at dksX1_init_0 16 rfl rfl)
theorem dX1_init_17 : decode cX1_init 17 = .ok (.new 7, 3) := dk_187 0 7 (dk_at dksX1_init_0 17 rfl rfl)
theorem dX1_init_20 : decode cX1_init 20 = .ok (.dup, 1) := dk_89 (dk_at dksX1_init_0 20 rfl rfl)
theorem dX1_init_21 : decode cX1_init 21 = .ok (.iconst 2, 1) := dk_5 (dk_at dksX1_init_0 21 rfl rfl)
theorem dX1_init_22 : decode cX1_init 22 = .ok (.invokespecial 9, 3) := dk_183 0 9 (dk_at dksX1_init_1 0 rfl rfl)
theorem dX1_init_25 : decode cX1_init 25 = .ok (.putfield 18, 3) := dk_181 0 18 (dk_at dksX1_init_1 3 rfl rfl)
theorem dX1_init_28 : decode cX1_init 28 = .ok (.aload_n 0, 1) := dk_42 (dk_at dksX1_init_1 6 rfl rfl)
theorem dX1_init_29 : decode cX1_init 29 = .ok (.new 7, 3) := dk_187 0 7 (dk_at dksX1_init_1 7 rfl rfl)
theorem dX1_init_32 : decode cX1_init 32 = .ok (.dup, 1) := dk_89 (dk_at dksX1_init_1 10 rfl rfl)
theorem dX1_init_33 : decode cX1_init 33 = .ok (.iconst 2, 1) := dk_5 (dk_at dksX1_init_1 11 rfl rfl)
theorem dX1_init_34 : decode cX1_init 34 = .ok (.invokespecial 9, 3) := dk_183 0 9 (dk_at dksX1_init_1 12 rfl rfl)
theorem dX1_init_37 : decode cX1_init 37 = .ok (.putfield 21, 3) := dk_181 0 21 (dk_at dksX1_init_1 15 rfl rfl)
theorem dX1_init_40 : decode cX1_init 40 = .ok (.aload_n 0, 1) := dk_42 (dk_at dksX1_init_1 18 rfl rfl)
theorem dX1_init_41 : decode cX1_init 41 = .ok (.new 24, 3) := dk_187 0 24 (dk_at dksX1_init_1 19 rfl rfl)
theorem dX1_init_44 : decode cX1_init 44 = .ok (.dup, 1) := dk_89 (dk_at dksX1_init_1 22 rfl rfl)
theorem dX1_init_45 : decode cX1_init 45 = .ok (.invokespecial 26, 3) := dk_183 0 26 (dk_at dksX1_init_2 0 rfl rfl)
theorem dX1_init_48 : decode cX1_init 48 = .ok (.putfield 27, 3) := dk_181 0 27 (dk_at dksX1_init_2 3 rfl rfl)
theorem dX1_init_51 : decode cX1_init 51 = .ok (.return_, 1) := dk_177 (dk_at dksX1_init_2 6 rfl rfl)
abbrev cX1_allBy : ByteArray := prog_10_method_7_code
def yX1_allBy : MethodName := ⟨RX1, "allBy", "(I)I"⟩
def dkwX1_allBy_1 : List UInt8 := [160, 0, 9, 4, 29, 120, 167, 0, 4, 3, 128, 61, 132, 3, 1, 167, 255, 223, 28, 172]
abbrev dktX1_allBy_1 : List UInt8 := dkwX1_allBy_1 ++ []
def dkwX1_allBy_0 : List UInt8 := [3, 61, 3, 62, 29, 42, 180, 0, 21, 182, 0, 55, 162, 0, 28, 28, 42, 29, 182, 0, 47, 27]
abbrev dktX1_allBy_0 : List UInt8 := dkwX1_allBy_0 ++ dktX1_allBy_1
theorem dksX1_allBy_0 : cX1_allBy.data.toList.drop 0 = dktX1_allBy_0 := by decide +kernel
theorem dksX1_allBy_1 : cX1_allBy.data.toList.drop 22 = dktX1_allBy_1 := dk_seg dksX1_allBy_0 22 rfl rfl
theorem dX1_allBy_0 : decode cX1_allBy 0 = .ok (.iconst 0, 1) := dk_3 (dk_at dksX1_allBy_0 0 rfl rfl)
theorem dX1_allBy_1 : decode cX1_allBy 1 = .ok (.istore_n 2, 1) := dk_61 (dk_at dksX1_allBy_0 1 rfl rfl)
theorem dX1_allBy_2 : decode cX1_allBy 2 = .ok (.iconst 0, 1) := dk_3 (dk_at dksX1_allBy_0 2 rfl rfl)
theorem dX1_allBy_3 : decode cX1_allBy 3 = .ok (.istore_n 3, 1) := dk_62 (dk_at dksX1_allBy_0 3 rfl rfl)
theorem dX1_allBy_4 : decode cX1_allBy 4 = .ok (.iload_n 3, 1) := dk_29 (dk_at dksX1_allBy_0 4 rfl rfl)
theorem dX1_allBy_5 : decode cX1_allBy 5 = .ok (.aload_n 0, 1) := dk_42 (dk_at dksX1_allBy_0 5 rfl rfl)
theorem dX1_allBy_6 : decode cX1_allBy 6 = .ok (.getfield 21, 3) := dk_180 0 21 (dk_at dksX1_allBy_0 6 rfl rfl)
theorem dX1_allBy_9 : decode cX1_allBy 9 = .ok (.invokevirtual 55, 3) := dk_182 0 55 (dk_at dksX1_allBy_0 9 rfl rfl)
theorem dX1_allBy_12 : decode cX1_allBy 12 = .ok (.if_icmp .ge 28, 3) := dk_162 0 28 (dk_at dksX1_allBy_0 12 rfl rfl)
theorem dX1_allBy_15 : decode cX1_allBy 15 = .ok (.iload_n 2, 1) := dk_28 (dk_at dksX1_allBy_0 15 rfl rfl)
theorem dX1_allBy_16 : decode cX1_allBy 16 = .ok (.aload_n 0, 1) := dk_42 (dk_at dksX1_allBy_0 16 rfl rfl)
theorem dX1_allBy_17 : decode cX1_allBy 17 = .ok (.iload_n 3, 1) := dk_29 (dk_at dksX1_allBy_0 17 rfl rfl)
theorem dX1_allBy_18 : decode cX1_allBy 18 = .ok (.invokevirtual 47, 3) := dk_182 0 47 (dk_at dksX1_allBy_0 18 rfl rfl)
theorem dX1_allBy_21 : decode cX1_allBy 21 = .ok (.iload_n 1, 1) := dk_27 (dk_at dksX1_allBy_0 21 rfl rfl)
theorem dX1_allBy_22 : decode cX1_allBy 22 = .ok (.if_icmp .ne 9, 3) := dk_160 0 9 (dk_at dksX1_allBy_1 0 rfl rfl)
theorem dX1_allBy_25 : decode cX1_allBy 25 = .ok (.iconst 1, 1) := dk_4 (dk_at dksX1_allBy_1 3 rfl rfl)
theorem dX1_allBy_26 : decode cX1_allBy 26 = .ok (.iload_n 3, 1) := dk_29 (dk_at dksX1_allBy_1 4 rfl rfl)
theorem dX1_allBy_27 : decode cX1_allBy 27 = .ok (.ishl, 1) := dk_120 (dk_at dksX1_allBy_1 5 rfl rfl)
theorem dX1_allBy_28 : decode cX1_allBy 28 = .ok (.goto 4, 3) := dk_167 0 4 (dk_at dksX1_allBy_1 6 rfl rfl)
theorem dX1_allBy_31 : decode cX1_allBy 31 = .ok (.iconst 0, 1) := dk_3 (dk_at dksX1_allBy_1 9 rfl rfl)
theorem dX1_allBy_32 : decode cX1_allBy 32 = .ok (.ior, 1) := dk_128 (dk_at dksX1_allBy_1 10 rfl rfl)
theorem dX1_allBy_33 : decode cX1_allBy 33 = .ok (.istore_n 2, 1) := dk_61 (dk_at dksX1_allBy_1 11 rfl rfl)
theorem dX1_allBy_34 : decode cX1_allBy 34 = .ok (.iinc 3 1, 3) := dk_132 3 1 (dk_at dksX1_allBy_1 12 rfl rfl)
theorem dX1_allBy_37 : decode cX1_allBy 37 = .ok (.goto (-33), 3) := dk_167 255 223 (dk_at dksX1_allBy_1 15 rfl rfl)
theorem dX1_allBy_40 : decode cX1_allBy 40 = .ok (.iload_n 2, 1) := dk_28 (dk_at dksX1_allBy_1 18 rfl rfl)
theorem dX1_allBy_41 : decode cX1_allBy 41 = .ok (.ireturn, 1) := dk_172 (dk_at dksX1_allBy_1 19 rfl rfl)
abbrev cX1_by : ByteArray := prog_10_method_3_code
def yX1_by : MethodName := ⟨RX1, "by", "(I)I"⟩
def dkwX1_by_0 : List UInt8 := [42, 180, 0, 21, 27, 182, 0, 31, 192, 0, 35, 180, 0, 41, 172]
abbrev dktX1_by_0 : List UInt8 := dkwX1_by_0 ++ []
theorem dksX1_by_0 : cX1_by.data.toList.drop 0 = dktX1_by_0 := by decide +kernel
theorem dX1_by_0 : decode cX1_by 0 = .ok (.aload_n 0, 1) := dk_42 (dk_at dksX1_by_0 0 rfl rfl)
theorem dX1_by_1 : decode cX1_by 1 = .ok (.getfield 21, 3) := dk_180 0 21 (dk_at dksX1_by_0 1 rfl rfl)
theorem dX1_by_4 : decode cX1_by 4 = .ok (.iload_n 1, 1) := dk_27 (dk_at dksX1_by_0 4 rfl rfl)
theorem dX1_by_5 : decode cX1_by 5 = .ok (.invokevirtual 31, 3) := dk_182 0 31 (dk_at dksX1_by_0 5 rfl rfl)
theorem dX1_by_8 : decode cX1_by 8 = .ok (.checkcast 35, 3) := dk_192 0 35 (dk_at dksX1_by_0 8 rfl rfl)
theorem dX1_by_11 : decode cX1_by 11 = .ok (.getfield 41, 3) := dk_180 0 41 (dk_at dksX1_by_0 11 rfl rfl)
theorem dX1_by_14 : decode cX1_by 14 = .ok (.ireturn, 1) := dk_172 (dk_at dksX1_by_0 14 rfl rfl)
abbrev cX1_all : ByteArray := prog_10_method_9_code
def yX1_all : MethodName := ⟨RX1, "all", "()I"⟩
def dkwX1_all_0 : List UInt8 := [4, 42, 180, 0, 21, 182, 0, 55, 120, 4, 100, 172]
abbrev dktX1_all_0 : List UInt8 := dkwX1_all_0 ++ []
theorem dksX1_all_0 : cX1_all.data.toList.drop 0 = dktX1_all_0 := by decide +kernel
theorem dX1_all_0 : decode cX1_all 0 = .ok (.iconst 1, 1) := dk_4 (dk_at dksX1_all_0 0 rfl rfl)
theorem dX1_all_1 : decode cX1_all 1 = .ok (.aload_n 0, 1) := dk_42 (dk_at dksX1_all_0 1 rfl rfl)
theorem dX1_all_2 : decode cX1_all 2 = .ok (.getfield 21, 3) := dk_180 0 21 (dk_at dksX1_all_0 2 rfl rfl)
theorem dX1_all_5 : decode cX1_all 5 = .ok (.invokevirtual 55, 3) := dk_182 0 55 (dk_at dksX1_all_0 5 rfl rfl)
theorem dX1_all_8 : decode cX1_all 8 = .ok (.ishl, 1) := dk_120 (dk_at dksX1_all_0 8 rfl rfl)
theorem dX1_all_9 : decode cX1_all 9 = .ok (.iconst 1, 1) := dk_4 (dk_at dksX1_all_0 9 rfl rfl)
theorem dX1_all_10 : decode cX1_all 10 = .ok (.isub, 1) := dk_100 (dk_at dksX1_all_0 10 rfl rfl)
theorem dX1_all_11 : decode cX1_all 11 = .ok (.ireturn, 1) := dk_172 (dk_at dksX1_all_0 11 rfl rfl)
abbrev cX1_allTo : ByteArray := prog_10_method_8_code
def yX1_allTo : MethodName := ⟨RX1, "allTo", "(I)I"⟩
def dkwX1_allTo_1 : List UInt8 := [160, 0, 9, 4, 29, 120, 167, 0, 4, 3, 128, 61, 132, 3, 1, 167, 255, 223, 28, 172]
abbrev dktX1_allTo_1 : List UInt8 := dkwX1_allTo_1 ++ []
def dkwX1_allTo_0 : List UInt8 := [3, 61, 3, 62, 29, 42, 180, 0, 21, 182, 0, 55, 162, 0, 28, 28, 42, 29, 182, 0, 61, 27]
abbrev dktX1_allTo_0 : List UInt8 := dkwX1_allTo_0 ++ dktX1_allTo_1
theorem dksX1_allTo_0 : cX1_allTo.data.toList.drop 0 = dktX1_allTo_0 := by decide +kernel
theorem dksX1_allTo_1 : cX1_allTo.data.toList.drop 22 = dktX1_allTo_1 := dk_seg dksX1_allTo_0 22 rfl rfl
theorem dX1_allTo_0 : decode cX1_allTo 0 = .ok (.iconst 0, 1) := dk_3 (dk_at dksX1_allTo_0 0 rfl rfl)
theorem dX1_allTo_1 : decode cX1_allTo 1 = .ok (.istore_n 2, 1) := dk_61 (dk_at dksX1_allTo_0 1 rfl rfl)
theorem dX1_allTo_2 : decode cX1_allTo 2 = .ok (.iconst 0, 1) := dk_3 (dk_at dksX1_allTo_0 2 rfl rfl)
theorem dX1_allTo_3 : decode cX1_allTo 3 = .ok (.istore_n 3, 1) := dk_62 (dk_at dksX1_allTo_0 3 rfl rfl)
theorem dX1_allTo_4 : decode cX1_allTo 4 = .ok (.iload_n 3, 1) := dk_29 (dk_at dksX1_allTo_0 4 rfl rfl)
theorem dX1_allTo_5 : decode cX1_allTo 5 = .ok (.aload_n 0, 1) := dk_42 (dk_at dksX1_allTo_0 5 rfl rfl)
theorem dX1_allTo_6 : decode cX1_allTo 6 = .ok (.getfield 21, 3) := dk_180 0 21 (dk_at dksX1_allTo_0 6 rfl rfl)
theorem dX1_allTo_9 : decode cX1_allTo 9 = .ok (.invokevirtual 55, 3) := dk_182 0 55 (dk_at dksX1_allTo_0 9 rfl rfl)
theorem dX1_allTo_12 : decode cX1_allTo 12 = .ok (.if_icmp .ge 28, 3) := dk_162 0 28 (dk_at dksX1_allTo_0 12 rfl rfl)
theorem dX1_allTo_15 : decode cX1_allTo 15 = .ok (.iload_n 2, 1) := dk_28 (dk_at dksX1_allTo_0 15 rfl rfl)
theorem dX1_allTo_16 : decode cX1_allTo 16 = .ok (.aload_n 0, 1) := dk_42 (dk_at dksX1_allTo_0 16 rfl rfl)
theorem dX1_allTo_17 : decode cX1_allTo 17 = .ok (.iload_n 3, 1) := dk_29 (dk_at dksX1_allTo_0 17 rfl rfl)
theorem dX1_allTo_18 : decode cX1_allTo 18 = .ok (.invokevirtual 61, 3) := dk_182 0 61 (dk_at dksX1_allTo_0 18 rfl rfl)
theorem dX1_allTo_21 : decode cX1_allTo 21 = .ok (.iload_n 1, 1) := dk_27 (dk_at dksX1_allTo_0 21 rfl rfl)
theorem dX1_allTo_22 : decode cX1_allTo 22 = .ok (.if_icmp .ne 9, 3) := dk_160 0 9 (dk_at dksX1_allTo_1 0 rfl rfl)
theorem dX1_allTo_25 : decode cX1_allTo 25 = .ok (.iconst 1, 1) := dk_4 (dk_at dksX1_allTo_1 3 rfl rfl)
theorem dX1_allTo_26 : decode cX1_allTo 26 = .ok (.iload_n 3, 1) := dk_29 (dk_at dksX1_allTo_1 4 rfl rfl)
theorem dX1_allTo_27 : decode cX1_allTo 27 = .ok (.ishl, 1) := dk_120 (dk_at dksX1_allTo_1 5 rfl rfl)
theorem dX1_allTo_28 : decode cX1_allTo 28 = .ok (.goto 4, 3) := dk_167 0 4 (dk_at dksX1_allTo_1 6 rfl rfl)
theorem dX1_allTo_31 : decode cX1_allTo 31 = .ok (.iconst 0, 1) := dk_3 (dk_at dksX1_allTo_1 9 rfl rfl)
theorem dX1_allTo_32 : decode cX1_allTo 32 = .ok (.ior, 1) := dk_128 (dk_at dksX1_allTo_1 10 rfl rfl)
theorem dX1_allTo_33 : decode cX1_allTo 33 = .ok (.istore_n 2, 1) := dk_61 (dk_at dksX1_allTo_1 11 rfl rfl)
theorem dX1_allTo_34 : decode cX1_allTo 34 = .ok (.iinc 3 1, 3) := dk_132 3 1 (dk_at dksX1_allTo_1 12 rfl rfl)
theorem dX1_allTo_37 : decode cX1_allTo 37 = .ok (.goto (-33), 3) := dk_167 255 223 (dk_at dksX1_allTo_1 15 rfl rfl)
theorem dX1_allTo_40 : decode cX1_allTo 40 = .ok (.iload_n 2, 1) := dk_28 (dk_at dksX1_allTo_1 18 rfl rfl)
theorem dX1_allTo_41 : decode cX1_allTo 41 = .ok (.ireturn, 1) := dk_172 (dk_at dksX1_allTo_1 19 rfl rfl)
abbrev cX1_to : ByteArray := prog_10_method_4_code
def yX1_to : MethodName := ⟨RX1, "to", "(I)I"⟩
def dkwX1_to_0 : List UInt8 := [42, 180, 0, 21, 27, 182, 0, 31, 192, 0, 35, 180, 0, 44, 172]
abbrev dktX1_to_0 : List UInt8 := dkwX1_to_0 ++ []
theorem dksX1_to_0 : cX1_to.data.toList.drop 0 = dktX1_to_0 := by decide +kernel
theorem dX1_to_0 : decode cX1_to 0 = .ok (.aload_n 0, 1) := dk_42 (dk_at dksX1_to_0 0 rfl rfl)
theorem dX1_to_1 : decode cX1_to 1 = .ok (.getfield 21, 3) := dk_180 0 21 (dk_at dksX1_to_0 1 rfl rfl)
theorem dX1_to_4 : decode cX1_to 4 = .ok (.iload_n 1, 1) := dk_27 (dk_at dksX1_to_0 4 rfl rfl)
theorem dX1_to_5 : decode cX1_to 5 = .ok (.invokevirtual 31, 3) := dk_182 0 31 (dk_at dksX1_to_0 5 rfl rfl)
theorem dX1_to_8 : decode cX1_to 8 = .ok (.checkcast 35, 3) := dk_192 0 35 (dk_at dksX1_to_0 8 rfl rfl)
theorem dX1_to_11 : decode cX1_to 11 = .ok (.getfield 44, 3) := dk_180 0 44 (dk_at dksX1_to_0 11 rfl rfl)
theorem dX1_to_14 : decode cX1_to 14 = .ok (.ireturn, 1) := dk_172 (dk_at dksX1_to_0 14 rfl rfl)
abbrev cX1_hot : ByteArray := prog_10_method_2_code
def yX1_hot : MethodName := ⟨RX1, "hot", "(I)I"⟩
def dkwX1_hot_0 : List UInt8 := [42, 180, 0, 21, 27, 182, 0, 31, 192, 0, 35, 180, 0, 37, 172]
abbrev dktX1_hot_0 : List UInt8 := dkwX1_hot_0 ++ []
theorem dksX1_hot_0 : cX1_hot.data.toList.drop 0 = dktX1_hot_0 := by decide +kernel
theorem dX1_hot_0 : decode cX1_hot 0 = .ok (.aload_n 0, 1) := dk_42 (dk_at dksX1_hot_0 0 rfl rfl)
theorem dX1_hot_1 : decode cX1_hot 1 = .ok (.getfield 21, 3) := dk_180 0 21 (dk_at dksX1_hot_0 1 rfl rfl)
theorem dX1_hot_4 : decode cX1_hot 4 = .ok (.iload_n 1, 1) := dk_27 (dk_at dksX1_hot_0 4 rfl rfl)
theorem dX1_hot_5 : decode cX1_hot 5 = .ok (.invokevirtual 31, 3) := dk_182 0 31 (dk_at dksX1_hot_0 5 rfl rfl)
theorem dX1_hot_8 : decode cX1_hot 8 = .ok (.checkcast 35, 3) := dk_192 0 35 (dk_at dksX1_hot_0 8 rfl rfl)
theorem dX1_hot_11 : decode cX1_hot 11 = .ok (.getfield 37, 3) := dk_180 0 37 (dk_at dksX1_hot_0 11 rfl rfl)
theorem dX1_hot_14 : decode cX1_hot 14 = .ok (.ireturn, 1) := dk_172 (dk_at dksX1_hot_0 14 rfl rfl)
abbrev cX1_heat : ByteArray := prog_10_method_6_code
def yX1_heat : MethodName := ⟨RX1, "heat", "(I)I"⟩
def dkwX1_heat_1 : List UInt8 := [160, 0, 11, 42, 29, 182, 0, 59, 167, 0, 4, 3, 96, 61, 132, 3, 1, 167, 255, 221, 28, 172]
abbrev dktX1_heat_1 : List UInt8 := dkwX1_heat_1 ++ []
def dkwX1_heat_0 : List UInt8 := [3, 61, 3, 62, 29, 42, 180, 0, 21, 182, 0, 55, 162, 0, 30, 28, 27, 29, 122, 4, 126, 4]
abbrev dktX1_heat_0 : List UInt8 := dkwX1_heat_0 ++ dktX1_heat_1
theorem dksX1_heat_0 : cX1_heat.data.toList.drop 0 = dktX1_heat_0 := by decide +kernel
theorem dksX1_heat_1 : cX1_heat.data.toList.drop 22 = dktX1_heat_1 := dk_seg dksX1_heat_0 22 rfl rfl
theorem dX1_heat_0 : decode cX1_heat 0 = .ok (.iconst 0, 1) := dk_3 (dk_at dksX1_heat_0 0 rfl rfl)
theorem dX1_heat_1 : decode cX1_heat 1 = .ok (.istore_n 2, 1) := dk_61 (dk_at dksX1_heat_0 1 rfl rfl)
theorem dX1_heat_2 : decode cX1_heat 2 = .ok (.iconst 0, 1) := dk_3 (dk_at dksX1_heat_0 2 rfl rfl)
theorem dX1_heat_3 : decode cX1_heat 3 = .ok (.istore_n 3, 1) := dk_62 (dk_at dksX1_heat_0 3 rfl rfl)
theorem dX1_heat_4 : decode cX1_heat 4 = .ok (.iload_n 3, 1) := dk_29 (dk_at dksX1_heat_0 4 rfl rfl)
theorem dX1_heat_5 : decode cX1_heat 5 = .ok (.aload_n 0, 1) := dk_42 (dk_at dksX1_heat_0 5 rfl rfl)
theorem dX1_heat_6 : decode cX1_heat 6 = .ok (.getfield 21, 3) := dk_180 0 21 (dk_at dksX1_heat_0 6 rfl rfl)
theorem dX1_heat_9 : decode cX1_heat 9 = .ok (.invokevirtual 55, 3) := dk_182 0 55 (dk_at dksX1_heat_0 9 rfl rfl)
theorem dX1_heat_12 : decode cX1_heat 12 = .ok (.if_icmp .ge 30, 3) := dk_162 0 30 (dk_at dksX1_heat_0 12 rfl rfl)
theorem dX1_heat_15 : decode cX1_heat 15 = .ok (.iload_n 2, 1) := dk_28 (dk_at dksX1_heat_0 15 rfl rfl)
theorem dX1_heat_16 : decode cX1_heat 16 = .ok (.iload_n 1, 1) := dk_27 (dk_at dksX1_heat_0 16 rfl rfl)
theorem dX1_heat_17 : decode cX1_heat 17 = .ok (.iload_n 3, 1) := dk_29 (dk_at dksX1_heat_0 17 rfl rfl)
theorem dX1_heat_18 : decode cX1_heat 18 = .ok (.ishr, 1) := dk_122 (dk_at dksX1_heat_0 18 rfl rfl)
theorem dX1_heat_19 : decode cX1_heat 19 = .ok (.iconst 1, 1) := dk_4 (dk_at dksX1_heat_0 19 rfl rfl)
theorem dX1_heat_20 : decode cX1_heat 20 = .ok (.iand, 1) := dk_126 (dk_at dksX1_heat_0 20 rfl rfl)
theorem dX1_heat_21 : decode cX1_heat 21 = .ok (.iconst 1, 1) := dk_4 (dk_at dksX1_heat_0 21 rfl rfl)
theorem dX1_heat_22 : decode cX1_heat 22 = .ok (.if_icmp .ne 11, 3) := dk_160 0 11 (dk_at dksX1_heat_1 0 rfl rfl)
theorem dX1_heat_25 : decode cX1_heat 25 = .ok (.aload_n 0, 1) := dk_42 (dk_at dksX1_heat_1 3 rfl rfl)
theorem dX1_heat_26 : decode cX1_heat 26 = .ok (.iload_n 3, 1) := dk_29 (dk_at dksX1_heat_1 4 rfl rfl)
theorem dX1_heat_27 : decode cX1_heat 27 = .ok (.invokevirtual 59, 3) := dk_182 0 59 (dk_at dksX1_heat_1 5 rfl rfl)
theorem dX1_heat_30 : decode cX1_heat 30 = .ok (.goto 4, 3) := dk_167 0 4 (dk_at dksX1_heat_1 8 rfl rfl)
theorem dX1_heat_33 : decode cX1_heat 33 = .ok (.iconst 0, 1) := dk_3 (dk_at dksX1_heat_1 11 rfl rfl)
theorem dX1_heat_34 : decode cX1_heat 34 = .ok (.iadd, 1) := dk_96 (dk_at dksX1_heat_1 12 rfl rfl)
theorem dX1_heat_35 : decode cX1_heat 35 = .ok (.istore_n 2, 1) := dk_61 (dk_at dksX1_heat_1 13 rfl rfl)
theorem dX1_heat_36 : decode cX1_heat 36 = .ok (.iinc 3 1, 3) := dk_132 3 1 (dk_at dksX1_heat_1 14 rfl rfl)
theorem dX1_heat_39 : decode cX1_heat 39 = .ok (.goto (-35), 3) := dk_167 255 221 (dk_at dksX1_heat_1 17 rfl rfl)
theorem dX1_heat_42 : decode cX1_heat 42 = .ok (.iload_n 2, 1) := dk_28 (dk_at dksX1_heat_1 20 rfl rfl)
theorem dX1_heat_43 : decode cX1_heat 43 = .ok (.ireturn, 1) := dk_172 (dk_at dksX1_heat_1 21 rfl rfl)
abbrev cX1_shy : ByteArray := prog_10_method_5_code
def yX1_shy : MethodName := ⟨RX1, "shy", "(I)I"⟩
def dkwX1_shy_0 : List UInt8 := [42, 180, 0, 12, 42, 27, 182, 0, 47, 182, 0, 31, 192, 0, 50, 180, 0, 52, 172]
abbrev dktX1_shy_0 : List UInt8 := dkwX1_shy_0 ++ []
theorem dksX1_shy_0 : cX1_shy.data.toList.drop 0 = dktX1_shy_0 := by decide +kernel
theorem dX1_shy_0 : decode cX1_shy 0 = .ok (.aload_n 0, 1) := dk_42 (dk_at dksX1_shy_0 0 rfl rfl)
theorem dX1_shy_1 : decode cX1_shy 1 = .ok (.getfield 12, 3) := dk_180 0 12 (dk_at dksX1_shy_0 1 rfl rfl)
theorem dX1_shy_4 : decode cX1_shy 4 = .ok (.aload_n 0, 1) := dk_42 (dk_at dksX1_shy_0 4 rfl rfl)
theorem dX1_shy_5 : decode cX1_shy 5 = .ok (.iload_n 1, 1) := dk_27 (dk_at dksX1_shy_0 5 rfl rfl)
theorem dX1_shy_6 : decode cX1_shy 6 = .ok (.invokevirtual 47, 3) := dk_182 0 47 (dk_at dksX1_shy_0 6 rfl rfl)
theorem dX1_shy_9 : decode cX1_shy 9 = .ok (.invokevirtual 31, 3) := dk_182 0 31 (dk_at dksX1_shy_0 9 rfl rfl)
theorem dX1_shy_12 : decode cX1_shy 12 = .ok (.checkcast 50, 3) := dk_192 0 50 (dk_at dksX1_shy_0 12 rfl rfl)
theorem dX1_shy_15 : decode cX1_shy 15 = .ok (.getfield 52, 3) := dk_180 0 52 (dk_at dksX1_shy_0 15 rfl rfl)
theorem dX1_shy_18 : decode cX1_shy 18 = .ok (.ireturn, 1) := dk_172 (dk_at dksX1_shy_0 18 rfl rfl)
theorem q137 : (Jvm.Cond.initialized "PepperTables$Book") ∈ lw_all := lw_g (lw_at lw_m1 2 rfl) rfl
theorem q178 : (Jvm.Cond.instantiable "PepperTables$Book" (8 : Nat)) ∈ lw_all := lw_g (lw_at lw_m1 43 rfl) rfl
theorem q180 : (Jvm.Cond.instanceMethod ({ cls := "PepperTables$Book", name := "<init>", desc := "()V" } : Jvm.MethodName)) ∈ lw_all := lw_g (lw_at lw_m1 45 rfl) rfl
theorem q181 : (Jvm.Cond.code ({ cls := "PepperTables$Book", name := "<init>", desc := "()V" } : Jvm.MethodName) prog_10_method_1_code (1 : Nat) (Option.none : Option Jvm.ClassFile.FieldType)) ∈ lw_all := lw_g (lw_at lw_m1 46 rfl) rfl
theorem q182 : (Jvm.Cond.methodLink "PepperTables$Book" (1 : Nat) ({ cls := "java/lang/Object", name := "<init>", desc := "()V" } : Jvm.MethodName)) ∈ lw_all := lw_g (lw_at lw_m1 47 rfl) rfl
theorem q183 : (Jvm.Cond.classLink "PepperTables$Book" (7 : Nat) "java/util/ArrayList") ∈ lw_all := lw_g (lw_at lw_m1 48 rfl) rfl
theorem q185 : (Jvm.Cond.methodLink "PepperTables$Book" (9 : Nat) ({ cls := "java/util/ArrayList", name := "<init>", desc := "(I)V" } : Jvm.MethodName)) ∈ lw_all := lw_g (lw_at lw_m1 50 rfl) rfl
theorem q212 : (Jvm.Cond.classLink "PepperTables$Book" (24 : Nat) "PepperTables$Ask") ∈ lw_all := lw_g (lw_at lw_m1 77 rfl) rfl
theorem q214 : (Jvm.Cond.methodLinkNest "PepperTables$Book" (26 : Nat) ({ cls := "PepperTables$Ask", name := "<init>", desc := "()V" } : Jvm.MethodName) "PepperTables") ∈ lw_tbl := lw_at lw_m1 79 rfl
theorem q243 : (Jvm.Cond.fieldLink "PepperTables$Book" (12 : Nat) "PepperTables$Book" "people" "Ljava/util/ArrayList;") ∈ lw_all := lw_g (lw_at lw_m1 108 rfl) rfl
theorem q246 : (Jvm.Cond.fieldLink "PepperTables$Book" (18 : Nat) "PepperTables$Book" "sacks" "Ljava/util/ArrayList;") ∈ lw_all := lw_g (lw_at lw_m1 111 rfl) rfl
theorem q250 : (Jvm.Cond.fieldLink "PepperTables$Book" (21 : Nat) "PepperTables$Book" "things" "Ljava/util/ArrayList;") ∈ lw_all := lw_g (lw_at lw_m1 115 rfl) rfl
theorem q254 : (Jvm.Cond.fieldLink "PepperTables$Book" (27 : Nat) "PepperTables$Book" "ask" "LPepperTables$Ask;") ∈ lw_all := lw_g (lw_at lw_m1 119 rfl) rfl
theorem q265 : (Jvm.Cond.laysFinal "PepperTables$Book" "PepperTables$Book" "people" "Ljava/util/ArrayList;") ∈ lw_all := lw_g (lw_at lw_m1 130 rfl) rfl
theorem q266 : (Jvm.Cond.soleField "PepperTables$Book" "people") ∈ lw_all := lw_g (lw_at lw_m1 131 rfl) rfl
theorem q267 : (Jvm.Cond.laysFinal "PepperTables$Book" "PepperTables$Book" "sacks" "Ljava/util/ArrayList;") ∈ lw_all := lw_g (lw_at lw_m1 132 rfl) rfl
theorem q268 : (Jvm.Cond.soleField "PepperTables$Book" "sacks") ∈ lw_all := lw_g (lw_at lw_m1 133 rfl) rfl
theorem q269 : (Jvm.Cond.laysFinal "PepperTables$Book" "PepperTables$Book" "things" "Ljava/util/ArrayList;") ∈ lw_all := lw_g (lw_at lw_m1 134 rfl) rfl
theorem q270 : (Jvm.Cond.soleField "PepperTables$Book" "things") ∈ lw_all := lw_g (lw_at lw_m1 135 rfl) rfl
theorem q271 : (Jvm.Cond.laysFinal "PepperTables$Book" "PepperTables$Book" "ask" "LPepperTables$Ask;") ∈ lw_all := lw_g (lw_at lw_m1 136 rfl) rfl
theorem q272 : (Jvm.Cond.soleField "PepperTables$Book" "ask") ∈ lw_all := lw_g (lw_at lw_m1 137 rfl) rfl
theorem q273 : (Jvm.Cond.lays "PepperTables$Book" "PepperTables$Book" "said" "LPepperTables$Node;") ∈ lw_all := lw_g (lw_at lw_m1 138 rfl) rfl
theorem q274 : (Jvm.Cond.soleField "PepperTables$Book" "said") ∈ lw_all := lw_g (lw_at lw_m1 139 rfl) rfl
theorem q275 : (Jvm.Cond.lays "PepperTables$Book" "PepperTables$Book" "sneeze" "I") ∈ lw_all := lw_g (lw_at lw_m1 140 rfl) rfl
theorem q276 : (Jvm.Cond.soleField "PepperTables$Book" "sneeze") ∈ lw_all := lw_g (lw_at lw_m1 141 rfl) rfl
theorem q277 : (Jvm.Cond.lays "PepperTables$Book" "PepperTables$Book" "seed" "I") ∈ lw_all := lw_g (lw_at lw_m1 142 rfl) rfl
theorem q278 : (Jvm.Cond.soleField "PepperTables$Book" "seed") ∈ lw_all := lw_g (lw_at lw_m1 143 rfl) rfl
theorem q279 : (Jvm.Cond.lays "PepperTables$Book" "PepperTables$Book" "units" "I") ∈ lw_all := lw_g (lw_at lw_m1 144 rfl) rfl
theorem q280 : (Jvm.Cond.soleField "PepperTables$Book" "units") ∈ lw_all := lw_g (lw_at lw_m1 145 rfl) rfl
theorem q281 : (Jvm.Cond.superclass "PepperTables$Book" "java/lang/Object") ∈ lw_all := lw_g (lw_at lw_m1 146 rfl) rfl
theorem q877 : (Jvm.Cond.fieldLink "PepperTables$Book" (52 : Nat) "PepperTables$Person" "shy" "I") ∈ lw_all := lw_g (lw_at lw_m4 22 rfl) rfl
theorem q936 : (Jvm.Cond.selects "PepperTables$Book" ({ cls := "java/lang/Object", name := "getClass", desc := "()Ljava/lang/Class;" } : Jvm.MethodName) ({ cls := "java/lang/Object", name := "getClass", desc := "()Ljava/lang/Class;" } : Jvm.MethodName)) ∈ lw_all := lw_g (lw_at lw_m4 81 rfl) rfl
theorem q974 : (Jvm.Cond.fieldLink "PepperTables$Book" (41 : Nat) "PepperTables$Thing" "by" "I") ∈ lw_all := lw_g (lw_at lw_m4 119 rfl) rfl
theorem q976 : (Jvm.Cond.fieldLink "PepperTables$Book" (44 : Nat) "PepperTables$Thing" "to" "I") ∈ lw_all := lw_g (lw_at lw_m4 121 rfl) rfl
theorem q978 : (Jvm.Cond.fieldLink "PepperTables$Book" (37 : Nat) "PepperTables$Thing" "hot" "I") ∈ lw_all := lw_g (lw_at lw_m4 123 rfl) rfl
theorem q1122 : (Jvm.Cond.instanceMethod ({ cls := "PepperTables$Book", name := "allBy", desc := "(I)I" } : Jvm.MethodName)) ∈ lw_all := lw_g (lw_at lw_m5 27 rfl) rfl
theorem q1123 : (Jvm.Cond.selects "PepperTables$Book" ({ cls := "PepperTables$Book", name := "allBy", desc := "(I)I" } : Jvm.MethodName) ({ cls := "PepperTables$Book", name := "allBy", desc := "(I)I" } : Jvm.MethodName)) ∈ lw_all := lw_g (lw_at lw_m5 28 rfl) rfl
theorem q1124 : (Jvm.Cond.code ({ cls := "PepperTables$Book", name := "allBy", desc := "(I)I" } : Jvm.MethodName) prog_10_method_7_code (4 : Nat) (Option.some Jvm.ClassFile.FieldType.int)) ∈ lw_all := lw_g (lw_at lw_m5 29 rfl) rfl
theorem q1125 : (Jvm.Cond.methodLink "PepperTables$Book" (55 : Nat) ({ cls := "java/util/ArrayList", name := "size", desc := "()I" } : Jvm.MethodName)) ∈ lw_all := lw_g (lw_at lw_m5 30 rfl) rfl
theorem q1126 : (Jvm.Cond.methodLink "PepperTables$Book" (47 : Nat) ({ cls := "PepperTables$Book", name := "by", desc := "(I)I" } : Jvm.MethodName)) ∈ lw_all := lw_g (lw_at lw_m5 31 rfl) rfl
theorem q1127 : (Jvm.Cond.instanceMethod ({ cls := "PepperTables$Book", name := "by", desc := "(I)I" } : Jvm.MethodName)) ∈ lw_all := lw_g (lw_at lw_m5 32 rfl) rfl
theorem q1128 : (Jvm.Cond.selects "PepperTables$Book" ({ cls := "PepperTables$Book", name := "by", desc := "(I)I" } : Jvm.MethodName) ({ cls := "PepperTables$Book", name := "by", desc := "(I)I" } : Jvm.MethodName)) ∈ lw_all := lw_g (lw_at lw_m5 33 rfl) rfl
theorem q1129 : (Jvm.Cond.code ({ cls := "PepperTables$Book", name := "by", desc := "(I)I" } : Jvm.MethodName) prog_10_method_3_code (2 : Nat) (Option.some Jvm.ClassFile.FieldType.int)) ∈ lw_all := lw_g (lw_at lw_m5 34 rfl) rfl
theorem q1130 : (Jvm.Cond.methodLink "PepperTables$Book" (31 : Nat) ({ cls := "java/util/ArrayList", name := "get", desc := "(I)Ljava/lang/Object;" } : Jvm.MethodName)) ∈ lw_all := lw_g (lw_at lw_m5 35 rfl) rfl
theorem q1131 : (Jvm.Cond.classLink "PepperTables$Book" (35 : Nat) "PepperTables$Thing") ∈ lw_all := lw_g (lw_at lw_m5 36 rfl) rfl
theorem q1137 : (Jvm.Cond.instanceMethod ({ cls := "PepperTables$Book", name := "all", desc := "()I" } : Jvm.MethodName)) ∈ lw_all := lw_g (lw_at lw_m5 42 rfl) rfl
theorem q1138 : (Jvm.Cond.selects "PepperTables$Book" ({ cls := "PepperTables$Book", name := "all", desc := "()I" } : Jvm.MethodName) ({ cls := "PepperTables$Book", name := "all", desc := "()I" } : Jvm.MethodName)) ∈ lw_all := lw_g (lw_at lw_m5 43 rfl) rfl
theorem q1139 : (Jvm.Cond.code ({ cls := "PepperTables$Book", name := "all", desc := "()I" } : Jvm.MethodName) prog_10_method_9_code (1 : Nat) (Option.some Jvm.ClassFile.FieldType.int)) ∈ lw_all := lw_g (lw_at lw_m5 44 rfl) rfl
theorem q1141 : (Jvm.Cond.instanceMethod ({ cls := "PepperTables$Book", name := "allTo", desc := "(I)I" } : Jvm.MethodName)) ∈ lw_all := lw_g (lw_at lw_m5 46 rfl) rfl
theorem q1142 : (Jvm.Cond.selects "PepperTables$Book" ({ cls := "PepperTables$Book", name := "allTo", desc := "(I)I" } : Jvm.MethodName) ({ cls := "PepperTables$Book", name := "allTo", desc := "(I)I" } : Jvm.MethodName)) ∈ lw_all := lw_g (lw_at lw_m5 47 rfl) rfl
theorem q1143 : (Jvm.Cond.code ({ cls := "PepperTables$Book", name := "allTo", desc := "(I)I" } : Jvm.MethodName) prog_10_method_8_code (4 : Nat) (Option.some Jvm.ClassFile.FieldType.int)) ∈ lw_all := lw_g (lw_at lw_m5 48 rfl) rfl
theorem q1144 : (Jvm.Cond.methodLink "PepperTables$Book" (61 : Nat) ({ cls := "PepperTables$Book", name := "to", desc := "(I)I" } : Jvm.MethodName)) ∈ lw_all := lw_g (lw_at lw_m5 49 rfl) rfl
theorem q1145 : (Jvm.Cond.instanceMethod ({ cls := "PepperTables$Book", name := "to", desc := "(I)I" } : Jvm.MethodName)) ∈ lw_all := lw_g (lw_at lw_m5 50 rfl) rfl
theorem q1146 : (Jvm.Cond.selects "PepperTables$Book" ({ cls := "PepperTables$Book", name := "to", desc := "(I)I" } : Jvm.MethodName) ({ cls := "PepperTables$Book", name := "to", desc := "(I)I" } : Jvm.MethodName)) ∈ lw_all := lw_g (lw_at lw_m5 51 rfl) rfl
theorem q1147 : (Jvm.Cond.code ({ cls := "PepperTables$Book", name := "to", desc := "(I)I" } : Jvm.MethodName) prog_10_method_4_code (2 : Nat) (Option.some Jvm.ClassFile.FieldType.int)) ∈ lw_all := lw_g (lw_at lw_m5 52 rfl) rfl
theorem q1159 : (Jvm.Cond.instanceMethod ({ cls := "PepperTables$Book", name := "hot", desc := "(I)I" } : Jvm.MethodName)) ∈ lw_all := lw_g (lw_at lw_m5 64 rfl) rfl
theorem q1160 : (Jvm.Cond.selects "PepperTables$Book" ({ cls := "PepperTables$Book", name := "hot", desc := "(I)I" } : Jvm.MethodName) ({ cls := "PepperTables$Book", name := "hot", desc := "(I)I" } : Jvm.MethodName)) ∈ lw_all := lw_g (lw_at lw_m5 65 rfl) rfl
theorem q1161 : (Jvm.Cond.code ({ cls := "PepperTables$Book", name := "hot", desc := "(I)I" } : Jvm.MethodName) prog_10_method_2_code (2 : Nat) (Option.some Jvm.ClassFile.FieldType.int)) ∈ lw_all := lw_g (lw_at lw_m5 66 rfl) rfl
theorem q1188 : (Jvm.Cond.instanceMethod ({ cls := "PepperTables$Book", name := "heat", desc := "(I)I" } : Jvm.MethodName)) ∈ lw_all := lw_g (lw_at lw_m5 93 rfl) rfl
theorem q1189 : (Jvm.Cond.selects "PepperTables$Book" ({ cls := "PepperTables$Book", name := "heat", desc := "(I)I" } : Jvm.MethodName) ({ cls := "PepperTables$Book", name := "heat", desc := "(I)I" } : Jvm.MethodName)) ∈ lw_all := lw_g (lw_at lw_m5 94 rfl) rfl
theorem q1190 : (Jvm.Cond.code ({ cls := "PepperTables$Book", name := "heat", desc := "(I)I" } : Jvm.MethodName) prog_10_method_6_code (4 : Nat) (Option.some Jvm.ClassFile.FieldType.int)) ∈ lw_all := lw_g (lw_at lw_m5 95 rfl) rfl
theorem q1191 : (Jvm.Cond.methodLink "PepperTables$Book" (59 : Nat) ({ cls := "PepperTables$Book", name := "hot", desc := "(I)I" } : Jvm.MethodName)) ∈ lw_all := lw_g (lw_at lw_m5 96 rfl) rfl
theorem q1217 : (Jvm.Cond.instanceMethod ({ cls := "PepperTables$Book", name := "shy", desc := "(I)I" } : Jvm.MethodName)) ∈ lw_all := lw_g (lw_at lw_m5 122 rfl) rfl
theorem q1218 : (Jvm.Cond.selects "PepperTables$Book" ({ cls := "PepperTables$Book", name := "shy", desc := "(I)I" } : Jvm.MethodName) ({ cls := "PepperTables$Book", name := "shy", desc := "(I)I" } : Jvm.MethodName)) ∈ lw_all := lw_g (lw_at lw_m5 123 rfl) rfl
theorem q1219 : (Jvm.Cond.code ({ cls := "PepperTables$Book", name := "shy", desc := "(I)I" } : Jvm.MethodName) prog_10_method_5_code (2 : Nat) (Option.some Jvm.ClassFile.FieldType.int)) ∈ lw_all := lw_g (lw_at lw_m5 124 rfl) rfl
theorem q1220 : (Jvm.Cond.classLink "PepperTables$Book" (50 : Nat) "PepperTables$Person") ∈ lw_all := lw_g (lw_at lw_m5 125 rfl) rfl
theorem q2414 : (Jvm.Cond.castable "PepperTables$Book" "java/lang/Object") ∈ lw_tbl := lw_at lw_m10 119 rfl
theorem in_X1 : ∀ w ∈ wsX10, w ∈ lw_all := lw_in wsX10 [265, 267, 269, 271, 273, 275, 277, 279] (by decide +kernel) (by decide +kernel)

/-! PepperTables$Ask -/
set_option maxRecDepth 100000
def RX2 : String := "PepperTables$Ask"
def TX2 : u_T := fun k => match k with
  | 0 => ("PepperTables$Ask", "hot", "I", false)
  | 1 => ("PepperTables$Ask", "shy", "I", false)
  | 2 => ("PepperTables$Ask", "guests", "I", false)
  | 3 => ("PepperTables$Ask", "ground", "I", false)
  | 4 => ("PepperTables$Ask", "heat", "I", false)
  | _ => ("PepperTables$Ask", "course", "I", false)
def tyX2 : Nat → FieldType := fun k => match k with
  | 0 => .int
  | 1 => .int
  | 2 => .int
  | 3 => .int
  | 4 => .int
  | _ => .int
abbrev wsX20 : List Cond := u_ws RX2 TX2 6
theorem nmX2 : ∀ a, a < 6 → ∀ b, b < 6 → a ≠ b → (TX2 a).2.1 ≠ (TX2 b).2.1 := by decide +kernel
theorem tyX2_ok : ∀ k, k < 6 → parseFieldDescriptor (TX2 k).2.2.1 = some (tyX2 k) := by decide +kernel
abbrev cX2_init : ByteArray := prog_2_method_1_code
def yX2_init : MethodName := ⟨RX2, "<init>", "()V"⟩
theorem dX2_init_0 : decode cX2_init 0 = .ok (.aload_n 0, 1) := by decide +kernel
theorem dX2_init_1 : decode cX2_init 1 = .ok (.invokespecial 1, 3) := by decide +kernel
theorem dX2_init_4 : decode cX2_init 4 = .ok (.return_, 1) := by decide +kernel
theorem q141 : (Jvm.Cond.initialized "PepperTables$Ask") ∈ lw_all := lw_g (lw_at lw_m1 6 rfl) rfl
theorem q213 : (Jvm.Cond.instantiable "PepperTables$Ask" (6 : Nat)) ∈ lw_all := lw_g (lw_at lw_m1 78 rfl) rfl
theorem q215 : (Jvm.Cond.instanceMethod ({ cls := "PepperTables$Ask", name := "<init>", desc := "()V" } : Jvm.MethodName)) ∈ lw_all := lw_g (lw_at lw_m1 80 rfl) rfl
theorem q216 : (Jvm.Cond.code ({ cls := "PepperTables$Ask", name := "<init>", desc := "()V" } : Jvm.MethodName) prog_2_method_1_code (1 : Nat) (Option.none : Option Jvm.ClassFile.FieldType)) ∈ lw_all := lw_g (lw_at lw_m1 81 rfl) rfl
theorem q217 : (Jvm.Cond.methodLink "PepperTables$Ask" (1 : Nat) ({ cls := "java/lang/Object", name := "<init>", desc := "()V" } : Jvm.MethodName)) ∈ lw_all := lw_g (lw_at lw_m1 82 rfl) rfl
theorem q230 : (Jvm.Cond.lays "PepperTables$Ask" "PepperTables$Ask" "hot" "I") ∈ lw_all := lw_g (lw_at lw_m1 95 rfl) rfl
theorem q231 : (Jvm.Cond.soleField "PepperTables$Ask" "hot") ∈ lw_all := lw_g (lw_at lw_m1 96 rfl) rfl
theorem q232 : (Jvm.Cond.lays "PepperTables$Ask" "PepperTables$Ask" "shy" "I") ∈ lw_all := lw_g (lw_at lw_m1 97 rfl) rfl
theorem q233 : (Jvm.Cond.soleField "PepperTables$Ask" "shy") ∈ lw_all := lw_g (lw_at lw_m1 98 rfl) rfl
theorem q234 : (Jvm.Cond.lays "PepperTables$Ask" "PepperTables$Ask" "guests" "I") ∈ lw_all := lw_g (lw_at lw_m1 99 rfl) rfl
theorem q235 : (Jvm.Cond.soleField "PepperTables$Ask" "guests") ∈ lw_all := lw_g (lw_at lw_m1 100 rfl) rfl
theorem q236 : (Jvm.Cond.lays "PepperTables$Ask" "PepperTables$Ask" "ground" "I") ∈ lw_all := lw_g (lw_at lw_m1 101 rfl) rfl
theorem q237 : (Jvm.Cond.soleField "PepperTables$Ask" "ground") ∈ lw_all := lw_g (lw_at lw_m1 102 rfl) rfl
theorem q238 : (Jvm.Cond.lays "PepperTables$Ask" "PepperTables$Ask" "heat" "I") ∈ lw_all := lw_g (lw_at lw_m1 103 rfl) rfl
theorem q239 : (Jvm.Cond.soleField "PepperTables$Ask" "heat") ∈ lw_all := lw_g (lw_at lw_m1 104 rfl) rfl
theorem q240 : (Jvm.Cond.lays "PepperTables$Ask" "PepperTables$Ask" "course" "I") ∈ lw_all := lw_g (lw_at lw_m1 105 rfl) rfl
theorem q241 : (Jvm.Cond.soleField "PepperTables$Ask" "course") ∈ lw_all := lw_g (lw_at lw_m1 106 rfl) rfl
theorem q242 : (Jvm.Cond.superclass "PepperTables$Ask" "java/lang/Object") ∈ lw_all := lw_g (lw_at lw_m1 107 rfl) rfl
theorem q929 : (Jvm.Cond.selects "PepperTables$Ask" ({ cls := "java/lang/Object", name := "getClass", desc := "()Ljava/lang/Class;" } : Jvm.MethodName) ({ cls := "java/lang/Object", name := "getClass", desc := "()Ljava/lang/Class;" } : Jvm.MethodName)) ∈ lw_all := lw_g (lw_at lw_m4 74 rfl) rfl
theorem q2416 : (Jvm.Cond.castable "PepperTables$Ask" "java/lang/Object") ∈ lw_tbl := lw_at lw_m10 121 rfl
theorem in_X2 : ∀ w ∈ wsX20, w ∈ lw_all := lw_in wsX20 [230, 232, 234, 236, 238, 240] (by decide +kernel) (by decide +kernel)

/-! PepperTables$Table -/
set_option maxRecDepth 100000
def RX3 : String := "PepperTables$Table"
def TX3 : u_T := fun k => match k with
  | 0 => ("PepperTables$Table", "in", "[I", true)
  | 1 => ("PepperTables$Table", "ground", "[I", true)
  | 2 => ("PepperTables$Table", "shy", "I", false)
  | 3 => ("PepperTables$Table", "sits", "I", false)
  | 4 => ("PepperTables$Table", "said", "I", false)
  | 5 => ("PepperTables$Table", "course", "I", false)
  | _ => ("PepperTables$Table", "seed", "I", false)
def tyX3 : Nat → FieldType := fun k => match k with
  | 0 => .array .int
  | 1 => .array .int
  | 2 => .int
  | 3 => .int
  | 4 => .int
  | 5 => .int
  | _ => .int
abbrev wsX30 : List Cond := u_ws RX3 TX3 7
theorem nmX3 : ∀ a, a < 7 → ∀ b, b < 7 → a ≠ b → (TX3 a).2.1 ≠ (TX3 b).2.1 := by decide +kernel
theorem tyX3_ok : ∀ k, k < 7 → parseFieldDescriptor (TX3 k).2.2.1 = some (tyX3 k) := by decide +kernel
abbrev cX3_init : ByteArray := prog_18_method_1_code
def yX3_init : MethodName := ⟨RX3, "<init>", "()V"⟩
def dkwX3_init_1 : List UInt8 := [177]
abbrev dktX3_init_1 : List UInt8 := dkwX3_init_1 ++ []
def dkwX3_init_0 : List UInt8 := [42, 183, 0, 3, 42, 16, 10, 188, 10, 181, 0, 9, 42, 8, 188, 10, 181, 0, 15, 42, 2, 181, 0, 18]
abbrev dktX3_init_0 : List UInt8 := dkwX3_init_0 ++ dktX3_init_1
theorem dksX3_init_0 : cX3_init.data.toList.drop 0 = dktX3_init_0 := by decide +kernel
theorem dksX3_init_1 : cX3_init.data.toList.drop 24 = dktX3_init_1 := dk_seg dksX3_init_0 24 rfl rfl
theorem dX3_init_0 : decode cX3_init 0 = .ok (.aload_n 0, 1) := dk_42 (dk_at dksX3_init_0 0 rfl rfl)
theorem dX3_init_1 : decode cX3_init 1 = .ok (.invokespecial 3, 3) := dk_183 0 3 (dk_at dksX3_init_0 1 rfl rfl)
theorem dX3_init_4 : decode cX3_init 4 = .ok (.aload_n 0, 1) := dk_42 (dk_at dksX3_init_0 4 rfl rfl)
theorem dX3_init_5 : decode cX3_init 5 = .ok (.bipush 10, 2) := dk_16 10 (dk_at dksX3_init_0 5 rfl rfl)
theorem dX3_init_7 : decode cX3_init 7 = .ok (.newarray .int, 2) := dk_188_10 (dk_at dksX3_init_0 7 rfl rfl)
theorem dX3_init_9 : decode cX3_init 9 = .ok (.putfield 9, 3) := dk_181 0 9 (dk_at dksX3_init_0 9 rfl rfl)
theorem dX3_init_12 : decode cX3_init 12 = .ok (.aload_n 0, 1) := dk_42 (dk_at dksX3_init_0 12 rfl rfl)
theorem dX3_init_13 : decode cX3_init 13 = .ok (.iconst 5, 1) := dk_8 (dk_at dksX3_init_0 13 rfl rfl)
theorem dX3_init_14 : decode cX3_init 14 = .ok (.newarray .int, 2) := dk_188_10 (dk_at dksX3_init_0 14 rfl rfl)
theorem dX3_init_16 : decode cX3_init 16 = .ok (.putfield 15, 3) := dk_181 0 15 (dk_at dksX3_init_0 16 rfl rfl)
theorem dX3_init_19 : decode cX3_init 19 = .ok (.aload_n 0, 1) := dk_42 (dk_at dksX3_init_0 19 rfl rfl)
theorem dX3_init_20 : decode cX3_init 20 = .ok (.iconst (-1), 1) := dk_2 (dk_at dksX3_init_0 20 rfl rfl)
theorem dX3_init_21 : decode cX3_init 21 = .ok (.putfield 18, 3) := dk_181 0 18 (dk_at dksX3_init_0 21 rfl rfl)
theorem dX3_init_24 : decode cX3_init 24 = .ok (.return_, 1) := dk_177 (dk_at dksX3_init_1 0 rfl rfl)
abbrev cX3_begin : ByteArray := prog_18_method_2_code
def yX3_begin : MethodName := ⟨RX3, "begin", "(LPepperTables$Book;)LPepperTables$Table;"⟩
def dkwX3_begin_4 : List UInt8 := [181, 0, 54, 42, 176]
abbrev dktX3_begin_4 : List UInt8 := dkwX3_begin_4 ++ []
def dkwX3_begin_3 : List UInt8 := [2, 181, 0, 18, 42, 3, 181, 0, 42, 42, 3, 181, 0, 45, 42, 3, 181, 0, 48, 42, 43, 180, 0, 51]
abbrev dktX3_begin_3 : List UInt8 := dkwX3_begin_3 ++ dktX3_begin_4
def dkwX3_begin_2 : List UInt8 := [167, 255, 212, 3, 61, 28, 8, 162, 0, 16, 42, 180, 0, 15, 28, 3, 79, 132, 2, 1, 167, 255, 241, 42]
abbrev dktX3_begin_2 : List UInt8 := dkwX3_begin_2 ++ dktX3_begin_3
def dkwX3_begin_1 : List UInt8 := [43, 180, 0, 22, 28, 182, 0, 34, 192, 0, 38, 180, 0, 40, 167, 0, 4, 2, 79, 132, 2, 1]
abbrev dktX3_begin_1 : List UInt8 := dkwX3_begin_1 ++ dktX3_begin_2
def dkwX3_begin_0 : List UInt8 := [3, 61, 28, 16, 10, 162, 0, 44, 42, 180, 0, 9, 28, 28, 43, 180, 0, 22, 182, 0, 28, 162, 0, 20]
abbrev dktX3_begin_0 : List UInt8 := dkwX3_begin_0 ++ dktX3_begin_1
theorem dksX3_begin_0 : cX3_begin.data.toList.drop 0 = dktX3_begin_0 := by decide +kernel
theorem dksX3_begin_1 : cX3_begin.data.toList.drop 24 = dktX3_begin_1 := dk_seg dksX3_begin_0 24 rfl rfl
theorem dksX3_begin_2 : cX3_begin.data.toList.drop 46 = dktX3_begin_2 := dk_seg dksX3_begin_1 22 rfl rfl
theorem dksX3_begin_3 : cX3_begin.data.toList.drop 70 = dktX3_begin_3 := dk_seg dksX3_begin_2 24 rfl rfl
theorem dksX3_begin_4 : cX3_begin.data.toList.drop 94 = dktX3_begin_4 := dk_seg dksX3_begin_3 24 rfl rfl
theorem dX3_begin_0 : decode cX3_begin 0 = .ok (.iconst 0, 1) := dk_3 (dk_at dksX3_begin_0 0 rfl rfl)
theorem dX3_begin_1 : decode cX3_begin 1 = .ok (.istore_n 2, 1) := dk_61 (dk_at dksX3_begin_0 1 rfl rfl)
theorem dX3_begin_2 : decode cX3_begin 2 = .ok (.iload_n 2, 1) := dk_28 (dk_at dksX3_begin_0 2 rfl rfl)
theorem dX3_begin_3 : decode cX3_begin 3 = .ok (.bipush 10, 2) := dk_16 10 (dk_at dksX3_begin_0 3 rfl rfl)
theorem dX3_begin_5 : decode cX3_begin 5 = .ok (.if_icmp .ge 44, 3) := dk_162 0 44 (dk_at dksX3_begin_0 5 rfl rfl)
theorem dX3_begin_8 : decode cX3_begin 8 = .ok (.aload_n 0, 1) := dk_42 (dk_at dksX3_begin_0 8 rfl rfl)
theorem dX3_begin_9 : decode cX3_begin 9 = .ok (.getfield 9, 3) := dk_180 0 9 (dk_at dksX3_begin_0 9 rfl rfl)
theorem dX3_begin_12 : decode cX3_begin 12 = .ok (.iload_n 2, 1) := dk_28 (dk_at dksX3_begin_0 12 rfl rfl)
theorem dX3_begin_13 : decode cX3_begin 13 = .ok (.iload_n 2, 1) := dk_28 (dk_at dksX3_begin_0 13 rfl rfl)
theorem dX3_begin_14 : decode cX3_begin 14 = .ok (.aload_n 1, 1) := dk_43 (dk_at dksX3_begin_0 14 rfl rfl)
theorem dX3_begin_15 : decode cX3_begin 15 = .ok (.getfield 22, 3) := dk_180 0 22 (dk_at dksX3_begin_0 15 rfl rfl)
theorem dX3_begin_18 : decode cX3_begin 18 = .ok (.invokevirtual 28, 3) := dk_182 0 28 (dk_at dksX3_begin_0 18 rfl rfl)
theorem dX3_begin_21 : decode cX3_begin 21 = .ok (.if_icmp .ge 20, 3) := dk_162 0 20 (dk_at dksX3_begin_0 21 rfl rfl)
theorem dX3_begin_24 : decode cX3_begin 24 = .ok (.aload_n 1, 1) := dk_43 (dk_at dksX3_begin_1 0 rfl rfl)
theorem dX3_begin_25 : decode cX3_begin 25 = .ok (.getfield 22, 3) := dk_180 0 22 (dk_at dksX3_begin_1 1 rfl rfl)
theorem dX3_begin_28 : decode cX3_begin 28 = .ok (.iload_n 2, 1) := dk_28 (dk_at dksX3_begin_1 4 rfl rfl)
theorem dX3_begin_29 : decode cX3_begin 29 = .ok (.invokevirtual 34, 3) := dk_182 0 34 (dk_at dksX3_begin_1 5 rfl rfl)
theorem dX3_begin_32 : decode cX3_begin 32 = .ok (.checkcast 38, 3) := dk_192 0 38 (dk_at dksX3_begin_1 8 rfl rfl)
theorem dX3_begin_35 : decode cX3_begin 35 = .ok (.getfield 40, 3) := dk_180 0 40 (dk_at dksX3_begin_1 11 rfl rfl)
theorem dX3_begin_38 : decode cX3_begin 38 = .ok (.goto 4, 3) := dk_167 0 4 (dk_at dksX3_begin_1 14 rfl rfl)
theorem dX3_begin_41 : decode cX3_begin 41 = .ok (.iconst (-1), 1) := dk_2 (dk_at dksX3_begin_1 17 rfl rfl)
theorem dX3_begin_42 : decode cX3_begin 42 = .ok (.iastore, 1) := dk_79 (dk_at dksX3_begin_1 18 rfl rfl)
theorem dX3_begin_43 : decode cX3_begin 43 = .ok (.iinc 2 1, 3) := dk_132 2 1 (dk_at dksX3_begin_1 19 rfl rfl)
theorem dX3_begin_46 : decode cX3_begin 46 = .ok (.goto (-44), 3) := dk_167 255 212 (dk_at dksX3_begin_2 0 rfl rfl)
theorem dX3_begin_49 : decode cX3_begin 49 = .ok (.iconst 0, 1) := dk_3 (dk_at dksX3_begin_2 3 rfl rfl)
theorem dX3_begin_50 : decode cX3_begin 50 = .ok (.istore_n 2, 1) := dk_61 (dk_at dksX3_begin_2 4 rfl rfl)
theorem dX3_begin_51 : decode cX3_begin 51 = .ok (.iload_n 2, 1) := dk_28 (dk_at dksX3_begin_2 5 rfl rfl)
theorem dX3_begin_52 : decode cX3_begin 52 = .ok (.iconst 5, 1) := dk_8 (dk_at dksX3_begin_2 6 rfl rfl)
theorem dX3_begin_53 : decode cX3_begin 53 = .ok (.if_icmp .ge 16, 3) := dk_162 0 16 (dk_at dksX3_begin_2 7 rfl rfl)
theorem dX3_begin_56 : decode cX3_begin 56 = .ok (.aload_n 0, 1) := dk_42 (dk_at dksX3_begin_2 10 rfl rfl)
theorem dX3_begin_57 : decode cX3_begin 57 = .ok (.getfield 15, 3) := dk_180 0 15 (dk_at dksX3_begin_2 11 rfl rfl)
theorem dX3_begin_60 : decode cX3_begin 60 = .ok (.iload_n 2, 1) := dk_28 (dk_at dksX3_begin_2 14 rfl rfl)
theorem dX3_begin_61 : decode cX3_begin 61 = .ok (.iconst 0, 1) := dk_3 (dk_at dksX3_begin_2 15 rfl rfl)
theorem dX3_begin_62 : decode cX3_begin 62 = .ok (.iastore, 1) := dk_79 (dk_at dksX3_begin_2 16 rfl rfl)
theorem dX3_begin_63 : decode cX3_begin 63 = .ok (.iinc 2 1, 3) := dk_132 2 1 (dk_at dksX3_begin_2 17 rfl rfl)
theorem dX3_begin_66 : decode cX3_begin 66 = .ok (.goto (-15), 3) := dk_167 255 241 (dk_at dksX3_begin_2 20 rfl rfl)
theorem dX3_begin_69 : decode cX3_begin 69 = .ok (.aload_n 0, 1) := dk_42 (dk_at dksX3_begin_2 23 rfl rfl)
theorem dX3_begin_70 : decode cX3_begin 70 = .ok (.iconst (-1), 1) := dk_2 (dk_at dksX3_begin_3 0 rfl rfl)
theorem dX3_begin_71 : decode cX3_begin 71 = .ok (.putfield 18, 3) := dk_181 0 18 (dk_at dksX3_begin_3 1 rfl rfl)
theorem dX3_begin_74 : decode cX3_begin 74 = .ok (.aload_n 0, 1) := dk_42 (dk_at dksX3_begin_3 4 rfl rfl)
theorem dX3_begin_75 : decode cX3_begin 75 = .ok (.iconst 0, 1) := dk_3 (dk_at dksX3_begin_3 5 rfl rfl)
theorem dX3_begin_76 : decode cX3_begin 76 = .ok (.putfield 42, 3) := dk_181 0 42 (dk_at dksX3_begin_3 6 rfl rfl)
theorem dX3_begin_79 : decode cX3_begin 79 = .ok (.aload_n 0, 1) := dk_42 (dk_at dksX3_begin_3 9 rfl rfl)
theorem dX3_begin_80 : decode cX3_begin 80 = .ok (.iconst 0, 1) := dk_3 (dk_at dksX3_begin_3 10 rfl rfl)
theorem dX3_begin_81 : decode cX3_begin 81 = .ok (.putfield 45, 3) := dk_181 0 45 (dk_at dksX3_begin_3 11 rfl rfl)
theorem dX3_begin_84 : decode cX3_begin 84 = .ok (.aload_n 0, 1) := dk_42 (dk_at dksX3_begin_3 14 rfl rfl)
theorem dX3_begin_85 : decode cX3_begin 85 = .ok (.iconst 0, 1) := dk_3 (dk_at dksX3_begin_3 15 rfl rfl)
theorem dX3_begin_86 : decode cX3_begin 86 = .ok (.putfield 48, 3) := dk_181 0 48 (dk_at dksX3_begin_3 16 rfl rfl)
theorem dX3_begin_89 : decode cX3_begin 89 = .ok (.aload_n 0, 1) := dk_42 (dk_at dksX3_begin_3 19 rfl rfl)
theorem dX3_begin_90 : decode cX3_begin 90 = .ok (.aload_n 1, 1) := dk_43 (dk_at dksX3_begin_3 20 rfl rfl)
theorem dX3_begin_91 : decode cX3_begin 91 = .ok (.getfield 51, 3) := dk_180 0 51 (dk_at dksX3_begin_3 21 rfl rfl)
theorem dX3_begin_94 : decode cX3_begin 94 = .ok (.putfield 54, 3) := dk_181 0 54 (dk_at dksX3_begin_4 0 rfl rfl)
theorem dX3_begin_97 : decode cX3_begin 97 = .ok (.aload_n 0, 1) := dk_42 (dk_at dksX3_begin_4 3 rfl rfl)
theorem dX3_begin_98 : decode cX3_begin 98 = .ok (.areturn, 1) := dk_176 (dk_at dksX3_begin_4 4 rfl rfl)
abbrev cX3_sits : ByteArray := prog_18_method_5_code
def yX3_sits : MethodName := ⟨RX3, "sits", "(I)Z"⟩
def dkwX3_sits_0 : List UInt8 := [42, 180, 0, 42, 27, 122, 4, 126, 4, 160, 0, 7, 4, 167, 0, 4, 3, 172]
abbrev dktX3_sits_0 : List UInt8 := dkwX3_sits_0 ++ []
theorem dksX3_sits_0 : cX3_sits.data.toList.drop 0 = dktX3_sits_0 := by decide +kernel
theorem dX3_sits_0 : decode cX3_sits 0 = .ok (.aload_n 0, 1) := dk_42 (dk_at dksX3_sits_0 0 rfl rfl)
theorem dX3_sits_1 : decode cX3_sits 1 = .ok (.getfield 42, 3) := dk_180 0 42 (dk_at dksX3_sits_0 1 rfl rfl)
theorem dX3_sits_4 : decode cX3_sits 4 = .ok (.iload_n 1, 1) := dk_27 (dk_at dksX3_sits_0 4 rfl rfl)
theorem dX3_sits_5 : decode cX3_sits 5 = .ok (.ishr, 1) := dk_122 (dk_at dksX3_sits_0 5 rfl rfl)
theorem dX3_sits_6 : decode cX3_sits 6 = .ok (.iconst 1, 1) := dk_4 (dk_at dksX3_sits_0 6 rfl rfl)
theorem dX3_sits_7 : decode cX3_sits 7 = .ok (.iand, 1) := dk_126 (dk_at dksX3_sits_0 7 rfl rfl)
theorem dX3_sits_8 : decode cX3_sits 8 = .ok (.iconst 1, 1) := dk_4 (dk_at dksX3_sits_0 8 rfl rfl)
theorem dX3_sits_9 : decode cX3_sits 9 = .ok (.if_icmp .ne 7, 3) := dk_160 0 7 (dk_at dksX3_sits_0 9 rfl rfl)
theorem dX3_sits_12 : decode cX3_sits 12 = .ok (.iconst 1, 1) := dk_4 (dk_at dksX3_sits_0 12 rfl rfl)
theorem dX3_sits_13 : decode cX3_sits 13 = .ok (.goto 4, 3) := dk_167 0 4 (dk_at dksX3_sits_0 13 rfl rfl)
theorem dX3_sits_16 : decode cX3_sits 16 = .ok (.iconst 0, 1) := dk_3 (dk_at dksX3_sits_0 16 rfl rfl)
theorem dX3_sits_17 : decode cX3_sits 17 = .ok (.ireturn, 1) := dk_172 (dk_at dksX3_sits_0 17 rfl rfl)
abbrev cX3_isSaid : ByteArray := prog_18_method_6_code
def yX3_isSaid : MethodName := ⟨RX3, "isSaid", "(I)Z"⟩
def dkwX3_isSaid_0 : List UInt8 := [42, 180, 0, 45, 27, 122, 4, 126, 4, 160, 0, 7, 4, 167, 0, 4, 3, 172]
abbrev dktX3_isSaid_0 : List UInt8 := dkwX3_isSaid_0 ++ []
theorem dksX3_isSaid_0 : cX3_isSaid.data.toList.drop 0 = dktX3_isSaid_0 := by decide +kernel
theorem dX3_isSaid_0 : decode cX3_isSaid 0 = .ok (.aload_n 0, 1) := dk_42 (dk_at dksX3_isSaid_0 0 rfl rfl)
theorem dX3_isSaid_1 : decode cX3_isSaid 1 = .ok (.getfield 45, 3) := dk_180 0 45 (dk_at dksX3_isSaid_0 1 rfl rfl)
theorem dX3_isSaid_4 : decode cX3_isSaid 4 = .ok (.iload_n 1, 1) := dk_27 (dk_at dksX3_isSaid_0 4 rfl rfl)
theorem dX3_isSaid_5 : decode cX3_isSaid 5 = .ok (.ishr, 1) := dk_122 (dk_at dksX3_isSaid_0 5 rfl rfl)
theorem dX3_isSaid_6 : decode cX3_isSaid 6 = .ok (.iconst 1, 1) := dk_4 (dk_at dksX3_isSaid_0 6 rfl rfl)
theorem dX3_isSaid_7 : decode cX3_isSaid 7 = .ok (.iand, 1) := dk_126 (dk_at dksX3_isSaid_0 7 rfl rfl)
theorem dX3_isSaid_8 : decode cX3_isSaid 8 = .ok (.iconst 1, 1) := dk_4 (dk_at dksX3_isSaid_0 8 rfl rfl)
theorem dX3_isSaid_9 : decode cX3_isSaid 9 = .ok (.if_icmp .ne 7, 3) := dk_160 0 7 (dk_at dksX3_isSaid_0 9 rfl rfl)
theorem dX3_isSaid_12 : decode cX3_isSaid 12 = .ok (.iconst 1, 1) := dk_4 (dk_at dksX3_isSaid_0 12 rfl rfl)
theorem dX3_isSaid_13 : decode cX3_isSaid 13 = .ok (.goto 4, 3) := dk_167 0 4 (dk_at dksX3_isSaid_0 13 rfl rfl)
theorem dX3_isSaid_16 : decode cX3_isSaid 16 = .ok (.iconst 0, 1) := dk_3 (dk_at dksX3_isSaid_0 16 rfl rfl)
theorem dX3_isSaid_17 : decode cX3_isSaid 17 = .ok (.ireturn, 1) := dk_172 (dk_at dksX3_isSaid_0 17 rfl rfl)
abbrev cX3_inside : ByteArray := prog_18_method_7_code
def yX3_inside : MethodName := ⟨RX3, "inside", "(LPepperTables$Book;I)I"⟩
def dkwX3_inside_2 : List UInt8 := [132, 4, 1, 167, 255, 210, 29, 172]
abbrev dktX3_inside_2 : List UInt8 := dkwX3_inside_2 ++ []
def dkwX3_inside_1 : List UInt8 := [46, 28, 160, 0, 19, 42, 21, 4, 182, 0, 61, 154, 0, 10, 4, 21, 4, 120, 167, 0, 4, 3, 128, 62]
abbrev dktX3_inside_1 : List UInt8 := dkwX3_inside_1 ++ dktX3_inside_2
def dkwX3_inside_0 : List UInt8 := [3, 62, 3, 54, 4, 21, 4, 43, 180, 0, 22, 182, 0, 28, 162, 0, 40, 29, 42, 180, 0, 9, 21, 4]
abbrev dktX3_inside_0 : List UInt8 := dkwX3_inside_0 ++ dktX3_inside_1
theorem dksX3_inside_0 : cX3_inside.data.toList.drop 0 = dktX3_inside_0 := by decide +kernel
theorem dksX3_inside_1 : cX3_inside.data.toList.drop 24 = dktX3_inside_1 := dk_seg dksX3_inside_0 24 rfl rfl
theorem dksX3_inside_2 : cX3_inside.data.toList.drop 48 = dktX3_inside_2 := dk_seg dksX3_inside_1 24 rfl rfl
theorem dX3_inside_0 : decode cX3_inside 0 = .ok (.iconst 0, 1) := dk_3 (dk_at dksX3_inside_0 0 rfl rfl)
theorem dX3_inside_1 : decode cX3_inside 1 = .ok (.istore_n 3, 1) := dk_62 (dk_at dksX3_inside_0 1 rfl rfl)
theorem dX3_inside_2 : decode cX3_inside 2 = .ok (.iconst 0, 1) := dk_3 (dk_at dksX3_inside_0 2 rfl rfl)
theorem dX3_inside_3 : decode cX3_inside 3 = .ok (.istore 4, 2) := dk_54 4 (dk_at dksX3_inside_0 3 rfl rfl)
theorem dX3_inside_5 : decode cX3_inside 5 = .ok (.iload 4, 2) := dk_21 4 (dk_at dksX3_inside_0 5 rfl rfl)
theorem dX3_inside_7 : decode cX3_inside 7 = .ok (.aload_n 1, 1) := dk_43 (dk_at dksX3_inside_0 7 rfl rfl)
theorem dX3_inside_8 : decode cX3_inside 8 = .ok (.getfield 22, 3) := dk_180 0 22 (dk_at dksX3_inside_0 8 rfl rfl)
theorem dX3_inside_11 : decode cX3_inside 11 = .ok (.invokevirtual 28, 3) := dk_182 0 28 (dk_at dksX3_inside_0 11 rfl rfl)
theorem dX3_inside_14 : decode cX3_inside 14 = .ok (.if_icmp .ge 40, 3) := dk_162 0 40 (dk_at dksX3_inside_0 14 rfl rfl)
theorem dX3_inside_17 : decode cX3_inside 17 = .ok (.iload_n 3, 1) := dk_29 (dk_at dksX3_inside_0 17 rfl rfl)
theorem dX3_inside_18 : decode cX3_inside 18 = .ok (.aload_n 0, 1) := dk_42 (dk_at dksX3_inside_0 18 rfl rfl)
theorem dX3_inside_19 : decode cX3_inside 19 = .ok (.getfield 9, 3) := dk_180 0 9 (dk_at dksX3_inside_0 19 rfl rfl)
theorem dX3_inside_22 : decode cX3_inside 22 = .ok (.iload 4, 2) := dk_21 4 (dk_at dksX3_inside_0 22 rfl rfl)
theorem dX3_inside_24 : decode cX3_inside 24 = .ok (.iaload, 1) := dk_46 (dk_at dksX3_inside_1 0 rfl rfl)
theorem dX3_inside_25 : decode cX3_inside 25 = .ok (.iload_n 2, 1) := dk_28 (dk_at dksX3_inside_1 1 rfl rfl)
theorem dX3_inside_26 : decode cX3_inside 26 = .ok (.if_icmp .ne 19, 3) := dk_160 0 19 (dk_at dksX3_inside_1 2 rfl rfl)
theorem dX3_inside_29 : decode cX3_inside 29 = .ok (.aload_n 0, 1) := dk_42 (dk_at dksX3_inside_1 5 rfl rfl)
theorem dX3_inside_30 : decode cX3_inside 30 = .ok (.iload 4, 2) := dk_21 4 (dk_at dksX3_inside_1 6 rfl rfl)
theorem dX3_inside_32 : decode cX3_inside 32 = .ok (.invokevirtual 61, 3) := dk_182 0 61 (dk_at dksX3_inside_1 8 rfl rfl)
theorem dX3_inside_35 : decode cX3_inside 35 = .ok (.ifCond .ne 10, 3) := dk_154 0 10 (dk_at dksX3_inside_1 11 rfl rfl)
theorem dX3_inside_38 : decode cX3_inside 38 = .ok (.iconst 1, 1) := dk_4 (dk_at dksX3_inside_1 14 rfl rfl)
theorem dX3_inside_39 : decode cX3_inside 39 = .ok (.iload 4, 2) := dk_21 4 (dk_at dksX3_inside_1 15 rfl rfl)
theorem dX3_inside_41 : decode cX3_inside 41 = .ok (.ishl, 1) := dk_120 (dk_at dksX3_inside_1 17 rfl rfl)
theorem dX3_inside_42 : decode cX3_inside 42 = .ok (.goto 4, 3) := dk_167 0 4 (dk_at dksX3_inside_1 18 rfl rfl)
theorem dX3_inside_45 : decode cX3_inside 45 = .ok (.iconst 0, 1) := dk_3 (dk_at dksX3_inside_1 21 rfl rfl)
theorem dX3_inside_46 : decode cX3_inside 46 = .ok (.ior, 1) := dk_128 (dk_at dksX3_inside_1 22 rfl rfl)
theorem dX3_inside_47 : decode cX3_inside 47 = .ok (.istore_n 3, 1) := dk_62 (dk_at dksX3_inside_1 23 rfl rfl)
theorem dX3_inside_48 : decode cX3_inside 48 = .ok (.iinc 4 1, 3) := dk_132 4 1 (dk_at dksX3_inside_2 0 rfl rfl)
theorem dX3_inside_51 : decode cX3_inside 51 = .ok (.goto (-46), 3) := dk_167 255 210 (dk_at dksX3_inside_2 3 rfl rfl)
theorem dX3_inside_54 : decode cX3_inside 54 = .ok (.iload_n 3, 1) := dk_29 (dk_at dksX3_inside_2 6 rfl rfl)
theorem dX3_inside_55 : decode cX3_inside 55 = .ok (.ireturn, 1) := dk_172 (dk_at dksX3_inside_2 7 rfl rfl)
abbrev cX3_out : ByteArray := prog_18_method_9_code
def yX3_out : MethodName := ⟨RX3, "out", "(LPepperTables$Book;I)I"⟩
def dkwX3_out_8 : List UInt8 := [167, 255, 133, 21, 4, 172]
abbrev dktX3_out_8 : List UInt8 := dkwX3_out_8 ++ []
def dkwX3_out_7 : List UInt8 := [185, 0, 115, 2, 0, 153, 0, 10, 4, 21, 6, 120, 167, 0, 4, 3, 128, 54, 4, 132, 6, 1]
abbrev dktX3_out_7 : List UInt8 := dkwX3_out_7 ++ dktX3_out_8
def dkwX3_out_6 : List UInt8 := [25, 5, 180, 0, 107, 25, 5, 180, 0, 111, 164, 0, 27, 167, 0, 17, 43, 180, 0, 112, 25, 5]
abbrev dktX3_out_6 : List UInt8 := dkwX3_out_6 ++ dktX3_out_7
def dkwX3_out_5 : List UInt8 := [21, 6, 182, 0, 109, 167, 0, 7, 42, 180, 0, 18, 181, 0, 111, 21, 4, 43, 180, 0, 112, 199, 0, 19]
abbrev dktX3_out_5 : List UInt8 := dkwX3_out_5 ++ dktX3_out_6
def dkwX3_out_4 : List UInt8 := [167, 0, 89, 25, 5, 43, 21, 6, 182, 0, 104, 181, 0, 107, 25, 5, 42, 180, 0, 18, 156, 0, 12, 43]
abbrev dktX3_out_4 : List UInt8 := dkwX3_out_4 ++ dktX3_out_5
def dkwX3_out_3 : List UInt8 := [162, 0, 117, 29, 21, 6, 122, 4, 126, 153, 0, 102, 42, 43, 21, 6, 182, 0, 100, 154, 0, 6]
abbrev dktX3_out_3 : List UInt8 := dkwX3_out_3 ++ dktX3_out_4
def dkwX3_out_2 : List UInt8 := [181, 0, 97, 25, 5, 42, 180, 0, 48, 181, 0, 99, 3, 54, 6, 21, 6, 43, 180, 0, 22, 182, 0, 28]
abbrev dktX3_out_2 : List UInt8 := dkwX3_out_2 ++ dktX3_out_3
def dkwX3_out_1 : List UInt8 := [184, 0, 82, 181, 0, 87, 25, 5, 42, 180, 0, 15, 28, 46, 181, 0, 92, 25, 5, 43, 29, 182, 0, 94]
abbrev dktX3_out_1 : List UInt8 := dkwX3_out_1 ++ dktX3_out_2
def dkwX3_out_0 : List UInt8 := [42, 43, 28, 182, 0, 74, 62, 3, 54, 4, 43, 180, 0, 78, 58, 5, 25, 5, 42, 180, 0, 42]
abbrev dktX3_out_0 : List UInt8 := dkwX3_out_0 ++ dktX3_out_1
theorem dksX3_out_0 : cX3_out.data.toList.drop 0 = dktX3_out_0 := by decide +kernel
theorem dksX3_out_1 : cX3_out.data.toList.drop 22 = dktX3_out_1 := dk_seg dksX3_out_0 22 rfl rfl
theorem dksX3_out_2 : cX3_out.data.toList.drop 46 = dktX3_out_2 := dk_seg dksX3_out_1 24 rfl rfl
theorem dksX3_out_3 : cX3_out.data.toList.drop 70 = dktX3_out_3 := dk_seg dksX3_out_2 24 rfl rfl
theorem dksX3_out_4 : cX3_out.data.toList.drop 92 = dktX3_out_4 := dk_seg dksX3_out_3 22 rfl rfl
theorem dksX3_out_5 : cX3_out.data.toList.drop 116 = dktX3_out_5 := dk_seg dksX3_out_4 24 rfl rfl
theorem dksX3_out_6 : cX3_out.data.toList.drop 140 = dktX3_out_6 := dk_seg dksX3_out_5 24 rfl rfl
theorem dksX3_out_7 : cX3_out.data.toList.drop 162 = dktX3_out_7 := dk_seg dksX3_out_6 22 rfl rfl
theorem dksX3_out_8 : cX3_out.data.toList.drop 184 = dktX3_out_8 := dk_seg dksX3_out_7 22 rfl rfl
theorem dX3_out_0 : decode cX3_out 0 = .ok (.aload_n 0, 1) := dk_42 (dk_at dksX3_out_0 0 rfl rfl)
theorem dX3_out_1 : decode cX3_out 1 = .ok (.aload_n 1, 1) := dk_43 (dk_at dksX3_out_0 1 rfl rfl)
theorem dX3_out_2 : decode cX3_out 2 = .ok (.iload_n 2, 1) := dk_28 (dk_at dksX3_out_0 2 rfl rfl)
theorem dX3_out_3 : decode cX3_out 3 = .ok (.invokevirtual 74, 3) := dk_182 0 74 (dk_at dksX3_out_0 3 rfl rfl)
theorem dX3_out_6 : decode cX3_out 6 = .ok (.istore_n 3, 1) := dk_62 (dk_at dksX3_out_0 6 rfl rfl)
theorem dX3_out_7 : decode cX3_out 7 = .ok (.iconst 0, 1) := dk_3 (dk_at dksX3_out_0 7 rfl rfl)
theorem dX3_out_8 : decode cX3_out 8 = .ok (.istore 4, 2) := dk_54 4 (dk_at dksX3_out_0 8 rfl rfl)
theorem dX3_out_10 : decode cX3_out 10 = .ok (.aload_n 1, 1) := dk_43 (dk_at dksX3_out_0 10 rfl rfl)
theorem dX3_out_11 : decode cX3_out 11 = .ok (.getfield 78, 3) := dk_180 0 78 (dk_at dksX3_out_0 11 rfl rfl)
theorem dX3_out_14 : decode cX3_out 14 = .ok (.astore 5, 2) := dk_58 5 (dk_at dksX3_out_0 14 rfl rfl)
theorem dX3_out_16 : decode cX3_out 16 = .ok (.aload 5, 2) := dk_25 5 (dk_at dksX3_out_0 16 rfl rfl)
theorem dX3_out_18 : decode cX3_out 18 = .ok (.aload_n 0, 1) := dk_42 (dk_at dksX3_out_0 18 rfl rfl)
theorem dX3_out_19 : decode cX3_out 19 = .ok (.getfield 42, 3) := dk_180 0 42 (dk_at dksX3_out_0 19 rfl rfl)
theorem dX3_out_22 : decode cX3_out 22 = .ok (.invokestatic 82, 3) := dk_184 0 82 (dk_at dksX3_out_1 0 rfl rfl)
theorem dX3_out_25 : decode cX3_out 25 = .ok (.putfield 87, 3) := dk_181 0 87 (dk_at dksX3_out_1 3 rfl rfl)
theorem dX3_out_28 : decode cX3_out 28 = .ok (.aload 5, 2) := dk_25 5 (dk_at dksX3_out_1 6 rfl rfl)
theorem dX3_out_30 : decode cX3_out 30 = .ok (.aload_n 0, 1) := dk_42 (dk_at dksX3_out_1 8 rfl rfl)
theorem dX3_out_31 : decode cX3_out 31 = .ok (.getfield 15, 3) := dk_180 0 15 (dk_at dksX3_out_1 9 rfl rfl)
theorem dX3_out_34 : decode cX3_out 34 = .ok (.iload_n 2, 1) := dk_28 (dk_at dksX3_out_1 12 rfl rfl)
theorem dX3_out_35 : decode cX3_out 35 = .ok (.iaload, 1) := dk_46 (dk_at dksX3_out_1 13 rfl rfl)
theorem dX3_out_36 : decode cX3_out 36 = .ok (.putfield 92, 3) := dk_181 0 92 (dk_at dksX3_out_1 14 rfl rfl)
theorem dX3_out_39 : decode cX3_out 39 = .ok (.aload 5, 2) := dk_25 5 (dk_at dksX3_out_1 17 rfl rfl)
theorem dX3_out_41 : decode cX3_out 41 = .ok (.aload_n 1, 1) := dk_43 (dk_at dksX3_out_1 19 rfl rfl)
theorem dX3_out_42 : decode cX3_out 42 = .ok (.iload_n 3, 1) := dk_29 (dk_at dksX3_out_1 20 rfl rfl)
theorem dX3_out_43 : decode cX3_out 43 = .ok (.invokevirtual 94, 3) := dk_182 0 94 (dk_at dksX3_out_1 21 rfl rfl)
theorem dX3_out_46 : decode cX3_out 46 = .ok (.putfield 97, 3) := dk_181 0 97 (dk_at dksX3_out_2 0 rfl rfl)
theorem dX3_out_49 : decode cX3_out 49 = .ok (.aload 5, 2) := dk_25 5 (dk_at dksX3_out_2 3 rfl rfl)
theorem dX3_out_51 : decode cX3_out 51 = .ok (.aload_n 0, 1) := dk_42 (dk_at dksX3_out_2 5 rfl rfl)
theorem dX3_out_52 : decode cX3_out 52 = .ok (.getfield 48, 3) := dk_180 0 48 (dk_at dksX3_out_2 6 rfl rfl)
theorem dX3_out_55 : decode cX3_out 55 = .ok (.putfield 99, 3) := dk_181 0 99 (dk_at dksX3_out_2 9 rfl rfl)
theorem dX3_out_58 : decode cX3_out 58 = .ok (.iconst 0, 1) := dk_3 (dk_at dksX3_out_2 12 rfl rfl)
theorem dX3_out_59 : decode cX3_out 59 = .ok (.istore 6, 2) := dk_54 6 (dk_at dksX3_out_2 13 rfl rfl)
theorem dX3_out_61 : decode cX3_out 61 = .ok (.iload 6, 2) := dk_21 6 (dk_at dksX3_out_2 15 rfl rfl)
theorem dX3_out_63 : decode cX3_out 63 = .ok (.aload_n 1, 1) := dk_43 (dk_at dksX3_out_2 17 rfl rfl)
theorem dX3_out_64 : decode cX3_out 64 = .ok (.getfield 22, 3) := dk_180 0 22 (dk_at dksX3_out_2 18 rfl rfl)
theorem dX3_out_67 : decode cX3_out 67 = .ok (.invokevirtual 28, 3) := dk_182 0 28 (dk_at dksX3_out_2 21 rfl rfl)
theorem dX3_out_70 : decode cX3_out 70 = .ok (.if_icmp .ge 117, 3) := dk_162 0 117 (dk_at dksX3_out_3 0 rfl rfl)
theorem dX3_out_73 : decode cX3_out 73 = .ok (.iload_n 3, 1) := dk_29 (dk_at dksX3_out_3 3 rfl rfl)
theorem dX3_out_74 : decode cX3_out 74 = .ok (.iload 6, 2) := dk_21 6 (dk_at dksX3_out_3 4 rfl rfl)
theorem dX3_out_76 : decode cX3_out 76 = .ok (.ishr, 1) := dk_122 (dk_at dksX3_out_3 6 rfl rfl)
theorem dX3_out_77 : decode cX3_out 77 = .ok (.iconst 1, 1) := dk_4 (dk_at dksX3_out_3 7 rfl rfl)
theorem dX3_out_78 : decode cX3_out 78 = .ok (.iand, 1) := dk_126 (dk_at dksX3_out_3 8 rfl rfl)
theorem dX3_out_79 : decode cX3_out 79 = .ok (.ifCond .eq 102, 3) := dk_153 0 102 (dk_at dksX3_out_3 9 rfl rfl)
theorem dX3_out_82 : decode cX3_out 82 = .ok (.aload_n 0, 1) := dk_42 (dk_at dksX3_out_3 12 rfl rfl)
theorem dX3_out_83 : decode cX3_out 83 = .ok (.aload_n 1, 1) := dk_43 (dk_at dksX3_out_3 13 rfl rfl)
theorem dX3_out_84 : decode cX3_out 84 = .ok (.iload 6, 2) := dk_21 6 (dk_at dksX3_out_3 14 rfl rfl)
theorem dX3_out_86 : decode cX3_out 86 = .ok (.invokevirtual 100, 3) := dk_182 0 100 (dk_at dksX3_out_3 16 rfl rfl)
theorem dX3_out_89 : decode cX3_out 89 = .ok (.ifCond .ne 6, 3) := dk_154 0 6 (dk_at dksX3_out_3 19 rfl rfl)
theorem dX3_out_92 : decode cX3_out 92 = .ok (.goto 89, 3) := dk_167 0 89 (dk_at dksX3_out_4 0 rfl rfl)
theorem dX3_out_95 : decode cX3_out 95 = .ok (.aload 5, 2) := dk_25 5 (dk_at dksX3_out_4 3 rfl rfl)
theorem dX3_out_97 : decode cX3_out 97 = .ok (.aload_n 1, 1) := dk_43 (dk_at dksX3_out_4 5 rfl rfl)
theorem dX3_out_98 : decode cX3_out 98 = .ok (.iload 6, 2) := dk_21 6 (dk_at dksX3_out_4 6 rfl rfl)
theorem dX3_out_100 : decode cX3_out 100 = .ok (.invokevirtual 104, 3) := dk_182 0 104 (dk_at dksX3_out_4 8 rfl rfl)
theorem dX3_out_103 : decode cX3_out 103 = .ok (.putfield 107, 3) := dk_181 0 107 (dk_at dksX3_out_4 11 rfl rfl)
theorem dX3_out_106 : decode cX3_out 106 = .ok (.aload 5, 2) := dk_25 5 (dk_at dksX3_out_4 14 rfl rfl)
theorem dX3_out_108 : decode cX3_out 108 = .ok (.aload_n 0, 1) := dk_42 (dk_at dksX3_out_4 16 rfl rfl)
theorem dX3_out_109 : decode cX3_out 109 = .ok (.getfield 18, 3) := dk_180 0 18 (dk_at dksX3_out_4 17 rfl rfl)
theorem dX3_out_112 : decode cX3_out 112 = .ok (.ifCond .ge 12, 3) := dk_156 0 12 (dk_at dksX3_out_4 20 rfl rfl)
theorem dX3_out_115 : decode cX3_out 115 = .ok (.aload_n 1, 1) := dk_43 (dk_at dksX3_out_4 23 rfl rfl)
theorem dX3_out_116 : decode cX3_out 116 = .ok (.iload 6, 2) := dk_21 6 (dk_at dksX3_out_5 0 rfl rfl)
theorem dX3_out_118 : decode cX3_out 118 = .ok (.invokevirtual 109, 3) := dk_182 0 109 (dk_at dksX3_out_5 2 rfl rfl)
theorem dX3_out_121 : decode cX3_out 121 = .ok (.goto 7, 3) := dk_167 0 7 (dk_at dksX3_out_5 5 rfl rfl)
theorem dX3_out_124 : decode cX3_out 124 = .ok (.aload_n 0, 1) := dk_42 (dk_at dksX3_out_5 8 rfl rfl)
theorem dX3_out_125 : decode cX3_out 125 = .ok (.getfield 18, 3) := dk_180 0 18 (dk_at dksX3_out_5 9 rfl rfl)
theorem dX3_out_128 : decode cX3_out 128 = .ok (.putfield 111, 3) := dk_181 0 111 (dk_at dksX3_out_5 12 rfl rfl)
theorem dX3_out_131 : decode cX3_out 131 = .ok (.iload 4, 2) := dk_21 4 (dk_at dksX3_out_5 15 rfl rfl)
theorem dX3_out_133 : decode cX3_out 133 = .ok (.aload_n 1, 1) := dk_43 (dk_at dksX3_out_5 17 rfl rfl)
theorem dX3_out_134 : decode cX3_out 134 = .ok (.getfield 112, 3) := dk_180 0 112 (dk_at dksX3_out_5 18 rfl rfl)
theorem dX3_out_137 : decode cX3_out 137 = .ok (.ifnonnull 19, 3) := dk_199 0 19 (dk_at dksX3_out_5 21 rfl rfl)
theorem dX3_out_140 : decode cX3_out 140 = .ok (.aload 5, 2) := dk_25 5 (dk_at dksX3_out_6 0 rfl rfl)
theorem dX3_out_142 : decode cX3_out 142 = .ok (.getfield 107, 3) := dk_180 0 107 (dk_at dksX3_out_6 2 rfl rfl)
theorem dX3_out_145 : decode cX3_out 145 = .ok (.aload 5, 2) := dk_25 5 (dk_at dksX3_out_6 5 rfl rfl)
theorem dX3_out_147 : decode cX3_out 147 = .ok (.getfield 111, 3) := dk_180 0 111 (dk_at dksX3_out_6 7 rfl rfl)
theorem dX3_out_150 : decode cX3_out 150 = .ok (.if_icmp .le 27, 3) := dk_164 0 27 (dk_at dksX3_out_6 10 rfl rfl)
theorem dX3_out_153 : decode cX3_out 153 = .ok (.goto 17, 3) := dk_167 0 17 (dk_at dksX3_out_6 13 rfl rfl)
theorem dX3_out_156 : decode cX3_out 156 = .ok (.aload_n 1, 1) := dk_43 (dk_at dksX3_out_6 16 rfl rfl)
theorem dX3_out_157 : decode cX3_out 157 = .ok (.getfield 112, 3) := dk_180 0 112 (dk_at dksX3_out_6 17 rfl rfl)
theorem dX3_out_160 : decode cX3_out 160 = .ok (.aload 5, 2) := dk_25 5 (dk_at dksX3_out_6 20 rfl rfl)
theorem dX3_out_162 : decode cX3_out 162 = .ok (.invokeinterface 115 2, 5) := by decide +kernel
theorem dX3_out_167 : decode cX3_out 167 = .ok (.ifCond .eq 10, 3) := dk_153 0 10 (dk_at dksX3_out_7 5 rfl rfl)
theorem dX3_out_170 : decode cX3_out 170 = .ok (.iconst 1, 1) := dk_4 (dk_at dksX3_out_7 8 rfl rfl)
theorem dX3_out_171 : decode cX3_out 171 = .ok (.iload 6, 2) := dk_21 6 (dk_at dksX3_out_7 9 rfl rfl)
theorem dX3_out_173 : decode cX3_out 173 = .ok (.ishl, 1) := dk_120 (dk_at dksX3_out_7 11 rfl rfl)
theorem dX3_out_174 : decode cX3_out 174 = .ok (.goto 4, 3) := dk_167 0 4 (dk_at dksX3_out_7 12 rfl rfl)
theorem dX3_out_177 : decode cX3_out 177 = .ok (.iconst 0, 1) := dk_3 (dk_at dksX3_out_7 15 rfl rfl)
theorem dX3_out_178 : decode cX3_out 178 = .ok (.ior, 1) := dk_128 (dk_at dksX3_out_7 16 rfl rfl)
theorem dX3_out_179 : decode cX3_out 179 = .ok (.istore 4, 2) := dk_54 4 (dk_at dksX3_out_7 17 rfl rfl)
theorem dX3_out_181 : decode cX3_out 181 = .ok (.iinc 6 1, 3) := dk_132 6 1 (dk_at dksX3_out_7 19 rfl rfl)
theorem dX3_out_184 : decode cX3_out 184 = .ok (.goto (-123), 3) := dk_167 255 133 (dk_at dksX3_out_8 0 rfl rfl)
theorem dX3_out_187 : decode cX3_out 187 = .ok (.iload 4, 2) := dk_21 4 (dk_at dksX3_out_8 3 rfl rfl)
theorem dX3_out_189 : decode cX3_out 189 = .ok (.ireturn, 1) := dk_172 (dk_at dksX3_out_8 5 rfl rfl)
abbrev cX3_areNear : ByteArray := prog_18_method_8_code
def yX3_areNear : MethodName := ⟨RX3, "areNear", "(LPepperTables$Book;I)Z"⟩
def dkwX3_areNear_1 : List UInt8 := [4, 167, 0, 4, 3, 172]
abbrev dktX3_areNear_1 : List UInt8 := dkwX3_areNear_1 ++ []
def dkwX3_areNear_0 : List UInt8 := [42, 43, 28, 182, 0, 65, 182, 0, 69, 153, 0, 19, 42, 43, 28, 182, 0, 71, 182, 0, 69, 153, 0, 7]
abbrev dktX3_areNear_0 : List UInt8 := dkwX3_areNear_0 ++ dktX3_areNear_1
theorem dksX3_areNear_0 : cX3_areNear.data.toList.drop 0 = dktX3_areNear_0 := by decide +kernel
theorem dksX3_areNear_1 : cX3_areNear.data.toList.drop 24 = dktX3_areNear_1 := dk_seg dksX3_areNear_0 24 rfl rfl
theorem dX3_areNear_0 : decode cX3_areNear 0 = .ok (.aload_n 0, 1) := dk_42 (dk_at dksX3_areNear_0 0 rfl rfl)
theorem dX3_areNear_1 : decode cX3_areNear 1 = .ok (.aload_n 1, 1) := dk_43 (dk_at dksX3_areNear_0 1 rfl rfl)
theorem dX3_areNear_2 : decode cX3_areNear 2 = .ok (.iload_n 2, 1) := dk_28 (dk_at dksX3_areNear_0 2 rfl rfl)
theorem dX3_areNear_3 : decode cX3_areNear 3 = .ok (.invokevirtual 65, 3) := dk_182 0 65 (dk_at dksX3_areNear_0 3 rfl rfl)
theorem dX3_areNear_6 : decode cX3_areNear 6 = .ok (.invokevirtual 69, 3) := dk_182 0 69 (dk_at dksX3_areNear_0 6 rfl rfl)
theorem dX3_areNear_9 : decode cX3_areNear 9 = .ok (.ifCond .eq 19, 3) := dk_153 0 19 (dk_at dksX3_areNear_0 9 rfl rfl)
theorem dX3_areNear_12 : decode cX3_areNear 12 = .ok (.aload_n 0, 1) := dk_42 (dk_at dksX3_areNear_0 12 rfl rfl)
theorem dX3_areNear_13 : decode cX3_areNear 13 = .ok (.aload_n 1, 1) := dk_43 (dk_at dksX3_areNear_0 13 rfl rfl)
theorem dX3_areNear_14 : decode cX3_areNear 14 = .ok (.iload_n 2, 1) := dk_28 (dk_at dksX3_areNear_0 14 rfl rfl)
theorem dX3_areNear_15 : decode cX3_areNear 15 = .ok (.invokevirtual 71, 3) := dk_182 0 71 (dk_at dksX3_areNear_0 15 rfl rfl)
theorem dX3_areNear_18 : decode cX3_areNear 18 = .ok (.invokevirtual 69, 3) := dk_182 0 69 (dk_at dksX3_areNear_0 18 rfl rfl)
theorem dX3_areNear_21 : decode cX3_areNear 21 = .ok (.ifCond .eq 7, 3) := dk_153 0 7 (dk_at dksX3_areNear_0 21 rfl rfl)
theorem dX3_areNear_24 : decode cX3_areNear 24 = .ok (.iconst 1, 1) := dk_4 (dk_at dksX3_areNear_1 0 rfl rfl)
theorem dX3_areNear_25 : decode cX3_areNear 25 = .ok (.goto 4, 3) := dk_167 0 4 (dk_at dksX3_areNear_1 1 rfl rfl)
theorem dX3_areNear_28 : decode cX3_areNear 28 = .ok (.iconst 0, 1) := dk_3 (dk_at dksX3_areNear_1 4 rfl rfl)
theorem dX3_areNear_29 : decode cX3_areNear 29 = .ok (.ireturn, 1) := dk_172 (dk_at dksX3_areNear_1 5 rfl rfl)
abbrev cX3_copy : ByteArray := prog_18_method_3_code
def yX3_copy : MethodName := ⟨RX3, "copy", "(LPepperTables$Table;)LPepperTables$Table;"⟩
def dkwX3_copy_2 : List UInt8 := [181, 0, 45, 42, 43, 180, 0, 48, 181, 0, 48, 42, 43, 180, 0, 54, 181, 0, 54, 42, 176]
abbrev dktX3_copy_2 : List UInt8 := dkwX3_copy_2 ++ []
def dkwX3_copy_1 : List UInt8 := [3, 8, 184, 0, 55, 42, 2, 181, 0, 18, 42, 43, 180, 0, 42, 181, 0, 42, 42, 43, 180, 0, 45]
abbrev dktX3_copy_1 : List UInt8 := dkwX3_copy_1 ++ dktX3_copy_2
def dkwX3_copy_0 : List UInt8 := [43, 180, 0, 9, 3, 42, 180, 0, 9, 3, 16, 10, 184, 0, 55, 43, 180, 0, 15, 3, 42, 180, 0, 15]
abbrev dktX3_copy_0 : List UInt8 := dkwX3_copy_0 ++ dktX3_copy_1
theorem dksX3_copy_0 : cX3_copy.data.toList.drop 0 = dktX3_copy_0 := by decide +kernel
theorem dksX3_copy_1 : cX3_copy.data.toList.drop 24 = dktX3_copy_1 := dk_seg dksX3_copy_0 24 rfl rfl
theorem dksX3_copy_2 : cX3_copy.data.toList.drop 47 = dktX3_copy_2 := dk_seg dksX3_copy_1 23 rfl rfl
theorem dX3_copy_0 : decode cX3_copy 0 = .ok (.aload_n 1, 1) := dk_43 (dk_at dksX3_copy_0 0 rfl rfl)
theorem dX3_copy_1 : decode cX3_copy 1 = .ok (.getfield 9, 3) := dk_180 0 9 (dk_at dksX3_copy_0 1 rfl rfl)
theorem dX3_copy_4 : decode cX3_copy 4 = .ok (.iconst 0, 1) := dk_3 (dk_at dksX3_copy_0 4 rfl rfl)
theorem dX3_copy_5 : decode cX3_copy 5 = .ok (.aload_n 0, 1) := dk_42 (dk_at dksX3_copy_0 5 rfl rfl)
theorem dX3_copy_6 : decode cX3_copy 6 = .ok (.getfield 9, 3) := dk_180 0 9 (dk_at dksX3_copy_0 6 rfl rfl)
theorem dX3_copy_9 : decode cX3_copy 9 = .ok (.iconst 0, 1) := dk_3 (dk_at dksX3_copy_0 9 rfl rfl)
theorem dX3_copy_10 : decode cX3_copy 10 = .ok (.bipush 10, 2) := dk_16 10 (dk_at dksX3_copy_0 10 rfl rfl)
theorem dX3_copy_12 : decode cX3_copy 12 = .ok (.invokestatic 55, 3) := dk_184 0 55 (dk_at dksX3_copy_0 12 rfl rfl)
theorem dX3_copy_15 : decode cX3_copy 15 = .ok (.aload_n 1, 1) := dk_43 (dk_at dksX3_copy_0 15 rfl rfl)
theorem dX3_copy_16 : decode cX3_copy 16 = .ok (.getfield 15, 3) := dk_180 0 15 (dk_at dksX3_copy_0 16 rfl rfl)
theorem dX3_copy_19 : decode cX3_copy 19 = .ok (.iconst 0, 1) := dk_3 (dk_at dksX3_copy_0 19 rfl rfl)
theorem dX3_copy_20 : decode cX3_copy 20 = .ok (.aload_n 0, 1) := dk_42 (dk_at dksX3_copy_0 20 rfl rfl)
theorem dX3_copy_21 : decode cX3_copy 21 = .ok (.getfield 15, 3) := dk_180 0 15 (dk_at dksX3_copy_0 21 rfl rfl)
theorem dX3_copy_24 : decode cX3_copy 24 = .ok (.iconst 0, 1) := dk_3 (dk_at dksX3_copy_1 0 rfl rfl)
theorem dX3_copy_25 : decode cX3_copy 25 = .ok (.iconst 5, 1) := dk_8 (dk_at dksX3_copy_1 1 rfl rfl)
theorem dX3_copy_26 : decode cX3_copy 26 = .ok (.invokestatic 55, 3) := dk_184 0 55 (dk_at dksX3_copy_1 2 rfl rfl)
theorem dX3_copy_29 : decode cX3_copy 29 = .ok (.aload_n 0, 1) := dk_42 (dk_at dksX3_copy_1 5 rfl rfl)
theorem dX3_copy_30 : decode cX3_copy 30 = .ok (.iconst (-1), 1) := dk_2 (dk_at dksX3_copy_1 6 rfl rfl)
theorem dX3_copy_31 : decode cX3_copy 31 = .ok (.putfield 18, 3) := dk_181 0 18 (dk_at dksX3_copy_1 7 rfl rfl)
theorem dX3_copy_34 : decode cX3_copy 34 = .ok (.aload_n 0, 1) := dk_42 (dk_at dksX3_copy_1 10 rfl rfl)
theorem dX3_copy_35 : decode cX3_copy 35 = .ok (.aload_n 1, 1) := dk_43 (dk_at dksX3_copy_1 11 rfl rfl)
theorem dX3_copy_36 : decode cX3_copy 36 = .ok (.getfield 42, 3) := dk_180 0 42 (dk_at dksX3_copy_1 12 rfl rfl)
theorem dX3_copy_39 : decode cX3_copy 39 = .ok (.putfield 42, 3) := dk_181 0 42 (dk_at dksX3_copy_1 15 rfl rfl)
theorem dX3_copy_42 : decode cX3_copy 42 = .ok (.aload_n 0, 1) := dk_42 (dk_at dksX3_copy_1 18 rfl rfl)
theorem dX3_copy_43 : decode cX3_copy 43 = .ok (.aload_n 1, 1) := dk_43 (dk_at dksX3_copy_1 19 rfl rfl)
theorem dX3_copy_44 : decode cX3_copy 44 = .ok (.getfield 45, 3) := dk_180 0 45 (dk_at dksX3_copy_1 20 rfl rfl)
theorem dX3_copy_47 : decode cX3_copy 47 = .ok (.putfield 45, 3) := dk_181 0 45 (dk_at dksX3_copy_2 0 rfl rfl)
theorem dX3_copy_50 : decode cX3_copy 50 = .ok (.aload_n 0, 1) := dk_42 (dk_at dksX3_copy_2 3 rfl rfl)
theorem dX3_copy_51 : decode cX3_copy 51 = .ok (.aload_n 1, 1) := dk_43 (dk_at dksX3_copy_2 4 rfl rfl)
theorem dX3_copy_52 : decode cX3_copy 52 = .ok (.getfield 48, 3) := dk_180 0 48 (dk_at dksX3_copy_2 5 rfl rfl)
theorem dX3_copy_55 : decode cX3_copy 55 = .ok (.putfield 48, 3) := dk_181 0 48 (dk_at dksX3_copy_2 8 rfl rfl)
theorem dX3_copy_58 : decode cX3_copy 58 = .ok (.aload_n 0, 1) := dk_42 (dk_at dksX3_copy_2 11 rfl rfl)
theorem dX3_copy_59 : decode cX3_copy 59 = .ok (.aload_n 1, 1) := dk_43 (dk_at dksX3_copy_2 12 rfl rfl)
theorem dX3_copy_60 : decode cX3_copy 60 = .ok (.getfield 54, 3) := dk_180 0 54 (dk_at dksX3_copy_2 13 rfl rfl)
theorem dX3_copy_63 : decode cX3_copy 63 = .ok (.putfield 54, 3) := dk_181 0 54 (dk_at dksX3_copy_2 16 rfl rfl)
theorem dX3_copy_66 : decode cX3_copy 66 = .ok (.aload_n 0, 1) := dk_42 (dk_at dksX3_copy_2 19 rfl rfl)
theorem dX3_copy_67 : decode cX3_copy 67 = .ok (.areturn, 1) := dk_176 (dk_at dksX3_copy_2 20 rfl rfl)
abbrev cX3_grind : ByteArray := prog_18_method_10_code
def yX3_grind : MethodName := ⟨RX3, "grind", "(LPepperTables$Book;I)I"⟩
def dkwX3_grind_1 : List UInt8 := [42, 180, 0, 15, 28, 46, 4, 96, 184, 0, 124, 79, 29, 172]
abbrev dktX3_grind_1 : List UInt8 := dkwX3_grind_1 ++ []
def dkwX3_grind_0 : List UInt8 := [42, 43, 28, 182, 0, 121, 62, 42, 89, 180, 0, 45, 29, 128, 181, 0, 45, 42, 180, 0, 15, 28, 16, 99]
abbrev dktX3_grind_0 : List UInt8 := dkwX3_grind_0 ++ dktX3_grind_1
theorem dksX3_grind_0 : cX3_grind.data.toList.drop 0 = dktX3_grind_0 := by decide +kernel
theorem dksX3_grind_1 : cX3_grind.data.toList.drop 24 = dktX3_grind_1 := dk_seg dksX3_grind_0 24 rfl rfl
theorem dX3_grind_0 : decode cX3_grind 0 = .ok (.aload_n 0, 1) := dk_42 (dk_at dksX3_grind_0 0 rfl rfl)
theorem dX3_grind_1 : decode cX3_grind 1 = .ok (.aload_n 1, 1) := dk_43 (dk_at dksX3_grind_0 1 rfl rfl)
theorem dX3_grind_2 : decode cX3_grind 2 = .ok (.iload_n 2, 1) := dk_28 (dk_at dksX3_grind_0 2 rfl rfl)
theorem dX3_grind_3 : decode cX3_grind 3 = .ok (.invokevirtual 121, 3) := dk_182 0 121 (dk_at dksX3_grind_0 3 rfl rfl)
theorem dX3_grind_6 : decode cX3_grind 6 = .ok (.istore_n 3, 1) := dk_62 (dk_at dksX3_grind_0 6 rfl rfl)
theorem dX3_grind_7 : decode cX3_grind 7 = .ok (.aload_n 0, 1) := dk_42 (dk_at dksX3_grind_0 7 rfl rfl)
theorem dX3_grind_8 : decode cX3_grind 8 = .ok (.dup, 1) := dk_89 (dk_at dksX3_grind_0 8 rfl rfl)
theorem dX3_grind_9 : decode cX3_grind 9 = .ok (.getfield 45, 3) := dk_180 0 45 (dk_at dksX3_grind_0 9 rfl rfl)
theorem dX3_grind_12 : decode cX3_grind 12 = .ok (.iload_n 3, 1) := dk_29 (dk_at dksX3_grind_0 12 rfl rfl)
theorem dX3_grind_13 : decode cX3_grind 13 = .ok (.ior, 1) := dk_128 (dk_at dksX3_grind_0 13 rfl rfl)
theorem dX3_grind_14 : decode cX3_grind 14 = .ok (.putfield 45, 3) := dk_181 0 45 (dk_at dksX3_grind_0 14 rfl rfl)
theorem dX3_grind_17 : decode cX3_grind 17 = .ok (.aload_n 0, 1) := dk_42 (dk_at dksX3_grind_0 17 rfl rfl)
theorem dX3_grind_18 : decode cX3_grind 18 = .ok (.getfield 15, 3) := dk_180 0 15 (dk_at dksX3_grind_0 18 rfl rfl)
theorem dX3_grind_21 : decode cX3_grind 21 = .ok (.iload_n 2, 1) := dk_28 (dk_at dksX3_grind_0 21 rfl rfl)
theorem dX3_grind_22 : decode cX3_grind 22 = .ok (.bipush 99, 2) := dk_16 99 (dk_at dksX3_grind_0 22 rfl rfl)
theorem dX3_grind_24 : decode cX3_grind 24 = .ok (.aload_n 0, 1) := dk_42 (dk_at dksX3_grind_1 0 rfl rfl)
theorem dX3_grind_25 : decode cX3_grind 25 = .ok (.getfield 15, 3) := dk_180 0 15 (dk_at dksX3_grind_1 1 rfl rfl)
theorem dX3_grind_28 : decode cX3_grind 28 = .ok (.iload_n 2, 1) := dk_28 (dk_at dksX3_grind_1 4 rfl rfl)
theorem dX3_grind_29 : decode cX3_grind 29 = .ok (.iaload, 1) := dk_46 (dk_at dksX3_grind_1 5 rfl rfl)
theorem dX3_grind_30 : decode cX3_grind 30 = .ok (.iconst 1, 1) := dk_4 (dk_at dksX3_grind_1 6 rfl rfl)
theorem dX3_grind_31 : decode cX3_grind 31 = .ok (.iadd, 1) := dk_96 (dk_at dksX3_grind_1 7 rfl rfl)
theorem dX3_grind_32 : decode cX3_grind 32 = .ok (.invokestatic 124, 3) := dk_184 0 124 (dk_at dksX3_grind_1 8 rfl rfl)
theorem dX3_grind_35 : decode cX3_grind 35 = .ok (.iastore, 1) := dk_79 (dk_at dksX3_grind_1 11 rfl rfl)
theorem dX3_grind_36 : decode cX3_grind 36 = .ok (.iload_n 3, 1) := dk_29 (dk_at dksX3_grind_1 12 rfl rfl)
theorem dX3_grind_37 : decode cX3_grind 37 = .ok (.ireturn, 1) := dk_172 (dk_at dksX3_grind_1 13 rfl rfl)
abbrev cX3_draw : ByteArray := prog_18_method_13_code
def yX3_draw : MethodName := ⟨RX3, "draw", "(LPepperTables$Book;)Z"⟩
def dkwX3_draw_1 : List UInt8 := [16, 100, 112, 43, 180, 0, 136, 162, 0, 7, 4, 167, 0, 4, 3, 172]
abbrev dktX3_draw_1 : List UInt8 := dkwX3_draw_1 ++ []
def dkwX3_draw_0 : List UInt8 := [42, 42, 180, 0, 54, 17, 0, 137, 104, 16, 71, 96, 17, 3, 232, 112, 181, 0, 54, 42, 180, 0, 54]
abbrev dktX3_draw_0 : List UInt8 := dkwX3_draw_0 ++ dktX3_draw_1
theorem dksX3_draw_0 : cX3_draw.data.toList.drop 0 = dktX3_draw_0 := by decide +kernel
theorem dksX3_draw_1 : cX3_draw.data.toList.drop 23 = dktX3_draw_1 := dk_seg dksX3_draw_0 23 rfl rfl
theorem dX3_draw_0 : decode cX3_draw 0 = .ok (.aload_n 0, 1) := dk_42 (dk_at dksX3_draw_0 0 rfl rfl)
theorem dX3_draw_1 : decode cX3_draw 1 = .ok (.aload_n 0, 1) := dk_42 (dk_at dksX3_draw_0 1 rfl rfl)
theorem dX3_draw_2 : decode cX3_draw 2 = .ok (.getfield 54, 3) := dk_180 0 54 (dk_at dksX3_draw_0 2 rfl rfl)
theorem dX3_draw_5 : decode cX3_draw 5 = .ok (.sipush 137, 3) := dk_17 0 137 (dk_at dksX3_draw_0 5 rfl rfl)
theorem dX3_draw_8 : decode cX3_draw 8 = .ok (.imul, 1) := dk_104 (dk_at dksX3_draw_0 8 rfl rfl)
theorem dX3_draw_9 : decode cX3_draw 9 = .ok (.bipush 71, 2) := dk_16 71 (dk_at dksX3_draw_0 9 rfl rfl)
theorem dX3_draw_11 : decode cX3_draw 11 = .ok (.iadd, 1) := dk_96 (dk_at dksX3_draw_0 11 rfl rfl)
theorem dX3_draw_12 : decode cX3_draw 12 = .ok (.sipush 1000, 3) := dk_17 3 232 (dk_at dksX3_draw_0 12 rfl rfl)
theorem dX3_draw_15 : decode cX3_draw 15 = .ok (.irem, 1) := dk_112 (dk_at dksX3_draw_0 15 rfl rfl)
theorem dX3_draw_16 : decode cX3_draw 16 = .ok (.putfield 54, 3) := dk_181 0 54 (dk_at dksX3_draw_0 16 rfl rfl)
theorem dX3_draw_19 : decode cX3_draw 19 = .ok (.aload_n 0, 1) := dk_42 (dk_at dksX3_draw_0 19 rfl rfl)
theorem dX3_draw_20 : decode cX3_draw 20 = .ok (.getfield 54, 3) := dk_180 0 54 (dk_at dksX3_draw_0 20 rfl rfl)
theorem dX3_draw_23 : decode cX3_draw 23 = .ok (.bipush 100, 2) := dk_16 100 (dk_at dksX3_draw_1 0 rfl rfl)
theorem dX3_draw_25 : decode cX3_draw 25 = .ok (.irem, 1) := dk_112 (dk_at dksX3_draw_1 2 rfl rfl)
theorem dX3_draw_26 : decode cX3_draw 26 = .ok (.aload_n 1, 1) := dk_43 (dk_at dksX3_draw_1 3 rfl rfl)
theorem dX3_draw_27 : decode cX3_draw 27 = .ok (.getfield 136, 3) := dk_180 0 136 (dk_at dksX3_draw_1 4 rfl rfl)
theorem dX3_draw_30 : decode cX3_draw 30 = .ok (.if_icmp .ge 7, 3) := dk_162 0 7 (dk_at dksX3_draw_1 7 rfl rfl)
theorem dX3_draw_33 : decode cX3_draw 33 = .ok (.iconst 1, 1) := dk_4 (dk_at dksX3_draw_1 10 rfl rfl)
theorem dX3_draw_34 : decode cX3_draw 34 = .ok (.goto 4, 3) := dk_167 0 4 (dk_at dksX3_draw_1 11 rfl rfl)
theorem dX3_draw_37 : decode cX3_draw 37 = .ok (.iconst 0, 1) := dk_3 (dk_at dksX3_draw_1 14 rfl rfl)
theorem dX3_draw_38 : decode cX3_draw 38 = .ok (.ireturn, 1) := dk_172 (dk_at dksX3_draw_1 15 rfl rfl)
abbrev cX3_next : ByteArray := prog_18_method_12_code
def yX3_next : MethodName := ⟨RX3, "next", "(LPepperTables$Book;)I"⟩
def dkwX3_next_2 : List UInt8 := [182, 0, 104, 164, 0, 5, 29, 61, 132, 3, 1, 167, 255, 203, 28, 172]
abbrev dktX3_next_2 : List UInt8 := dkwX3_next_2 ++ []
def dkwX3_next_1 : List UInt8 := [43, 29, 182, 0, 65, 182, 0, 69, 153, 0, 22, 28, 155, 0, 16, 43, 29, 182, 0, 104, 43, 28]
abbrev dktX3_next_1 : List UInt8 := dkwX3_next_1 ++ dktX3_next_2
def dkwX3_next_0 : List UInt8 := [2, 61, 3, 62, 29, 43, 180, 0, 22, 182, 0, 28, 162, 0, 48, 42, 29, 182, 0, 61, 154, 0, 34, 42]
abbrev dktX3_next_0 : List UInt8 := dkwX3_next_0 ++ dktX3_next_1
theorem dksX3_next_0 : cX3_next.data.toList.drop 0 = dktX3_next_0 := by decide +kernel
theorem dksX3_next_1 : cX3_next.data.toList.drop 24 = dktX3_next_1 := dk_seg dksX3_next_0 24 rfl rfl
theorem dksX3_next_2 : cX3_next.data.toList.drop 46 = dktX3_next_2 := dk_seg dksX3_next_1 22 rfl rfl
theorem dX3_next_0 : decode cX3_next 0 = .ok (.iconst (-1), 1) := dk_2 (dk_at dksX3_next_0 0 rfl rfl)
theorem dX3_next_1 : decode cX3_next 1 = .ok (.istore_n 2, 1) := dk_61 (dk_at dksX3_next_0 1 rfl rfl)
theorem dX3_next_2 : decode cX3_next 2 = .ok (.iconst 0, 1) := dk_3 (dk_at dksX3_next_0 2 rfl rfl)
theorem dX3_next_3 : decode cX3_next 3 = .ok (.istore_n 3, 1) := dk_62 (dk_at dksX3_next_0 3 rfl rfl)
theorem dX3_next_4 : decode cX3_next 4 = .ok (.iload_n 3, 1) := dk_29 (dk_at dksX3_next_0 4 rfl rfl)
theorem dX3_next_5 : decode cX3_next 5 = .ok (.aload_n 1, 1) := dk_43 (dk_at dksX3_next_0 5 rfl rfl)
theorem dX3_next_6 : decode cX3_next 6 = .ok (.getfield 22, 3) := dk_180 0 22 (dk_at dksX3_next_0 6 rfl rfl)
theorem dX3_next_9 : decode cX3_next 9 = .ok (.invokevirtual 28, 3) := dk_182 0 28 (dk_at dksX3_next_0 9 rfl rfl)
theorem dX3_next_12 : decode cX3_next 12 = .ok (.if_icmp .ge 48, 3) := dk_162 0 48 (dk_at dksX3_next_0 12 rfl rfl)
theorem dX3_next_15 : decode cX3_next 15 = .ok (.aload_n 0, 1) := dk_42 (dk_at dksX3_next_0 15 rfl rfl)
theorem dX3_next_16 : decode cX3_next 16 = .ok (.iload_n 3, 1) := dk_29 (dk_at dksX3_next_0 16 rfl rfl)
theorem dX3_next_17 : decode cX3_next 17 = .ok (.invokevirtual 61, 3) := dk_182 0 61 (dk_at dksX3_next_0 17 rfl rfl)
theorem dX3_next_20 : decode cX3_next 20 = .ok (.ifCond .ne 34, 3) := dk_154 0 34 (dk_at dksX3_next_0 20 rfl rfl)
theorem dX3_next_23 : decode cX3_next 23 = .ok (.aload_n 0, 1) := dk_42 (dk_at dksX3_next_0 23 rfl rfl)
theorem dX3_next_24 : decode cX3_next 24 = .ok (.aload_n 1, 1) := dk_43 (dk_at dksX3_next_1 0 rfl rfl)
theorem dX3_next_25 : decode cX3_next 25 = .ok (.iload_n 3, 1) := dk_29 (dk_at dksX3_next_1 1 rfl rfl)
theorem dX3_next_26 : decode cX3_next 26 = .ok (.invokevirtual 65, 3) := dk_182 0 65 (dk_at dksX3_next_1 2 rfl rfl)
theorem dX3_next_29 : decode cX3_next 29 = .ok (.invokevirtual 69, 3) := dk_182 0 69 (dk_at dksX3_next_1 5 rfl rfl)
theorem dX3_next_32 : decode cX3_next 32 = .ok (.ifCond .eq 22, 3) := dk_153 0 22 (dk_at dksX3_next_1 8 rfl rfl)
theorem dX3_next_35 : decode cX3_next 35 = .ok (.iload_n 2, 1) := dk_28 (dk_at dksX3_next_1 11 rfl rfl)
theorem dX3_next_36 : decode cX3_next 36 = .ok (.ifCond .lt 16, 3) := dk_155 0 16 (dk_at dksX3_next_1 12 rfl rfl)
theorem dX3_next_39 : decode cX3_next 39 = .ok (.aload_n 1, 1) := dk_43 (dk_at dksX3_next_1 15 rfl rfl)
theorem dX3_next_40 : decode cX3_next 40 = .ok (.iload_n 3, 1) := dk_29 (dk_at dksX3_next_1 16 rfl rfl)
theorem dX3_next_41 : decode cX3_next 41 = .ok (.invokevirtual 104, 3) := dk_182 0 104 (dk_at dksX3_next_1 17 rfl rfl)
theorem dX3_next_44 : decode cX3_next 44 = .ok (.aload_n 1, 1) := dk_43 (dk_at dksX3_next_1 20 rfl rfl)
theorem dX3_next_45 : decode cX3_next 45 = .ok (.iload_n 2, 1) := dk_28 (dk_at dksX3_next_1 21 rfl rfl)
theorem dX3_next_46 : decode cX3_next 46 = .ok (.invokevirtual 104, 3) := dk_182 0 104 (dk_at dksX3_next_2 0 rfl rfl)
theorem dX3_next_49 : decode cX3_next 49 = .ok (.if_icmp .le 5, 3) := dk_164 0 5 (dk_at dksX3_next_2 3 rfl rfl)
theorem dX3_next_52 : decode cX3_next 52 = .ok (.iload_n 3, 1) := dk_29 (dk_at dksX3_next_2 6 rfl rfl)
theorem dX3_next_53 : decode cX3_next 53 = .ok (.istore_n 2, 1) := dk_61 (dk_at dksX3_next_2 7 rfl rfl)
theorem dX3_next_54 : decode cX3_next 54 = .ok (.iinc 3 1, 3) := dk_132 3 1 (dk_at dksX3_next_2 8 rfl rfl)
theorem dX3_next_57 : decode cX3_next 57 = .ok (.goto (-53), 3) := dk_167 255 203 (dk_at dksX3_next_2 11 rfl rfl)
theorem dX3_next_60 : decode cX3_next 60 = .ok (.iload_n 2, 1) := dk_28 (dk_at dksX3_next_2 14 rfl rfl)
theorem dX3_next_61 : decode cX3_next 61 = .ok (.ireturn, 1) := dk_172 (dk_at dksX3_next_2 15 rfl rfl)
abbrev cX3_seat : ByteArray := prog_18_method_4_code
def yX3_seat : MethodName := ⟨RX3, "seat", "(I)LPepperTables$Table;"⟩
def dkwX3_seat_0 : List UInt8 := [42, 27, 181, 0, 42, 42, 176]
abbrev dktX3_seat_0 : List UInt8 := dkwX3_seat_0 ++ []
theorem dksX3_seat_0 : cX3_seat.data.toList.drop 0 = dktX3_seat_0 := by decide +kernel
theorem dX3_seat_0 : decode cX3_seat 0 = .ok (.aload_n 0, 1) := dk_42 (dk_at dksX3_seat_0 0 rfl rfl)
theorem dX3_seat_1 : decode cX3_seat 1 = .ok (.iload_n 1, 1) := dk_27 (dk_at dksX3_seat_0 1 rfl rfl)
theorem dX3_seat_2 : decode cX3_seat 2 = .ok (.putfield 42, 3) := dk_181 0 42 (dk_at dksX3_seat_0 2 rfl rfl)
theorem dX3_seat_5 : decode cX3_seat 5 = .ok (.aload_n 0, 1) := dk_42 (dk_at dksX3_seat_0 5 rfl rfl)
theorem dX3_seat_6 : decode cX3_seat 6 = .ok (.areturn, 1) := dk_176 (dk_at dksX3_seat_0 6 rfl rfl)
abbrev cX3_grindSome : ByteArray := prog_18_method_11_code
def yX3_grindSome : MethodName := ⟨RX3, "grindSome", "(LPepperTables$Book;I)I"⟩
def dkwX3_grindSome_2 : List UInt8 := [172]
abbrev dktX3_grindSome_2 : List UInt8 := dkwX3_grindSome_2 ++ []
def dkwX3_grindSome_1 : List UInt8 := [4, 160, 0, 13, 42, 43, 21, 4, 182, 0, 133, 167, 0, 4, 3, 128, 62, 132, 4, 1, 167, 255, 217, 29]
abbrev dktX3_grindSome_1 : List UInt8 := dkwX3_grindSome_1 ++ dktX3_grindSome_2
def dkwX3_grindSome_0 : List UInt8 := [3, 62, 3, 54, 4, 21, 4, 43, 180, 0, 130, 182, 0, 28, 162, 0, 33, 29, 28, 21, 4, 122, 4, 126]
abbrev dktX3_grindSome_0 : List UInt8 := dkwX3_grindSome_0 ++ dktX3_grindSome_1
theorem dksX3_grindSome_0 : cX3_grindSome.data.toList.drop 0 = dktX3_grindSome_0 := by decide +kernel
theorem dksX3_grindSome_1 : cX3_grindSome.data.toList.drop 24 = dktX3_grindSome_1 := dk_seg dksX3_grindSome_0 24 rfl rfl
theorem dksX3_grindSome_2 : cX3_grindSome.data.toList.drop 48 = dktX3_grindSome_2 := dk_seg dksX3_grindSome_1 24 rfl rfl
theorem dX3_grindSome_0 : decode cX3_grindSome 0 = .ok (.iconst 0, 1) := dk_3 (dk_at dksX3_grindSome_0 0 rfl rfl)
theorem dX3_grindSome_1 : decode cX3_grindSome 1 = .ok (.istore_n 3, 1) := dk_62 (dk_at dksX3_grindSome_0 1 rfl rfl)
theorem dX3_grindSome_2 : decode cX3_grindSome 2 = .ok (.iconst 0, 1) := dk_3 (dk_at dksX3_grindSome_0 2 rfl rfl)
theorem dX3_grindSome_3 : decode cX3_grindSome 3 = .ok (.istore 4, 2) := dk_54 4 (dk_at dksX3_grindSome_0 3 rfl rfl)
theorem dX3_grindSome_5 : decode cX3_grindSome 5 = .ok (.iload 4, 2) := dk_21 4 (dk_at dksX3_grindSome_0 5 rfl rfl)
theorem dX3_grindSome_7 : decode cX3_grindSome 7 = .ok (.aload_n 1, 1) := dk_43 (dk_at dksX3_grindSome_0 7 rfl rfl)
theorem dX3_grindSome_8 : decode cX3_grindSome 8 = .ok (.getfield 130, 3) := dk_180 0 130 (dk_at dksX3_grindSome_0 8 rfl rfl)
theorem dX3_grindSome_11 : decode cX3_grindSome 11 = .ok (.invokevirtual 28, 3) := dk_182 0 28 (dk_at dksX3_grindSome_0 11 rfl rfl)
theorem dX3_grindSome_14 : decode cX3_grindSome 14 = .ok (.if_icmp .ge 33, 3) := dk_162 0 33 (dk_at dksX3_grindSome_0 14 rfl rfl)
theorem dX3_grindSome_17 : decode cX3_grindSome 17 = .ok (.iload_n 3, 1) := dk_29 (dk_at dksX3_grindSome_0 17 rfl rfl)
theorem dX3_grindSome_18 : decode cX3_grindSome 18 = .ok (.iload_n 2, 1) := dk_28 (dk_at dksX3_grindSome_0 18 rfl rfl)
theorem dX3_grindSome_19 : decode cX3_grindSome 19 = .ok (.iload 4, 2) := dk_21 4 (dk_at dksX3_grindSome_0 19 rfl rfl)
theorem dX3_grindSome_21 : decode cX3_grindSome 21 = .ok (.ishr, 1) := dk_122 (dk_at dksX3_grindSome_0 21 rfl rfl)
theorem dX3_grindSome_22 : decode cX3_grindSome 22 = .ok (.iconst 1, 1) := dk_4 (dk_at dksX3_grindSome_0 22 rfl rfl)
theorem dX3_grindSome_23 : decode cX3_grindSome 23 = .ok (.iand, 1) := dk_126 (dk_at dksX3_grindSome_0 23 rfl rfl)
theorem dX3_grindSome_24 : decode cX3_grindSome 24 = .ok (.iconst 1, 1) := dk_4 (dk_at dksX3_grindSome_1 0 rfl rfl)
theorem dX3_grindSome_25 : decode cX3_grindSome 25 = .ok (.if_icmp .ne 13, 3) := dk_160 0 13 (dk_at dksX3_grindSome_1 1 rfl rfl)
theorem dX3_grindSome_28 : decode cX3_grindSome 28 = .ok (.aload_n 0, 1) := dk_42 (dk_at dksX3_grindSome_1 4 rfl rfl)
theorem dX3_grindSome_29 : decode cX3_grindSome 29 = .ok (.aload_n 1, 1) := dk_43 (dk_at dksX3_grindSome_1 5 rfl rfl)
theorem dX3_grindSome_30 : decode cX3_grindSome 30 = .ok (.iload 4, 2) := dk_21 4 (dk_at dksX3_grindSome_1 6 rfl rfl)
theorem dX3_grindSome_32 : decode cX3_grindSome 32 = .ok (.invokevirtual 133, 3) := dk_182 0 133 (dk_at dksX3_grindSome_1 8 rfl rfl)
theorem dX3_grindSome_35 : decode cX3_grindSome 35 = .ok (.goto 4, 3) := dk_167 0 4 (dk_at dksX3_grindSome_1 11 rfl rfl)
theorem dX3_grindSome_38 : decode cX3_grindSome 38 = .ok (.iconst 0, 1) := dk_3 (dk_at dksX3_grindSome_1 14 rfl rfl)
theorem dX3_grindSome_39 : decode cX3_grindSome 39 = .ok (.ior, 1) := dk_128 (dk_at dksX3_grindSome_1 15 rfl rfl)
theorem dX3_grindSome_40 : decode cX3_grindSome 40 = .ok (.istore_n 3, 1) := dk_62 (dk_at dksX3_grindSome_1 16 rfl rfl)
theorem dX3_grindSome_41 : decode cX3_grindSome 41 = .ok (.iinc 4 1, 3) := dk_132 4 1 (dk_at dksX3_grindSome_1 17 rfl rfl)
theorem dX3_grindSome_44 : decode cX3_grindSome 44 = .ok (.goto (-39), 3) := dk_167 255 217 (dk_at dksX3_grindSome_1 20 rfl rfl)
theorem dX3_grindSome_47 : decode cX3_grindSome 47 = .ok (.iload_n 3, 1) := dk_29 (dk_at dksX3_grindSome_1 23 rfl rfl)
theorem dX3_grindSome_48 : decode cX3_grindSome 48 = .ok (.ireturn, 1) := dk_172 (dk_at dksX3_grindSome_2 0 rfl rfl)
theorem q142 : (Jvm.Cond.initialized "PepperTables$Table") ∈ lw_all := lw_g (lw_at lw_m1 7 rfl) rfl
theorem q219 : (Jvm.Cond.fieldLink "PepperTables$Table" (107 : Nat) "PepperTables$Ask" "hot" "I") ∈ lw_all := lw_g (lw_at lw_m1 84 rfl) rfl
theorem q221 : (Jvm.Cond.fieldLink "PepperTables$Table" (111 : Nat) "PepperTables$Ask" "shy" "I") ∈ lw_all := lw_g (lw_at lw_m1 86 rfl) rfl
theorem q223 : (Jvm.Cond.fieldLink "PepperTables$Table" (87 : Nat) "PepperTables$Ask" "guests" "I") ∈ lw_all := lw_g (lw_at lw_m1 88 rfl) rfl
theorem q225 : (Jvm.Cond.fieldLink "PepperTables$Table" (92 : Nat) "PepperTables$Ask" "ground" "I") ∈ lw_all := lw_g (lw_at lw_m1 90 rfl) rfl
theorem q227 : (Jvm.Cond.fieldLink "PepperTables$Table" (97 : Nat) "PepperTables$Ask" "heat" "I") ∈ lw_all := lw_g (lw_at lw_m1 92 rfl) rfl
theorem q229 : (Jvm.Cond.fieldLink "PepperTables$Table" (99 : Nat) "PepperTables$Ask" "course" "I") ∈ lw_all := lw_g (lw_at lw_m1 94 rfl) rfl
theorem q248 : (Jvm.Cond.fieldLink "PepperTables$Table" (130 : Nat) "PepperTables$Book" "sacks" "Ljava/util/ArrayList;") ∈ lw_all := lw_g (lw_at lw_m1 113 rfl) rfl
theorem q251 : (Jvm.Cond.fieldLink "PepperTables$Table" (22 : Nat) "PepperTables$Book" "things" "Ljava/util/ArrayList;") ∈ lw_all := lw_g (lw_at lw_m1 116 rfl) rfl
theorem q255 : (Jvm.Cond.fieldLink "PepperTables$Table" (78 : Nat) "PepperTables$Book" "ask" "LPepperTables$Ask;") ∈ lw_all := lw_g (lw_at lw_m1 120 rfl) rfl
theorem q256 : (Jvm.Cond.fieldLink "PepperTables$Table" (112 : Nat) "PepperTables$Book" "said" "LPepperTables$Node;") ∈ lw_all := lw_g (lw_at lw_m1 121 rfl) rfl
theorem q258 : (Jvm.Cond.fieldLink "PepperTables$Table" (136 : Nat) "PepperTables$Book" "sneeze" "I") ∈ lw_all := lw_g (lw_at lw_m1 123 rfl) rfl
theorem q261 : (Jvm.Cond.fieldLink "PepperTables$Table" (51 : Nat) "PepperTables$Book" "seed" "I") ∈ lw_all := lw_g (lw_at lw_m1 126 rfl) rfl
theorem q283 : (Jvm.Cond.instantiable "PepperTables$Table" (7 : Nat)) ∈ lw_all := lw_g (lw_at lw_m1 148 rfl) rfl
theorem q285 : (Jvm.Cond.instanceMethod ({ cls := "PepperTables$Table", name := "<init>", desc := "()V" } : Jvm.MethodName)) ∈ lw_all := lw_g (lw_at lw_m1 150 rfl) rfl
theorem q286 : (Jvm.Cond.code ({ cls := "PepperTables$Table", name := "<init>", desc := "()V" } : Jvm.MethodName) prog_18_method_1_code (1 : Nat) (Option.none : Option Jvm.ClassFile.FieldType)) ∈ lw_all := lw_g (lw_at lw_m1 151 rfl) rfl
theorem q287 : (Jvm.Cond.methodLink "PepperTables$Table" (3 : Nat) ({ cls := "java/lang/Object", name := "<init>", desc := "()V" } : Jvm.MethodName)) ∈ lw_all := lw_g (lw_at lw_m1 152 rfl) rfl
theorem q288 : (Jvm.Cond.fieldLink "PepperTables$Table" (9 : Nat) "PepperTables$Table" "in" "[I") ∈ lw_all := lw_g (lw_at lw_m1 153 rfl) rfl
theorem q290 : (Jvm.Cond.fieldLink "PepperTables$Table" (15 : Nat) "PepperTables$Table" "ground" "[I") ∈ lw_all := lw_g (lw_at lw_m1 155 rfl) rfl
theorem q292 : (Jvm.Cond.fieldLink "PepperTables$Table" (18 : Nat) "PepperTables$Table" "shy" "I") ∈ lw_all := lw_g (lw_at lw_m1 157 rfl) rfl
theorem q294 : (Jvm.Cond.fieldLink "PepperTables$Table" (42 : Nat) "PepperTables$Table" "sits" "I") ∈ lw_all := lw_g (lw_at lw_m1 159 rfl) rfl
theorem q296 : (Jvm.Cond.fieldLink "PepperTables$Table" (45 : Nat) "PepperTables$Table" "said" "I") ∈ lw_all := lw_g (lw_at lw_m1 161 rfl) rfl
theorem q298 : (Jvm.Cond.fieldLink "PepperTables$Table" (48 : Nat) "PepperTables$Table" "course" "I") ∈ lw_all := lw_g (lw_at lw_m1 163 rfl) rfl
theorem q300 : (Jvm.Cond.fieldLink "PepperTables$Table" (54 : Nat) "PepperTables$Table" "seed" "I") ∈ lw_all := lw_g (lw_at lw_m1 165 rfl) rfl
theorem q302 : (Jvm.Cond.laysFinal "PepperTables$Table" "PepperTables$Table" "in" "[I") ∈ lw_all := lw_g (lw_at lw_m1 167 rfl) rfl
theorem q303 : (Jvm.Cond.soleField "PepperTables$Table" "in") ∈ lw_all := lw_g (lw_at lw_m1 168 rfl) rfl
theorem q304 : (Jvm.Cond.laysFinal "PepperTables$Table" "PepperTables$Table" "ground" "[I") ∈ lw_all := lw_g (lw_at lw_m1 169 rfl) rfl
theorem q305 : (Jvm.Cond.soleField "PepperTables$Table" "ground") ∈ lw_all := lw_g (lw_at lw_m1 170 rfl) rfl
theorem q306 : (Jvm.Cond.lays "PepperTables$Table" "PepperTables$Table" "shy" "I") ∈ lw_all := lw_g (lw_at lw_m1 171 rfl) rfl
theorem q307 : (Jvm.Cond.soleField "PepperTables$Table" "shy") ∈ lw_all := lw_g (lw_at lw_m1 172 rfl) rfl
theorem q308 : (Jvm.Cond.lays "PepperTables$Table" "PepperTables$Table" "sits" "I") ∈ lw_all := lw_g (lw_at lw_m1 173 rfl) rfl
theorem q309 : (Jvm.Cond.soleField "PepperTables$Table" "sits") ∈ lw_all := lw_g (lw_at lw_m1 174 rfl) rfl
theorem q310 : (Jvm.Cond.lays "PepperTables$Table" "PepperTables$Table" "said" "I") ∈ lw_all := lw_g (lw_at lw_m1 175 rfl) rfl
theorem q311 : (Jvm.Cond.soleField "PepperTables$Table" "said") ∈ lw_all := lw_g (lw_at lw_m1 176 rfl) rfl
theorem q312 : (Jvm.Cond.lays "PepperTables$Table" "PepperTables$Table" "course" "I") ∈ lw_all := lw_g (lw_at lw_m1 177 rfl) rfl
theorem q313 : (Jvm.Cond.soleField "PepperTables$Table" "course") ∈ lw_all := lw_g (lw_at lw_m1 178 rfl) rfl
theorem q314 : (Jvm.Cond.lays "PepperTables$Table" "PepperTables$Table" "seed" "I") ∈ lw_all := lw_g (lw_at lw_m1 179 rfl) rfl
theorem q315 : (Jvm.Cond.soleField "PepperTables$Table" "seed") ∈ lw_all := lw_g (lw_at lw_m1 180 rfl) rfl
theorem q316 : (Jvm.Cond.superclass "PepperTables$Table" "java/lang/Object") ∈ lw_all := lw_g (lw_at lw_m1 181 rfl) rfl
theorem q319 : (Jvm.Cond.instanceMethod ({ cls := "PepperTables$Table", name := "begin", desc := "(LPepperTables$Book;)LPepperTables$Table;" } : Jvm.MethodName)) ∈ lw_all := lw_g (lw_at lw_m1 184 rfl) rfl
theorem q320 : (Jvm.Cond.selects "PepperTables$Table" ({ cls := "PepperTables$Table", name := "begin", desc := "(LPepperTables$Book;)LPepperTables$Table;" } : Jvm.MethodName) ({ cls := "PepperTables$Table", name := "begin", desc := "(LPepperTables$Book;)LPepperTables$Table;" } : Jvm.MethodName)) ∈ lw_all := lw_g (lw_at lw_m1 185 rfl) rfl
theorem q321 : (Jvm.Cond.code ({ cls := "PepperTables$Table", name := "begin", desc := "(LPepperTables$Book;)LPepperTables$Table;" } : Jvm.MethodName) prog_18_method_2_code (3 : Nat) (Option.some (Jvm.ClassFile.FieldType.object "PepperTables$Table"))) ∈ lw_all := lw_g (lw_at lw_m1 186 rfl) rfl
theorem q322 : (Jvm.Cond.methodLink "PepperTables$Table" (28 : Nat) ({ cls := "java/util/ArrayList", name := "size", desc := "()I" } : Jvm.MethodName)) ∈ lw_all := lw_g (lw_at lw_m1 187 rfl) rfl
theorem q326 : (Jvm.Cond.methodLink "PepperTables$Table" (34 : Nat) ({ cls := "java/util/ArrayList", name := "get", desc := "(I)Ljava/lang/Object;" } : Jvm.MethodName)) ∈ lw_all := lw_g (lw_at lw_m1 191 rfl) rfl
theorem q340 : (Jvm.Cond.classLink "PepperTables$Table" (38 : Nat) "PepperTables$Thing") ∈ lw_all := lw_g (lw_at lw_m1 205 rfl) rfl
theorem q943 : (Jvm.Cond.selects "PepperTables$Table" ({ cls := "java/lang/Object", name := "getClass", desc := "()Ljava/lang/Class;" } : Jvm.MethodName) ({ cls := "java/lang/Object", name := "getClass", desc := "()Ljava/lang/Class;" } : Jvm.MethodName)) ∈ lw_all := lw_g (lw_at lw_m4 88 rfl) rfl
theorem q981 : (Jvm.Cond.fieldLink "PepperTables$Table" (40 : Nat) "PepperTables$Thing" "in" "I") ∈ lw_all := lw_g (lw_at lw_m4 126 rfl) rfl
theorem q1118 : (Jvm.Cond.instanceMethod ({ cls := "PepperTables$Table", name := "sits", desc := "(I)Z" } : Jvm.MethodName)) ∈ lw_all := lw_g (lw_at lw_m5 23 rfl) rfl
theorem q1119 : (Jvm.Cond.selects "PepperTables$Table" ({ cls := "PepperTables$Table", name := "sits", desc := "(I)Z" } : Jvm.MethodName) ({ cls := "PepperTables$Table", name := "sits", desc := "(I)Z" } : Jvm.MethodName)) ∈ lw_all := lw_g (lw_at lw_m5 24 rfl) rfl
theorem q1120 : (Jvm.Cond.code ({ cls := "PepperTables$Table", name := "sits", desc := "(I)Z" } : Jvm.MethodName) prog_18_method_5_code (2 : Nat) (Option.some Jvm.ClassFile.FieldType.boolean)) ∈ lw_all := lw_g (lw_at lw_m5 25 rfl) rfl
theorem q1163 : (Jvm.Cond.instanceMethod ({ cls := "PepperTables$Table", name := "isSaid", desc := "(I)Z" } : Jvm.MethodName)) ∈ lw_all := lw_g (lw_at lw_m5 68 rfl) rfl
theorem q1164 : (Jvm.Cond.selects "PepperTables$Table" ({ cls := "PepperTables$Table", name := "isSaid", desc := "(I)Z" } : Jvm.MethodName) ({ cls := "PepperTables$Table", name := "isSaid", desc := "(I)Z" } : Jvm.MethodName)) ∈ lw_all := lw_g (lw_at lw_m5 69 rfl) rfl
theorem q1165 : (Jvm.Cond.code ({ cls := "PepperTables$Table", name := "isSaid", desc := "(I)Z" } : Jvm.MethodName) prog_18_method_6_code (2 : Nat) (Option.some Jvm.ClassFile.FieldType.boolean)) ∈ lw_all := lw_g (lw_at lw_m5 70 rfl) rfl
theorem q1183 : (Jvm.Cond.instanceMethod ({ cls := "PepperTables$Table", name := "inside", desc := "(LPepperTables$Book;I)I" } : Jvm.MethodName)) ∈ lw_all := lw_g (lw_at lw_m5 88 rfl) rfl
theorem q1184 : (Jvm.Cond.selects "PepperTables$Table" ({ cls := "PepperTables$Table", name := "inside", desc := "(LPepperTables$Book;I)I" } : Jvm.MethodName) ({ cls := "PepperTables$Table", name := "inside", desc := "(LPepperTables$Book;I)I" } : Jvm.MethodName)) ∈ lw_all := lw_g (lw_at lw_m5 89 rfl) rfl
theorem q1185 : (Jvm.Cond.code ({ cls := "PepperTables$Table", name := "inside", desc := "(LPepperTables$Book;I)I" } : Jvm.MethodName) prog_18_method_7_code (5 : Nat) (Option.some Jvm.ClassFile.FieldType.int)) ∈ lw_all := lw_g (lw_at lw_m5 90 rfl) rfl
theorem q1186 : (Jvm.Cond.methodLink "PepperTables$Table" (61 : Nat) ({ cls := "PepperTables$Table", name := "isSaid", desc := "(I)Z" } : Jvm.MethodName)) ∈ lw_all := lw_g (lw_at lw_m5 91 rfl) rfl
theorem q1197 : (Jvm.Cond.instanceMethod ({ cls := "PepperTables$Table", name := "out", desc := "(LPepperTables$Book;I)I" } : Jvm.MethodName)) ∈ lw_all := lw_g (lw_at lw_m5 102 rfl) rfl
theorem q1198 : (Jvm.Cond.selects "PepperTables$Table" ({ cls := "PepperTables$Table", name := "out", desc := "(LPepperTables$Book;I)I" } : Jvm.MethodName) ({ cls := "PepperTables$Table", name := "out", desc := "(LPepperTables$Book;I)I" } : Jvm.MethodName)) ∈ lw_all := lw_g (lw_at lw_m5 103 rfl) rfl
theorem q1199 : (Jvm.Cond.code ({ cls := "PepperTables$Table", name := "out", desc := "(LPepperTables$Book;I)I" } : Jvm.MethodName) prog_18_method_9_code (7 : Nat) (Option.some Jvm.ClassFile.FieldType.int)) ∈ lw_all := lw_g (lw_at lw_m5 104 rfl) rfl
theorem q1200 : (Jvm.Cond.methodLink "PepperTables$Table" (74 : Nat) ({ cls := "PepperTables$Table", name := "inside", desc := "(LPepperTables$Book;I)I" } : Jvm.MethodName)) ∈ lw_all := lw_g (lw_at lw_m5 105 rfl) rfl
theorem q1201 : (Jvm.Cond.methodLink "PepperTables$Table" (82 : Nat) ({ cls := "java/lang/Integer", name := "bitCount", desc := "(I)I" } : Jvm.MethodName)) ∈ lw_all := lw_g (lw_at lw_m5 106 rfl) rfl
theorem q1207 : (Jvm.Cond.methodLink "PepperTables$Table" (94 : Nat) ({ cls := "PepperTables$Book", name := "heat", desc := "(I)I" } : Jvm.MethodName)) ∈ lw_all := lw_g (lw_at lw_m5 112 rfl) rfl
theorem q1208 : (Jvm.Cond.methodLink "PepperTables$Table" (100 : Nat) ({ cls := "PepperTables$Table", name := "areNear", desc := "(LPepperTables$Book;I)Z" } : Jvm.MethodName)) ∈ lw_all := lw_g (lw_at lw_m5 113 rfl) rfl
theorem q1209 : (Jvm.Cond.instanceMethod ({ cls := "PepperTables$Table", name := "areNear", desc := "(LPepperTables$Book;I)Z" } : Jvm.MethodName)) ∈ lw_all := lw_g (lw_at lw_m5 114 rfl) rfl
theorem q1210 : (Jvm.Cond.selects "PepperTables$Table" ({ cls := "PepperTables$Table", name := "areNear", desc := "(LPepperTables$Book;I)Z" } : Jvm.MethodName) ({ cls := "PepperTables$Table", name := "areNear", desc := "(LPepperTables$Book;I)Z" } : Jvm.MethodName)) ∈ lw_all := lw_g (lw_at lw_m5 115 rfl) rfl
theorem q1211 : (Jvm.Cond.code ({ cls := "PepperTables$Table", name := "areNear", desc := "(LPepperTables$Book;I)Z" } : Jvm.MethodName) prog_18_method_8_code (3 : Nat) (Option.some Jvm.ClassFile.FieldType.boolean)) ∈ lw_all := lw_g (lw_at lw_m5 116 rfl) rfl
theorem q1212 : (Jvm.Cond.methodLink "PepperTables$Table" (65 : Nat) ({ cls := "PepperTables$Book", name := "by", desc := "(I)I" } : Jvm.MethodName)) ∈ lw_all := lw_g (lw_at lw_m5 117 rfl) rfl
theorem q1213 : (Jvm.Cond.methodLink "PepperTables$Table" (69 : Nat) ({ cls := "PepperTables$Table", name := "sits", desc := "(I)Z" } : Jvm.MethodName)) ∈ lw_all := lw_g (lw_at lw_m5 118 rfl) rfl
theorem q1214 : (Jvm.Cond.methodLink "PepperTables$Table" (71 : Nat) ({ cls := "PepperTables$Book", name := "to", desc := "(I)I" } : Jvm.MethodName)) ∈ lw_all := lw_g (lw_at lw_m5 119 rfl) rfl
theorem q1215 : (Jvm.Cond.methodLink "PepperTables$Table" (104 : Nat) ({ cls := "PepperTables$Book", name := "hot", desc := "(I)I" } : Jvm.MethodName)) ∈ lw_all := lw_g (lw_at lw_m5 120 rfl) rfl
theorem q1216 : (Jvm.Cond.methodLink "PepperTables$Table" (109 : Nat) ({ cls := "PepperTables$Book", name := "shy", desc := "(I)I" } : Jvm.MethodName)) ∈ lw_all := lw_g (lw_at lw_m5 121 rfl) rfl
theorem q1221 : (Jvm.Cond.interfaceEntry "PepperTables$Table" (115 : Nat)) ∈ lw_tbl := lw_at lw_m5 126 rfl
theorem q1222 : (Jvm.Cond.methodLink "PepperTables$Table" (115 : Nat) ({ cls := "PepperTables$Node", name := "of", desc := "(LPepperTables$Ask;)I" } : Jvm.MethodName)) ∈ lw_all := lw_g (lw_at lw_m5 127 rfl) rfl
theorem q1297 : (Jvm.Cond.instanceMethod ({ cls := "PepperTables$Table", name := "copy", desc := "(LPepperTables$Table;)LPepperTables$Table;" } : Jvm.MethodName)) ∈ lw_all := lw_g (lw_at lw_m5 202 rfl) rfl
theorem q1298 : (Jvm.Cond.selects "PepperTables$Table" ({ cls := "PepperTables$Table", name := "copy", desc := "(LPepperTables$Table;)LPepperTables$Table;" } : Jvm.MethodName) ({ cls := "PepperTables$Table", name := "copy", desc := "(LPepperTables$Table;)LPepperTables$Table;" } : Jvm.MethodName)) ∈ lw_all := lw_g (lw_at lw_m5 203 rfl) rfl
theorem q1299 : (Jvm.Cond.code ({ cls := "PepperTables$Table", name := "copy", desc := "(LPepperTables$Table;)LPepperTables$Table;" } : Jvm.MethodName) prog_18_method_3_code (2 : Nat) (Option.some (Jvm.ClassFile.FieldType.object "PepperTables$Table"))) ∈ lw_all := lw_g (lw_at lw_m5 204 rfl) rfl
theorem q1300 : (Jvm.Cond.methodLink "PepperTables$Table" (55 : Nat) ({ cls := "java/lang/System", name := "arraycopy", desc := "(Ljava/lang/Object;ILjava/lang/Object;II)V" } : Jvm.MethodName)) ∈ lw_all := lw_g (lw_at lw_m5 205 rfl) rfl
theorem q1311 : (Jvm.Cond.instanceMethod ({ cls := "PepperTables$Table", name := "grind", desc := "(LPepperTables$Book;I)I" } : Jvm.MethodName)) ∈ lw_all := lw_g (lw_at lw_m5 216 rfl) rfl
theorem q1312 : (Jvm.Cond.selects "PepperTables$Table" ({ cls := "PepperTables$Table", name := "grind", desc := "(LPepperTables$Book;I)I" } : Jvm.MethodName) ({ cls := "PepperTables$Table", name := "grind", desc := "(LPepperTables$Book;I)I" } : Jvm.MethodName)) ∈ lw_all := lw_g (lw_at lw_m5 217 rfl) rfl
theorem q1313 : (Jvm.Cond.code ({ cls := "PepperTables$Table", name := "grind", desc := "(LPepperTables$Book;I)I" } : Jvm.MethodName) prog_18_method_10_code (4 : Nat) (Option.some Jvm.ClassFile.FieldType.int)) ∈ lw_all := lw_g (lw_at lw_m5 218 rfl) rfl
theorem q1314 : (Jvm.Cond.methodLink "PepperTables$Table" (121 : Nat) ({ cls := "PepperTables$Table", name := "out", desc := "(LPepperTables$Book;I)I" } : Jvm.MethodName)) ∈ lw_all := lw_g (lw_at lw_m5 219 rfl) rfl
theorem q1315 : (Jvm.Cond.methodLink "PepperTables$Table" (124 : Nat) ({ cls := "java/lang/Math", name := "min", desc := "(II)I" } : Jvm.MethodName)) ∈ lw_all := lw_g (lw_at lw_m5 220 rfl) rfl
theorem q1325 : (Jvm.Cond.instanceMethod ({ cls := "PepperTables$Table", name := "draw", desc := "(LPepperTables$Book;)Z" } : Jvm.MethodName)) ∈ lw_all := lw_g (lw_at lw_m5 230 rfl) rfl
theorem q1326 : (Jvm.Cond.selects "PepperTables$Table" ({ cls := "PepperTables$Table", name := "draw", desc := "(LPepperTables$Book;)Z" } : Jvm.MethodName) ({ cls := "PepperTables$Table", name := "draw", desc := "(LPepperTables$Book;)Z" } : Jvm.MethodName)) ∈ lw_all := lw_g (lw_at lw_m5 231 rfl) rfl
theorem q1327 : (Jvm.Cond.code ({ cls := "PepperTables$Table", name := "draw", desc := "(LPepperTables$Book;)Z" } : Jvm.MethodName) prog_18_method_13_code (2 : Nat) (Option.some Jvm.ClassFile.FieldType.boolean)) ∈ lw_all := lw_g (lw_at lw_m5 232 rfl) rfl
theorem q1329 : (Jvm.Cond.instanceMethod ({ cls := "PepperTables$Table", name := "next", desc := "(LPepperTables$Book;)I" } : Jvm.MethodName)) ∈ lw_all := lw_g (lw_at lw_m5 234 rfl) rfl
theorem q1330 : (Jvm.Cond.selects "PepperTables$Table" ({ cls := "PepperTables$Table", name := "next", desc := "(LPepperTables$Book;)I" } : Jvm.MethodName) ({ cls := "PepperTables$Table", name := "next", desc := "(LPepperTables$Book;)I" } : Jvm.MethodName)) ∈ lw_all := lw_g (lw_at lw_m5 235 rfl) rfl
theorem q1331 : (Jvm.Cond.code ({ cls := "PepperTables$Table", name := "next", desc := "(LPepperTables$Book;)I" } : Jvm.MethodName) prog_18_method_12_code (4 : Nat) (Option.some Jvm.ClassFile.FieldType.int)) ∈ lw_all := lw_g (lw_at lw_m5 236 rfl) rfl
theorem q1360 : (Jvm.Cond.instanceMethod ({ cls := "PepperTables$Table", name := "seat", desc := "(I)LPepperTables$Table;" } : Jvm.MethodName)) ∈ lw_all := lw_g (lw_at lw_m6 25 rfl) rfl
theorem q1361 : (Jvm.Cond.selects "PepperTables$Table" ({ cls := "PepperTables$Table", name := "seat", desc := "(I)LPepperTables$Table;" } : Jvm.MethodName) ({ cls := "PepperTables$Table", name := "seat", desc := "(I)LPepperTables$Table;" } : Jvm.MethodName)) ∈ lw_all := lw_g (lw_at lw_m6 26 rfl) rfl
theorem q1362 : (Jvm.Cond.code ({ cls := "PepperTables$Table", name := "seat", desc := "(I)LPepperTables$Table;" } : Jvm.MethodName) prog_18_method_4_code (2 : Nat) (Option.some (Jvm.ClassFile.FieldType.object "PepperTables$Table"))) ∈ lw_all := lw_g (lw_at lw_m6 27 rfl) rfl
theorem q1396 : (Jvm.Cond.instanceMethod ({ cls := "PepperTables$Table", name := "grindSome", desc := "(LPepperTables$Book;I)I" } : Jvm.MethodName)) ∈ lw_all := lw_g (lw_at lw_m6 61 rfl) rfl
theorem q1397 : (Jvm.Cond.selects "PepperTables$Table" ({ cls := "PepperTables$Table", name := "grindSome", desc := "(LPepperTables$Book;I)I" } : Jvm.MethodName) ({ cls := "PepperTables$Table", name := "grindSome", desc := "(LPepperTables$Book;I)I" } : Jvm.MethodName)) ∈ lw_all := lw_g (lw_at lw_m6 62 rfl) rfl
theorem q1398 : (Jvm.Cond.code ({ cls := "PepperTables$Table", name := "grindSome", desc := "(LPepperTables$Book;I)I" } : Jvm.MethodName) prog_18_method_11_code (5 : Nat) (Option.some Jvm.ClassFile.FieldType.int)) ∈ lw_all := lw_g (lw_at lw_m6 63 rfl) rfl
theorem q1399 : (Jvm.Cond.methodLink "PepperTables$Table" (133 : Nat) ({ cls := "PepperTables$Table", name := "grind", desc := "(LPepperTables$Book;I)I" } : Jvm.MethodName)) ∈ lw_all := lw_g (lw_at lw_m6 64 rfl) rfl
theorem q2412 : (Jvm.Cond.castable "PepperTables$Table" "java/lang/Object") ∈ lw_tbl := lw_at lw_m10 117 rfl
theorem in_X3 : ∀ w ∈ wsX30, w ∈ lw_all := lw_in wsX30 [302, 304, 306, 308, 310, 312, 314] (by decide +kernel) (by decide +kernel)

/-! PepperTables$Named -/
set_option maxRecDepth 100000
def RX6 : String := "PepperTables$Named"
def TX6 : u_T := fun k => match k with
  | _ => ("PepperTables$Named", "name", "Ljava/lang/String;", true)
def tyX6 : Nat → FieldType := fun k => match k with
  | _ => .object "java/lang/String"
abbrev wsX60 : List Cond := u_ws RX6 TX6 1
theorem nmX6 : ∀ a, a < 1 → ∀ b, b < 1 → a ≠ b → (TX6 a).2.1 ≠ (TX6 b).2.1 := by decide +kernel
theorem tyX6_ok : ∀ k, k < 1 → parseFieldDescriptor (TX6 k).2.2.1 = some (tyX6 k) := by decide +kernel
abbrev cX6_init : ByteArray := prog_11_method_1_code
def yX6_init : MethodName := ⟨RX6, "<init>", "(Ljava/lang/String;)V"⟩
def dkwX6_init_0 : List UInt8 := [42, 183, 0, 1, 42, 43, 181, 0, 7, 177]
abbrev dktX6_init_0 : List UInt8 := dkwX6_init_0 ++ []
theorem dksX6_init_0 : cX6_init.data.toList.drop 0 = dktX6_init_0 := by decide +kernel
theorem dX6_init_0 : decode cX6_init 0 = .ok (.aload_n 0, 1) := dk_42 (dk_at dksX6_init_0 0 rfl rfl)
theorem dX6_init_1 : decode cX6_init 1 = .ok (.invokespecial 1, 3) := dk_183 0 1 (dk_at dksX6_init_0 1 rfl rfl)
theorem dX6_init_4 : decode cX6_init 4 = .ok (.aload_n 0, 1) := dk_42 (dk_at dksX6_init_0 4 rfl rfl)
theorem dX6_init_5 : decode cX6_init 5 = .ok (.aload_n 1, 1) := dk_43 (dk_at dksX6_init_0 5 rfl rfl)
theorem dX6_init_6 : decode cX6_init 6 = .ok (.putfield 7, 3) := dk_181 0 7 (dk_at dksX6_init_0 6 rfl rfl)
theorem dX6_init_9 : decode cX6_init 9 = .ok (.return_, 1) := dk_177 (dk_at dksX6_init_0 9 rfl rfl)
theorem q156 : (Jvm.Cond.initialized "PepperTables$Named") ∈ lw_all := lw_g (lw_at lw_m1 21 rfl) rfl
theorem q874 : (Jvm.Cond.instanceMethod ({ cls := "PepperTables$Named", name := "<init>", desc := "(Ljava/lang/String;)V" } : Jvm.MethodName)) ∈ lw_all := lw_g (lw_at lw_m4 19 rfl) rfl
theorem q875 : (Jvm.Cond.code ({ cls := "PepperTables$Named", name := "<init>", desc := "(Ljava/lang/String;)V" } : Jvm.MethodName) prog_11_method_1_code (2 : Nat) (Option.none : Option Jvm.ClassFile.FieldType)) ∈ lw_all := lw_g (lw_at lw_m4 20 rfl) rfl
theorem q876 : (Jvm.Cond.methodLink "PepperTables$Named" (1 : Nat) ({ cls := "java/lang/Object", name := "<init>", desc := "()V" } : Jvm.MethodName)) ∈ lw_all := lw_g (lw_at lw_m4 21 rfl) rfl
theorem q880 : (Jvm.Cond.fieldLink "PepperTables$Named" (7 : Nat) "PepperTables$Named" "name" "Ljava/lang/String;") ∈ lw_all := lw_g (lw_at lw_m4 25 rfl) rfl
theorem q885 : (Jvm.Cond.soleField "PepperTables$Named" "name") ∈ lw_all := lw_g (lw_at lw_m4 30 rfl) rfl
theorem q937 : (Jvm.Cond.selects "PepperTables$Named" ({ cls := "java/lang/Object", name := "getClass", desc := "()Ljava/lang/Class;" } : Jvm.MethodName) ({ cls := "java/lang/Object", name := "getClass", desc := "()Ljava/lang/Class;" } : Jvm.MethodName)) ∈ lw_all := lw_g (lw_at lw_m4 82 rfl) rfl
theorem q960 : (Jvm.Cond.instantiable "PepperTables$Named" (1 : Nat)) ∈ lw_all := lw_g (lw_at lw_m4 105 rfl) rfl
theorem q962 : (Jvm.Cond.laysFinal "PepperTables$Named" "PepperTables$Named" "name" "Ljava/lang/String;") ∈ lw_all := lw_g (lw_at lw_m4 107 rfl) rfl
theorem q963 : (Jvm.Cond.superclass "PepperTables$Named" "java/lang/Object") ∈ lw_all := lw_g (lw_at lw_m4 108 rfl) rfl
theorem q2424 : (Jvm.Cond.castable "PepperTables$Named" "java/lang/Object") ∈ lw_tbl := lw_at lw_m10 129 rfl
theorem in_X6 : ∀ w ∈ wsX60, w ∈ lw_all := lw_in wsX60 [962] (by decide +kernel) (by decide +kernel)

/-! PepperTables$Person -/
set_option maxRecDepth 100000
def RX7 : String := "PepperTables$Person"
def TX7 : u_T := fun k => match k with
  | 0 => ("PepperTables$Named", "name", "Ljava/lang/String;", true)
  | _ => ("PepperTables$Person", "shy", "I", false)
def tyX7 : Nat → FieldType := fun k => match k with
  | 0 => .object "java/lang/String"
  | _ => .int
abbrev wsX70 : List Cond := u_ws RX7 TX7 2
theorem nmX7 : ∀ a, a < 2 → ∀ b, b < 2 → a ≠ b → (TX7 a).2.1 ≠ (TX7 b).2.1 := by decide +kernel
theorem tyX7_ok : ∀ k, k < 2 → parseFieldDescriptor (TX7 k).2.2.1 = some (tyX7 k) := by decide +kernel
abbrev cX7_init : ByteArray := prog_16_method_1_code
def yX7_init : MethodName := ⟨RX7, "<init>", "(Ljava/lang/String;)V"⟩
def dkwX7_init_0 : List UInt8 := [42, 43, 183, 0, 1, 177]
abbrev dktX7_init_0 : List UInt8 := dkwX7_init_0 ++ []
theorem dksX7_init_0 : cX7_init.data.toList.drop 0 = dktX7_init_0 := by decide +kernel
theorem dX7_init_0 : decode cX7_init 0 = .ok (.aload_n 0, 1) := dk_42 (dk_at dksX7_init_0 0 rfl rfl)
theorem dX7_init_1 : decode cX7_init 1 = .ok (.aload_n 1, 1) := dk_43 (dk_at dksX7_init_0 1 rfl rfl)
theorem dX7_init_2 : decode cX7_init 2 = .ok (.invokespecial 1, 3) := dk_183 0 1 (dk_at dksX7_init_0 2 rfl rfl)
theorem dX7_init_5 : decode cX7_init 5 = .ok (.return_, 1) := dk_177 (dk_at dksX7_init_0 5 rfl rfl)
theorem q157 : (Jvm.Cond.initialized "PepperTables$Person") ∈ lw_all := lw_g (lw_at lw_m1 22 rfl) rfl
theorem q713 : (Jvm.Cond.instantiable "PepperTables$Person" (2 : Nat)) ∈ lw_all := lw_g (lw_at lw_m3 98 rfl) rfl
theorem q871 : (Jvm.Cond.instanceMethod ({ cls := "PepperTables$Person", name := "<init>", desc := "(Ljava/lang/String;)V" } : Jvm.MethodName)) ∈ lw_all := lw_g (lw_at lw_m4 16 rfl) rfl
theorem q872 : (Jvm.Cond.code ({ cls := "PepperTables$Person", name := "<init>", desc := "(Ljava/lang/String;)V" } : Jvm.MethodName) prog_16_method_1_code (2 : Nat) (Option.none : Option Jvm.ClassFile.FieldType)) ∈ lw_all := lw_g (lw_at lw_m4 17 rfl) rfl
theorem q873 : (Jvm.Cond.methodLink "PepperTables$Person" (1 : Nat) ({ cls := "PepperTables$Named", name := "<init>", desc := "(Ljava/lang/String;)V" } : Jvm.MethodName)) ∈ lw_all := lw_g (lw_at lw_m4 18 rfl) rfl
theorem q882 : (Jvm.Cond.lays "PepperTables$Person" "PepperTables$Person" "shy" "I") ∈ lw_all := lw_g (lw_at lw_m4 27 rfl) rfl
theorem q883 : (Jvm.Cond.soleField "PepperTables$Person" "shy") ∈ lw_all := lw_g (lw_at lw_m4 28 rfl) rfl
theorem q884 : (Jvm.Cond.laysFinal "PepperTables$Person" "PepperTables$Named" "name" "Ljava/lang/String;") ∈ lw_all := lw_g (lw_at lw_m4 29 rfl) rfl
theorem q886 : (Jvm.Cond.superclass "PepperTables$Person" "PepperTables$Named") ∈ lw_all := lw_g (lw_at lw_m4 31 rfl) rfl
theorem q941 : (Jvm.Cond.selects "PepperTables$Person" ({ cls := "java/lang/Object", name := "getClass", desc := "()Ljava/lang/Class;" } : Jvm.MethodName) ({ cls := "java/lang/Object", name := "getClass", desc := "()Ljava/lang/Class;" } : Jvm.MethodName)) ∈ lw_all := lw_g (lw_at lw_m4 86 rfl) rfl
theorem q2410 : (Jvm.Cond.castable "PepperTables$Person" "PepperTables$Named") ∈ lw_tbl := lw_at lw_m10 115 rfl
theorem q2421 : (Jvm.Cond.castable "PepperTables$Person" "java/lang/Object") ∈ lw_tbl := lw_at lw_m10 126 rfl
theorem in_X7 : ∀ w ∈ wsX70, w ∈ lw_all := lw_in wsX70 [884, 882] (by decide +kernel) (by decide +kernel)

/-! PepperTables$Wrong -/
set_option maxRecDepth 100000
def RX8 : String := "PepperTables$Wrong"
def TX8 : u_T := fun k => match k with
  | 0 => ("java/lang/Throwable", "cause", "Ljava/lang/Throwable;", false)
  | 1 => ("java/lang/Throwable", "stackTrace", "[Ljava/lang/StackTraceElement;", false)
  | 2 => ("java/lang/Throwable", "suppressedExceptions", "Ljava/util/List;", false)
  | 3 => ("java/lang/Throwable", "detailMessage", "Ljava/lang/String;", false)
  | 4 => ("java/lang/Throwable", "backtrace", "Ljava/lang/Object;", false)
  | 5 => ("java/lang/Throwable", "depth", "I", false)
  | 6 => ("PepperTables$Wrong", "kind", "I", true)
  | _ => ("PepperTables$Wrong", "place", "I", true)
def tyX8 : Nat → FieldType := fun k => match k with
  | 0 => .object "java/lang/Throwable"
  | 1 => .array (.object "java/lang/StackTraceElement")
  | 2 => .object "java/util/List"
  | 3 => .object "java/lang/String"
  | 4 => .object "java/lang/Object"
  | 5 => .int
  | 6 => .int
  | _ => .int
abbrev wsX80 : List Cond := u_ws RX8 TX8 8
theorem nmX8 : ∀ a, a < 8 → ∀ b, b < 8 → a ≠ b → (TX8 a).2.1 ≠ (TX8 b).2.1 := by decide +kernel
theorem tyX8_ok : ∀ k, k < 8 → parseFieldDescriptor (TX8 k).2.2.1 = some (tyX8 k) := by decide +kernel
abbrev cX8_init : ByteArray := prog_21_method_1_code
def yX8_init : MethodName := ⟨RX8, "<init>", "(II)V"⟩
def dkwX8_init_0 : List UInt8 := [42, 1, 1, 3, 3, 183, 0, 1, 42, 27, 181, 0, 7, 42, 28, 181, 0, 13, 177]
abbrev dktX8_init_0 : List UInt8 := dkwX8_init_0 ++ []
theorem dksX8_init_0 : cX8_init.data.toList.drop 0 = dktX8_init_0 := by decide +kernel
theorem dX8_init_0 : decode cX8_init 0 = .ok (.aload_n 0, 1) := dk_42 (dk_at dksX8_init_0 0 rfl rfl)
theorem dX8_init_1 : decode cX8_init 1 = .ok (.aconst_null, 1) := dk_1 (dk_at dksX8_init_0 1 rfl rfl)
theorem dX8_init_2 : decode cX8_init 2 = .ok (.aconst_null, 1) := dk_1 (dk_at dksX8_init_0 2 rfl rfl)
theorem dX8_init_3 : decode cX8_init 3 = .ok (.iconst 0, 1) := dk_3 (dk_at dksX8_init_0 3 rfl rfl)
theorem dX8_init_4 : decode cX8_init 4 = .ok (.iconst 0, 1) := dk_3 (dk_at dksX8_init_0 4 rfl rfl)
theorem dX8_init_5 : decode cX8_init 5 = .ok (.invokespecial 1, 3) := dk_183 0 1 (dk_at dksX8_init_0 5 rfl rfl)
theorem dX8_init_8 : decode cX8_init 8 = .ok (.aload_n 0, 1) := dk_42 (dk_at dksX8_init_0 8 rfl rfl)
theorem dX8_init_9 : decode cX8_init 9 = .ok (.iload_n 1, 1) := dk_27 (dk_at dksX8_init_0 9 rfl rfl)
theorem dX8_init_10 : decode cX8_init 10 = .ok (.putfield 7, 3) := dk_181 0 7 (dk_at dksX8_init_0 10 rfl rfl)
theorem dX8_init_13 : decode cX8_init 13 = .ok (.aload_n 0, 1) := dk_42 (dk_at dksX8_init_0 13 rfl rfl)
theorem dX8_init_14 : decode cX8_init 14 = .ok (.iload_n 2, 1) := dk_28 (dk_at dksX8_init_0 14 rfl rfl)
theorem dX8_init_15 : decode cX8_init 15 = .ok (.putfield 13, 3) := dk_181 0 13 (dk_at dksX8_init_0 15 rfl rfl)
theorem dX8_init_18 : decode cX8_init 18 = .ok (.return_, 1) := dk_177 (dk_at dksX8_init_0 18 rfl rfl)
theorem q160 : (Jvm.Cond.initialized "PepperTables$Wrong") ∈ lw_all := lw_g (lw_at lw_m1 25 rfl) rfl
theorem q797 : (Jvm.Cond.instantiable "PepperTables$Wrong" (8 : Nat)) ∈ lw_all := lw_g (lw_at lw_m3 182 rfl) rfl
theorem q798 : (Jvm.Cond.castable "PepperTables$Wrong" "PepperTables$Wrong") ∈ lw_tbl := lw_at lw_m3 183 rfl
theorem q803 : (Jvm.Cond.selects "PepperTables$Wrong" ({ cls := "java/lang/Throwable", name := "fillInStackTrace", desc := "(I)Ljava/lang/Throwable;" } : Jvm.MethodName) ({ cls := "java/lang/Throwable", name := "fillInStackTrace", desc := "(I)Ljava/lang/Throwable;" } : Jvm.MethodName)) ∈ lw_all := lw_g (lw_at lw_m3 188 rfl) rfl
theorem q804 : (Jvm.Cond.selects "PepperTables$Wrong" ({ cls := "java/lang/Throwable", name := "fillInStackTrace", desc := "()Ljava/lang/Throwable;" } : Jvm.MethodName) ({ cls := "java/lang/Throwable", name := "fillInStackTrace", desc := "()Ljava/lang/Throwable;" } : Jvm.MethodName)) ∈ lw_all := lw_g (lw_at lw_m3 189 rfl) rfl
theorem q805 : (Jvm.Cond.lays "PepperTables$Wrong" "java/lang/Throwable" "cause" "Ljava/lang/Throwable;") ∈ lw_all := lw_g (lw_at lw_m3 190 rfl) rfl
theorem q807 : (Jvm.Cond.lays "PepperTables$Wrong" "java/lang/Throwable" "stackTrace" "[Ljava/lang/StackTraceElement;") ∈ lw_all := lw_g (lw_at lw_m3 192 rfl) rfl
theorem q809 : (Jvm.Cond.lays "PepperTables$Wrong" "java/lang/Throwable" "suppressedExceptions" "Ljava/util/List;") ∈ lw_all := lw_g (lw_at lw_m3 194 rfl) rfl
theorem q811 : (Jvm.Cond.lays "PepperTables$Wrong" "java/lang/Throwable" "detailMessage" "Ljava/lang/String;") ∈ lw_all := lw_g (lw_at lw_m3 196 rfl) rfl
theorem q813 : (Jvm.Cond.lays "PepperTables$Wrong" "java/lang/Throwable" "backtrace" "Ljava/lang/Object;") ∈ lw_all := lw_g (lw_at lw_m3 198 rfl) rfl
theorem q834 : (Jvm.Cond.instanceMethod ({ cls := "PepperTables$Wrong", name := "<init>", desc := "(II)V" } : Jvm.MethodName)) ∈ lw_all := lw_g (lw_at lw_m3 219 rfl) rfl
theorem q835 : (Jvm.Cond.code ({ cls := "PepperTables$Wrong", name := "<init>", desc := "(II)V" } : Jvm.MethodName) prog_21_method_1_code (3 : Nat) (Option.none : Option Jvm.ClassFile.FieldType)) ∈ lw_all := lw_g (lw_at lw_m3 220 rfl) rfl
theorem q836 : (Jvm.Cond.methodLink "PepperTables$Wrong" (1 : Nat) ({ cls := "java/lang/Exception", name := "<init>", desc := "(Ljava/lang/String;Ljava/lang/Throwable;ZZ)V" } : Jvm.MethodName)) ∈ lw_all := lw_g (lw_at lw_m3 221 rfl) rfl
theorem q842 : (Jvm.Cond.fieldLink "PepperTables$Wrong" (7 : Nat) "PepperTables$Wrong" "kind" "I") ∈ lw_all := lw_g (lw_at lw_m3 227 rfl) rfl
theorem q844 : (Jvm.Cond.fieldLink "PepperTables$Wrong" (13 : Nat) "PepperTables$Wrong" "place" "I") ∈ lw_all := lw_g (lw_at lw_m3 229 rfl) rfl
theorem q851 : (Jvm.Cond.laysFinal "PepperTables$Wrong" "PepperTables$Wrong" "kind" "I") ∈ lw_all := lw_g (lw_at lw_m3 236 rfl) rfl
theorem q852 : (Jvm.Cond.soleField "PepperTables$Wrong" "kind") ∈ lw_all := lw_g (lw_at lw_m3 237 rfl) rfl
theorem q853 : (Jvm.Cond.laysFinal "PepperTables$Wrong" "PepperTables$Wrong" "place" "I") ∈ lw_all := lw_g (lw_at lw_m3 238 rfl) rfl
theorem q854 : (Jvm.Cond.soleField "PepperTables$Wrong" "place") ∈ lw_all := lw_g (lw_at lw_m3 239 rfl) rfl
theorem q859 : (Jvm.Cond.lays "PepperTables$Wrong" "java/lang/Throwable" "depth" "I") ∈ lw_all := lw_g (lw_at lw_m4 4 rfl) rfl
theorem q862 : (Jvm.Cond.superclass "PepperTables$Wrong" "java/lang/Exception") ∈ lw_all := lw_g (lw_at lw_m4 7 rfl) rfl
theorem q946 : (Jvm.Cond.selects "PepperTables$Wrong" ({ cls := "java/lang/Object", name := "getClass", desc := "()Ljava/lang/Class;" } : Jvm.MethodName) ({ cls := "java/lang/Object", name := "getClass", desc := "()Ljava/lang/Class;" } : Jvm.MethodName)) ∈ lw_all := lw_g (lw_at lw_m4 91 rfl) rfl
theorem q2423 : (Jvm.Cond.castable "PepperTables$Wrong" "java/lang/Object") ∈ lw_tbl := lw_at lw_m10 128 rfl
theorem in_X8 : ∀ w ∈ wsX80, w ∈ lw_all := lw_in wsX80 [805, 807, 809, 811, 813, 859, 851, 853] (by decide +kernel) (by decide +kernel)

/-! PepperTables$Thing -/
set_option maxRecDepth 100000
def RX9 : String := "PepperTables$Thing"
def TX9 : u_T := fun k => match k with
  | 0 => ("PepperTables$Named", "name", "Ljava/lang/String;", true)
  | 1 => ("PepperTables$Thing", "by", "I", false)
  | 2 => ("PepperTables$Thing", "to", "I", false)
  | 3 => ("PepperTables$Thing", "hot", "I", false)
  | _ => ("PepperTables$Thing", "in", "I", false)
def tyX9 : Nat → FieldType := fun k => match k with
  | 0 => .object "java/lang/String"
  | 1 => .int
  | 2 => .int
  | 3 => .int
  | _ => .int
abbrev wsX90 : List Cond := u_ws RX9 TX9 5
theorem nmX9 : ∀ a, a < 5 → ∀ b, b < 5 → a ≠ b → (TX9 a).2.1 ≠ (TX9 b).2.1 := by decide +kernel
theorem tyX9_ok : ∀ k, k < 5 → parseFieldDescriptor (TX9 k).2.2.1 = some (tyX9 k) := by decide +kernel
abbrev cX9_init : ByteArray := prog_19_method_1_code
def yX9_init : MethodName := ⟨RX9, "<init>", "(Ljava/lang/String;)V"⟩
def dkwX9_init_0 : List UInt8 := [42, 43, 183, 0, 3, 42, 2, 181, 0, 9, 177]
abbrev dktX9_init_0 : List UInt8 := dkwX9_init_0 ++ []
theorem dksX9_init_0 : cX9_init.data.toList.drop 0 = dktX9_init_0 := by decide +kernel
theorem dX9_init_0 : decode cX9_init 0 = .ok (.aload_n 0, 1) := dk_42 (dk_at dksX9_init_0 0 rfl rfl)
theorem dX9_init_1 : decode cX9_init 1 = .ok (.aload_n 1, 1) := dk_43 (dk_at dksX9_init_0 1 rfl rfl)
theorem dX9_init_2 : decode cX9_init 2 = .ok (.invokespecial 3, 3) := dk_183 0 3 (dk_at dksX9_init_0 2 rfl rfl)
theorem dX9_init_5 : decode cX9_init 5 = .ok (.aload_n 0, 1) := dk_42 (dk_at dksX9_init_0 5 rfl rfl)
theorem dX9_init_6 : decode cX9_init 6 = .ok (.iconst (-1), 1) := dk_2 (dk_at dksX9_init_0 6 rfl rfl)
theorem dX9_init_7 : decode cX9_init 7 = .ok (.putfield 9, 3) := dk_181 0 9 (dk_at dksX9_init_0 7 rfl rfl)
theorem dX9_init_10 : decode cX9_init 10 = .ok (.return_, 1) := dk_177 (dk_at dksX9_init_0 10 rfl rfl)
theorem q161 : (Jvm.Cond.initialized "PepperTables$Thing") ∈ lw_all := lw_g (lw_at lw_m1 26 rfl) rfl
theorem q944 : (Jvm.Cond.selects "PepperTables$Thing" ({ cls := "java/lang/Object", name := "getClass", desc := "()Ljava/lang/Class;" } : Jvm.MethodName) ({ cls := "java/lang/Object", name := "getClass", desc := "()Ljava/lang/Class;" } : Jvm.MethodName)) ∈ lw_all := lw_g (lw_at lw_m4 89 rfl) rfl
theorem q969 : (Jvm.Cond.instantiable "PepperTables$Thing" (5 : Nat)) ∈ lw_all := lw_g (lw_at lw_m4 114 rfl) rfl
theorem q971 : (Jvm.Cond.instanceMethod ({ cls := "PepperTables$Thing", name := "<init>", desc := "(Ljava/lang/String;)V" } : Jvm.MethodName)) ∈ lw_all := lw_g (lw_at lw_m4 116 rfl) rfl
theorem q972 : (Jvm.Cond.code ({ cls := "PepperTables$Thing", name := "<init>", desc := "(Ljava/lang/String;)V" } : Jvm.MethodName) prog_19_method_1_code (2 : Nat) (Option.none : Option Jvm.ClassFile.FieldType)) ∈ lw_all := lw_g (lw_at lw_m4 117 rfl) rfl
theorem q973 : (Jvm.Cond.methodLink "PepperTables$Thing" (3 : Nat) ({ cls := "PepperTables$Named", name := "<init>", desc := "(Ljava/lang/String;)V" } : Jvm.MethodName)) ∈ lw_all := lw_g (lw_at lw_m4 118 rfl) rfl
theorem q980 : (Jvm.Cond.fieldLink "PepperTables$Thing" (9 : Nat) "PepperTables$Thing" "in" "I") ∈ lw_all := lw_g (lw_at lw_m4 125 rfl) rfl
theorem q983 : (Jvm.Cond.lays "PepperTables$Thing" "PepperTables$Thing" "by" "I") ∈ lw_all := lw_g (lw_at lw_m4 128 rfl) rfl
theorem q984 : (Jvm.Cond.soleField "PepperTables$Thing" "by") ∈ lw_all := lw_g (lw_at lw_m4 129 rfl) rfl
theorem q985 : (Jvm.Cond.lays "PepperTables$Thing" "PepperTables$Thing" "to" "I") ∈ lw_all := lw_g (lw_at lw_m4 130 rfl) rfl
theorem q986 : (Jvm.Cond.soleField "PepperTables$Thing" "to") ∈ lw_all := lw_g (lw_at lw_m4 131 rfl) rfl
theorem q987 : (Jvm.Cond.lays "PepperTables$Thing" "PepperTables$Thing" "hot" "I") ∈ lw_all := lw_g (lw_at lw_m4 132 rfl) rfl
theorem q988 : (Jvm.Cond.soleField "PepperTables$Thing" "hot") ∈ lw_all := lw_g (lw_at lw_m4 133 rfl) rfl
theorem q989 : (Jvm.Cond.lays "PepperTables$Thing" "PepperTables$Thing" "in" "I") ∈ lw_all := lw_g (lw_at lw_m4 134 rfl) rfl
theorem q990 : (Jvm.Cond.soleField "PepperTables$Thing" "in") ∈ lw_all := lw_g (lw_at lw_m4 135 rfl) rfl
theorem q991 : (Jvm.Cond.laysFinal "PepperTables$Thing" "PepperTables$Named" "name" "Ljava/lang/String;") ∈ lw_all := lw_g (lw_at lw_m4 136 rfl) rfl
theorem q992 : (Jvm.Cond.superclass "PepperTables$Thing" "PepperTables$Named") ∈ lw_all := lw_g (lw_at lw_m4 137 rfl) rfl
theorem q2411 : (Jvm.Cond.castable "PepperTables$Thing" "PepperTables$Named") ∈ lw_tbl := lw_at lw_m10 116 rfl
theorem q2425 : (Jvm.Cond.castable "PepperTables$Thing" "java/lang/Object") ∈ lw_tbl := lw_at lw_m10 130 rfl
theorem in_X9 : ∀ w ∈ wsX90, w ∈ lw_all := lw_in wsX90 [991, 983, 985, 987, 989] (by decide +kernel) (by decide +kernel)

/-! PepperTables$Not -/
set_option maxRecDepth 100000
def RX10 : String := "PepperTables$Not"
def TX10 : u_T := fun k => match k with
  | _ => ("PepperTables$Not", "n", "LPepperTables$Node;", true)
def tyX10 : Nat → FieldType := fun k => match k with
  | _ => .object "PepperTables$Node"
abbrev wsX100 : List Cond := u_ws RX10 TX10 1
theorem nmX10 : ∀ a, a < 1 → ∀ b, b < 1 → a ≠ b → (TX10 a).2.1 ≠ (TX10 b).2.1 := by decide +kernel
theorem tyX10_ok : ∀ k, k < 1 → parseFieldDescriptor (TX10 k).2.2.1 = some (tyX10 k) := by decide +kernel
abbrev cX10_init : ByteArray := prog_14_method_1_code
def yX10_init : MethodName := ⟨RX10, "<init>", "(LPepperTables$Node;)V"⟩
def dkwX10_init_0 : List UInt8 := [42, 183, 0, 1, 42, 43, 181, 0, 7, 177]
abbrev dktX10_init_0 : List UInt8 := dkwX10_init_0 ++ []
theorem dksX10_init_0 : cX10_init.data.toList.drop 0 = dktX10_init_0 := by decide +kernel
theorem dX10_init_0 : decode cX10_init 0 = .ok (.aload_n 0, 1) := dk_42 (dk_at dksX10_init_0 0 rfl rfl)
theorem dX10_init_1 : decode cX10_init 1 = .ok (.invokespecial 1, 3) := dk_183 0 1 (dk_at dksX10_init_0 1 rfl rfl)
theorem dX10_init_4 : decode cX10_init 4 = .ok (.aload_n 0, 1) := dk_42 (dk_at dksX10_init_0 4 rfl rfl)
theorem dX10_init_5 : decode cX10_init 5 = .ok (.aload_n 1, 1) := dk_43 (dk_at dksX10_init_0 5 rfl rfl)
theorem dX10_init_6 : decode cX10_init 6 = .ok (.putfield 7, 3) := dk_181 0 7 (dk_at dksX10_init_0 6 rfl rfl)
theorem dX10_init_9 : decode cX10_init 9 = .ok (.return_, 1) := dk_177 (dk_at dksX10_init_0 9 rfl rfl)
abbrev cX10_of : ByteArray := prog_14_method_2_code
def yX10_of : MethodName := ⟨RX10, "of", "(LPepperTables$Ask;)I"⟩
def dkwX10_of_0 : List UInt8 := [42, 180, 0, 7, 43, 185, 0, 13, 2, 0, 154, 0, 7, 4, 167, 0, 4, 3, 172]
abbrev dktX10_of_0 : List UInt8 := dkwX10_of_0 ++ []
theorem dksX10_of_0 : cX10_of.data.toList.drop 0 = dktX10_of_0 := by decide +kernel
theorem dX10_of_0 : decode cX10_of 0 = .ok (.aload_n 0, 1) := dk_42 (dk_at dksX10_of_0 0 rfl rfl)
theorem dX10_of_1 : decode cX10_of 1 = .ok (.getfield 7, 3) := dk_180 0 7 (dk_at dksX10_of_0 1 rfl rfl)
theorem dX10_of_4 : decode cX10_of 4 = .ok (.aload_n 1, 1) := dk_43 (dk_at dksX10_of_0 4 rfl rfl)
theorem dX10_of_5 : decode cX10_of 5 = .ok (.invokeinterface 13 2, 5) := by decide +kernel
theorem dX10_of_10 : decode cX10_of 10 = .ok (.ifCond .ne 7, 3) := dk_154 0 7 (dk_at dksX10_of_0 10 rfl rfl)
theorem dX10_of_13 : decode cX10_of 13 = .ok (.iconst 1, 1) := dk_4 (dk_at dksX10_of_0 13 rfl rfl)
theorem dX10_of_14 : decode cX10_of 14 = .ok (.goto 4, 3) := dk_167 0 4 (dk_at dksX10_of_0 14 rfl rfl)
theorem dX10_of_17 : decode cX10_of 17 = .ok (.iconst 0, 1) := dk_3 (dk_at dksX10_of_0 17 rfl rfl)
theorem dX10_of_18 : decode cX10_of 18 = .ok (.ireturn, 1) := dk_172 (dk_at dksX10_of_0 18 rfl rfl)
theorem q162 : (Jvm.Cond.initialized "PepperTables$Not") ∈ lw_all := lw_g (lw_at lw_m1 27 rfl) rfl
theorem q939 : (Jvm.Cond.selects "PepperTables$Not" ({ cls := "java/lang/Object", name := "getClass", desc := "()Ljava/lang/Class;" } : Jvm.MethodName) ({ cls := "java/lang/Object", name := "getClass", desc := "()Ljava/lang/Class;" } : Jvm.MethodName)) ∈ lw_all := lw_g (lw_at lw_m4 84 rfl) rfl
theorem q1018 : (Jvm.Cond.instantiable "PepperTables$Not" (1 : Nat)) ∈ lw_all := lw_g (lw_at lw_m4 163 rfl) rfl
theorem q1020 : (Jvm.Cond.instanceMethod ({ cls := "PepperTables$Not", name := "<init>", desc := "(LPepperTables$Node;)V" } : Jvm.MethodName)) ∈ lw_all := lw_g (lw_at lw_m4 165 rfl) rfl
theorem q1021 : (Jvm.Cond.code ({ cls := "PepperTables$Not", name := "<init>", desc := "(LPepperTables$Node;)V" } : Jvm.MethodName) prog_14_method_1_code (2 : Nat) (Option.none : Option Jvm.ClassFile.FieldType)) ∈ lw_all := lw_g (lw_at lw_m4 166 rfl) rfl
theorem q1022 : (Jvm.Cond.methodLink "PepperTables$Not" (1 : Nat) ({ cls := "java/lang/Object", name := "<init>", desc := "()V" } : Jvm.MethodName)) ∈ lw_all := lw_g (lw_at lw_m4 167 rfl) rfl
theorem q1023 : (Jvm.Cond.fieldLink "PepperTables$Not" (7 : Nat) "PepperTables$Not" "n" "LPepperTables$Node;") ∈ lw_all := lw_g (lw_at lw_m4 168 rfl) rfl
theorem q1024 : (Jvm.Cond.laysFinal "PepperTables$Not" "PepperTables$Not" "n" "LPepperTables$Node;") ∈ lw_all := lw_g (lw_at lw_m4 169 rfl) rfl
theorem q1025 : (Jvm.Cond.soleField "PepperTables$Not" "n") ∈ lw_all := lw_g (lw_at lw_m4 170 rfl) rfl
theorem q1026 : (Jvm.Cond.superclass "PepperTables$Not" "java/lang/Object") ∈ lw_all := lw_g (lw_at lw_m4 171 rfl) rfl
theorem q1261 : (Jvm.Cond.castable "PepperTables$Not" "PepperTables$Node") ∈ lw_tbl := lw_at lw_m5 166 rfl
theorem q1262 : (Jvm.Cond.selects "PepperTables$Not" ({ cls := "PepperTables$Node", name := "of", desc := "(LPepperTables$Ask;)I" } : Jvm.MethodName) ({ cls := "PepperTables$Not", name := "of", desc := "(LPepperTables$Ask;)I" } : Jvm.MethodName)) ∈ lw_all := lw_g (lw_at lw_m5 167 rfl) rfl
theorem q1263 : (Jvm.Cond.unhidden "PepperTables$Not" "of" "(LPepperTables$Ask;)I") ∈ lw_tbl := lw_at lw_m5 168 rfl
theorem q1264 : (Jvm.Cond.instanceMethod ({ cls := "PepperTables$Not", name := "of", desc := "(LPepperTables$Ask;)I" } : Jvm.MethodName)) ∈ lw_all := lw_g (lw_at lw_m5 169 rfl) rfl
theorem q1265 : (Jvm.Cond.publicMethod ({ cls := "PepperTables$Not", name := "of", desc := "(LPepperTables$Ask;)I" } : Jvm.MethodName)) ∈ lw_tbl := lw_at lw_m5 170 rfl
theorem q1266 : (Jvm.Cond.code ({ cls := "PepperTables$Not", name := "of", desc := "(LPepperTables$Ask;)I" } : Jvm.MethodName) prog_14_method_2_code (2 : Nat) (Option.some Jvm.ClassFile.FieldType.int)) ∈ lw_all := lw_g (lw_at lw_m5 171 rfl) rfl
theorem q1267 : (Jvm.Cond.interfaceEntry "PepperTables$Not" (13 : Nat)) ∈ lw_tbl := lw_at lw_m5 172 rfl
theorem q1268 : (Jvm.Cond.methodLink "PepperTables$Not" (13 : Nat) ({ cls := "PepperTables$Node", name := "of", desc := "(LPepperTables$Ask;)I" } : Jvm.MethodName)) ∈ lw_all := lw_g (lw_at lw_m5 173 rfl) rfl
theorem q2426 : (Jvm.Cond.castable "PepperTables$Not" "java/lang/Object") ∈ lw_tbl := lw_at lw_m10 131 rfl
theorem in_X10 : ∀ w ∈ wsX100, w ∈ lw_all := lw_in wsX100 [1024] (by decide +kernel) (by decide +kernel)

/-! PepperTables$Value -/
set_option maxRecDepth 100000
def RX11 : String := "PepperTables$Value"
def TX11 : u_T := fun k => match k with
  | _ => ("PepperTables$Value", "v", "I", true)
def tyX11 : Nat → FieldType := fun k => match k with
  | _ => .int
abbrev wsX110 : List Cond := u_ws RX11 TX11 1
theorem nmX11 : ∀ a, a < 1 → ∀ b, b < 1 → a ≠ b → (TX11 a).2.1 ≠ (TX11 b).2.1 := by decide +kernel
theorem tyX11_ok : ∀ k, k < 1 → parseFieldDescriptor (TX11 k).2.2.1 = some (tyX11 k) := by decide +kernel
abbrev cX11_init : ByteArray := prog_20_method_1_code
def yX11_init : MethodName := ⟨RX11, "<init>", "(I)V"⟩
def dkwX11_init_0 : List UInt8 := [42, 183, 0, 1, 42, 27, 181, 0, 7, 177]
abbrev dktX11_init_0 : List UInt8 := dkwX11_init_0 ++ []
theorem dksX11_init_0 : cX11_init.data.toList.drop 0 = dktX11_init_0 := by decide +kernel
theorem dX11_init_0 : decode cX11_init 0 = .ok (.aload_n 0, 1) := dk_42 (dk_at dksX11_init_0 0 rfl rfl)
theorem dX11_init_1 : decode cX11_init 1 = .ok (.invokespecial 1, 3) := dk_183 0 1 (dk_at dksX11_init_0 1 rfl rfl)
theorem dX11_init_4 : decode cX11_init 4 = .ok (.aload_n 0, 1) := dk_42 (dk_at dksX11_init_0 4 rfl rfl)
theorem dX11_init_5 : decode cX11_init 5 = .ok (.iload_n 1, 1) := dk_27 (dk_at dksX11_init_0 5 rfl rfl)
theorem dX11_init_6 : decode cX11_init 6 = .ok (.putfield 7, 3) := dk_181 0 7 (dk_at dksX11_init_0 6 rfl rfl)
theorem dX11_init_9 : decode cX11_init 9 = .ok (.return_, 1) := dk_177 (dk_at dksX11_init_0 9 rfl rfl)
abbrev cX11_of : ByteArray := prog_20_method_2_code
def yX11_of : MethodName := ⟨RX11, "of", "(LPepperTables$Ask;)I"⟩
theorem dX11_of_0 : decode cX11_of 0 = .ok (.aload_n 0, 1) := by decide +kernel
theorem dX11_of_1 : decode cX11_of 1 = .ok (.getfield 7, 3) := by decide +kernel
theorem dX11_of_4 : decode cX11_of 4 = .ok (.ireturn, 1) := by decide +kernel
theorem q165 : (Jvm.Cond.initialized "PepperTables$Value") ∈ lw_all := lw_g (lw_at lw_m1 30 rfl) rfl
theorem q945 : (Jvm.Cond.selects "PepperTables$Value" ({ cls := "java/lang/Object", name := "getClass", desc := "()Ljava/lang/Class;" } : Jvm.MethodName) ({ cls := "java/lang/Object", name := "getClass", desc := "()Ljava/lang/Class;" } : Jvm.MethodName)) ∈ lw_all := lw_g (lw_at lw_m4 90 rfl) rfl
theorem q1056 : (Jvm.Cond.instantiable "PepperTables$Value" (1 : Nat)) ∈ lw_all := lw_g (lw_at lw_m4 201 rfl) rfl
theorem q1058 : (Jvm.Cond.instanceMethod ({ cls := "PepperTables$Value", name := "<init>", desc := "(I)V" } : Jvm.MethodName)) ∈ lw_all := lw_g (lw_at lw_m4 203 rfl) rfl
theorem q1059 : (Jvm.Cond.code ({ cls := "PepperTables$Value", name := "<init>", desc := "(I)V" } : Jvm.MethodName) prog_20_method_1_code (2 : Nat) (Option.none : Option Jvm.ClassFile.FieldType)) ∈ lw_all := lw_g (lw_at lw_m4 204 rfl) rfl
theorem q1060 : (Jvm.Cond.methodLink "PepperTables$Value" (1 : Nat) ({ cls := "java/lang/Object", name := "<init>", desc := "()V" } : Jvm.MethodName)) ∈ lw_all := lw_g (lw_at lw_m4 205 rfl) rfl
theorem q1061 : (Jvm.Cond.fieldLink "PepperTables$Value" (7 : Nat) "PepperTables$Value" "v" "I") ∈ lw_all := lw_g (lw_at lw_m4 206 rfl) rfl
theorem q1062 : (Jvm.Cond.laysFinal "PepperTables$Value" "PepperTables$Value" "v" "I") ∈ lw_all := lw_g (lw_at lw_m4 207 rfl) rfl
theorem q1063 : (Jvm.Cond.soleField "PepperTables$Value" "v") ∈ lw_all := lw_g (lw_at lw_m4 208 rfl) rfl
theorem q1064 : (Jvm.Cond.superclass "PepperTables$Value" "java/lang/Object") ∈ lw_all := lw_g (lw_at lw_m4 209 rfl) rfl
theorem q1277 : (Jvm.Cond.castable "PepperTables$Value" "PepperTables$Node") ∈ lw_tbl := lw_at lw_m5 182 rfl
theorem q1278 : (Jvm.Cond.selects "PepperTables$Value" ({ cls := "PepperTables$Node", name := "of", desc := "(LPepperTables$Ask;)I" } : Jvm.MethodName) ({ cls := "PepperTables$Value", name := "of", desc := "(LPepperTables$Ask;)I" } : Jvm.MethodName)) ∈ lw_all := lw_g (lw_at lw_m5 183 rfl) rfl
theorem q1279 : (Jvm.Cond.unhidden "PepperTables$Value" "of" "(LPepperTables$Ask;)I") ∈ lw_tbl := lw_at lw_m5 184 rfl
theorem q1280 : (Jvm.Cond.instanceMethod ({ cls := "PepperTables$Value", name := "of", desc := "(LPepperTables$Ask;)I" } : Jvm.MethodName)) ∈ lw_all := lw_g (lw_at lw_m5 185 rfl) rfl
theorem q1281 : (Jvm.Cond.publicMethod ({ cls := "PepperTables$Value", name := "of", desc := "(LPepperTables$Ask;)I" } : Jvm.MethodName)) ∈ lw_tbl := lw_at lw_m5 186 rfl
theorem q1282 : (Jvm.Cond.code ({ cls := "PepperTables$Value", name := "of", desc := "(LPepperTables$Ask;)I" } : Jvm.MethodName) prog_20_method_2_code (2 : Nat) (Option.some Jvm.ClassFile.FieldType.int)) ∈ lw_all := lw_g (lw_at lw_m5 187 rfl) rfl
theorem q2433 : (Jvm.Cond.castable "PepperTables$Value" "java/lang/Object") ∈ lw_tbl := lw_at lw_m10 138 rfl
theorem in_X11 : ∀ w ∈ wsX110, w ∈ lw_all := lw_in wsX110 [1062] (by decide +kernel) (by decide +kernel)

/-! PepperTables$Pair -/
set_option maxRecDepth 100000
def RX12 : String := "PepperTables$Pair"
def TX12 : u_T := fun k => match k with
  | 0 => ("PepperTables$Pair", "left", "LPepperTables$Node;", true)
  | 1 => ("PepperTables$Pair", "right", "LPepperTables$Node;", true)
  | _ => ("PepperTables$Pair", "sign", "C", true)
def tyX12 : Nat → FieldType := fun k => match k with
  | 0 => .object "PepperTables$Node"
  | 1 => .object "PepperTables$Node"
  | _ => .char
abbrev wsX120 : List Cond := u_ws RX12 TX12 3
theorem nmX12 : ∀ a, a < 3 → ∀ b, b < 3 → a ≠ b → (TX12 a).2.1 ≠ (TX12 b).2.1 := by decide +kernel
theorem tyX12_ok : ∀ k, k < 3 → parseFieldDescriptor (TX12 k).2.2.1 = some (tyX12 k) := by decide +kernel
abbrev cX12_init : ByteArray := prog_15_method_1_code
def yX12_init : MethodName := ⟨RX12, "<init>", "(LPepperTables$Node;LPepperTables$Node;C)V"⟩
def dkwX12_init_0 : List UInt8 := [42, 183, 0, 1, 42, 43, 181, 0, 7, 42, 44, 181, 0, 13, 42, 29, 181, 0, 16, 177]
abbrev dktX12_init_0 : List UInt8 := dkwX12_init_0 ++ []
theorem dksX12_init_0 : cX12_init.data.toList.drop 0 = dktX12_init_0 := by decide +kernel
theorem dX12_init_0 : decode cX12_init 0 = .ok (.aload_n 0, 1) := dk_42 (dk_at dksX12_init_0 0 rfl rfl)
theorem dX12_init_1 : decode cX12_init 1 = .ok (.invokespecial 1, 3) := dk_183 0 1 (dk_at dksX12_init_0 1 rfl rfl)
theorem dX12_init_4 : decode cX12_init 4 = .ok (.aload_n 0, 1) := dk_42 (dk_at dksX12_init_0 4 rfl rfl)
theorem dX12_init_5 : decode cX12_init 5 = .ok (.aload_n 1, 1) := dk_43 (dk_at dksX12_init_0 5 rfl rfl)
theorem dX12_init_6 : decode cX12_init 6 = .ok (.putfield 7, 3) := dk_181 0 7 (dk_at dksX12_init_0 6 rfl rfl)
theorem dX12_init_9 : decode cX12_init 9 = .ok (.aload_n 0, 1) := dk_42 (dk_at dksX12_init_0 9 rfl rfl)
theorem dX12_init_10 : decode cX12_init 10 = .ok (.aload_n 2, 1) := dk_44 (dk_at dksX12_init_0 10 rfl rfl)
theorem dX12_init_11 : decode cX12_init 11 = .ok (.putfield 13, 3) := dk_181 0 13 (dk_at dksX12_init_0 11 rfl rfl)
theorem dX12_init_14 : decode cX12_init 14 = .ok (.aload_n 0, 1) := dk_42 (dk_at dksX12_init_0 14 rfl rfl)
theorem dX12_init_15 : decode cX12_init 15 = .ok (.iload_n 3, 1) := dk_29 (dk_at dksX12_init_0 15 rfl rfl)
theorem dX12_init_16 : decode cX12_init 16 = .ok (.putfield 16, 3) := dk_181 0 16 (dk_at dksX12_init_0 16 rfl rfl)
theorem dX12_init_19 : decode cX12_init 19 = .ok (.return_, 1) := dk_177 (dk_at dksX12_init_0 19 rfl rfl)
abbrev cX12_of : ByteArray := prog_15_method_2_code
def yX12_of : MethodName := ⟨RX12, "of", "(LPepperTables$Ask;)I"⟩
def dkwX12_of_7 : List UInt8 := [167, 0, 4, 3, 172]
abbrev dktX12_of_7 : List UInt8 := dkwX12_of_7 ++ []
def dkwX12_of_6 : List UInt8 := [153, 0, 11, 29, 153, 0, 7, 4, 167, 0, 4, 3, 172, 28, 154, 0, 7, 29, 153, 0, 7, 4]
abbrev dktX12_of_6 : List UInt8 := dkwX12_of_6 ++ dktX12_of_7
def dkwX12_of_5 : List UInt8 := [29, 164, 0, 7, 4, 167, 0, 4, 3, 172, 28, 29, 160, 0, 7, 4, 167, 0, 4, 3, 172, 28]
abbrev dktX12_of_5 : List UInt8 := dkwX12_of_5 ++ dktX12_of_6
def dkwX12_of_4 : List UInt8 := [29, 154, 0, 7, 3, 167, 0, 6, 28, 29, 112, 172, 28, 29, 162, 0, 7, 4, 167, 0, 4, 3, 172, 28]
abbrev dktX12_of_4 : List UInt8 := dkwX12_of_4 ++ dktX12_of_5
def dkwX12_of_3 : List UInt8 := [28, 29, 96, 172, 28, 29, 100, 172, 28, 29, 104, 172, 29, 154, 0, 7, 3, 167, 0, 6, 28, 29, 108, 172]
abbrev dktX12_of_3 : List UInt8 := dkwX12_of_3 ++ dktX12_of_4
def dkwX12_of_2 : List UInt8 := [170, 0, 0, 0, 0, 201, 0, 0, 0, 37, 0, 0, 0, 62, 0, 0, 0, 142, 0, 0, 0, 187, 0, 0, 0, 201, 0, 0, 0, 201, 0, 0, 0, 201, 0, 0, 0, 126, 0, 0, 0, 118, 0, 0, 0, 201, 0, 0, 0, 122, 0, 0, 0, 201, 0, 0, 0, 130, 0, 0, 0, 201, 0, 0, 0, 201, 0, 0, 0, 201, 0, 0, 0, 201, 0, 0, 0, 201, 0, 0, 0, 201, 0, 0, 0, 201, 0, 0, 0, 201, 0, 0, 0, 201, 0, 0, 0, 201, 0, 0, 0, 201, 0, 0, 0, 201, 0, 0, 0, 154, 0, 0, 0, 176, 0, 0, 0, 165]
abbrev dktX12_of_2 : List UInt8 := dkwX12_of_2 ++ dktX12_of_3
def dkwX12_of_1 : List UInt8 := [180, 0, 16]
abbrev dktX12_of_1 : List UInt8 := dkwX12_of_1 ++ dktX12_of_2
def dkwX12_of_0 : List UInt8 := [42, 180, 0, 7, 43, 185, 0, 20, 2, 0, 61, 42, 180, 0, 13, 43, 185, 0, 20, 2, 0, 62, 42]
abbrev dktX12_of_0 : List UInt8 := dkwX12_of_0 ++ dktX12_of_1
theorem dksX12_of_0 : cX12_of.data.toList.drop 0 = dktX12_of_0 := by decide +kernel
theorem dksX12_of_1 : cX12_of.data.toList.drop 23 = dktX12_of_1 := dk_seg dksX12_of_0 23 rfl rfl
theorem dksX12_of_2 : cX12_of.data.toList.drop 26 = dktX12_of_2 := dk_seg dksX12_of_1 3 rfl rfl
theorem dksX12_of_3 : cX12_of.data.toList.drop 144 = dktX12_of_3 := dk_seg dksX12_of_2 118 rfl rfl
theorem dksX12_of_4 : cX12_of.data.toList.drop 168 = dktX12_of_4 := dk_seg dksX12_of_3 24 rfl rfl
theorem dksX12_of_5 : cX12_of.data.toList.drop 192 = dktX12_of_5 := dk_seg dksX12_of_4 24 rfl rfl
theorem dksX12_of_6 : cX12_of.data.toList.drop 214 = dktX12_of_6 := dk_seg dksX12_of_5 22 rfl rfl
theorem dksX12_of_7 : cX12_of.data.toList.drop 236 = dktX12_of_7 := dk_seg dksX12_of_6 22 rfl rfl
theorem dX12_of_0 : decode cX12_of 0 = .ok (.aload_n 0, 1) := dk_42 (dk_at dksX12_of_0 0 rfl rfl)
theorem dX12_of_1 : decode cX12_of 1 = .ok (.getfield 7, 3) := dk_180 0 7 (dk_at dksX12_of_0 1 rfl rfl)
theorem dX12_of_4 : decode cX12_of 4 = .ok (.aload_n 1, 1) := dk_43 (dk_at dksX12_of_0 4 rfl rfl)
theorem dX12_of_5 : decode cX12_of 5 = .ok (.invokeinterface 20 2, 5) := by decide +kernel
theorem dX12_of_10 : decode cX12_of 10 = .ok (.istore_n 2, 1) := dk_61 (dk_at dksX12_of_0 10 rfl rfl)
theorem dX12_of_11 : decode cX12_of 11 = .ok (.aload_n 0, 1) := dk_42 (dk_at dksX12_of_0 11 rfl rfl)
theorem dX12_of_12 : decode cX12_of 12 = .ok (.getfield 13, 3) := dk_180 0 13 (dk_at dksX12_of_0 12 rfl rfl)
theorem dX12_of_15 : decode cX12_of 15 = .ok (.aload_n 1, 1) := dk_43 (dk_at dksX12_of_0 15 rfl rfl)
theorem dX12_of_16 : decode cX12_of 16 = .ok (.invokeinterface 20 2, 5) := by decide +kernel
theorem dX12_of_21 : decode cX12_of 21 = .ok (.istore_n 3, 1) := dk_62 (dk_at dksX12_of_0 21 rfl rfl)
theorem dX12_of_22 : decode cX12_of 22 = .ok (.aload_n 0, 1) := dk_42 (dk_at dksX12_of_0 22 rfl rfl)
theorem dX12_of_23 : decode cX12_of 23 = .ok (.getfield 16, 3) := dk_180 0 16 (dk_at dksX12_of_1 0 rfl rfl)
theorem dX12_of_26 : decode cX12_of 26 = .ok (.tableswitch 201 37 62 #[142, 187, 201, 201, 201, 126, 118, 201, 122, 201, 130, 201, 201, 201, 201, 201, 201, 201, 201, 201, 201, 201, 201, 154, 176, 165], 118) := by decide +kernel
theorem dX12_of_144 : decode cX12_of 144 = .ok (.iload_n 2, 1) := dk_28 (dk_at dksX12_of_3 0 rfl rfl)
theorem dX12_of_145 : decode cX12_of 145 = .ok (.iload_n 3, 1) := dk_29 (dk_at dksX12_of_3 1 rfl rfl)
theorem dX12_of_146 : decode cX12_of 146 = .ok (.iadd, 1) := dk_96 (dk_at dksX12_of_3 2 rfl rfl)
theorem dX12_of_147 : decode cX12_of 147 = .ok (.ireturn, 1) := dk_172 (dk_at dksX12_of_3 3 rfl rfl)
theorem dX12_of_148 : decode cX12_of 148 = .ok (.iload_n 2, 1) := dk_28 (dk_at dksX12_of_3 4 rfl rfl)
theorem dX12_of_149 : decode cX12_of 149 = .ok (.iload_n 3, 1) := dk_29 (dk_at dksX12_of_3 5 rfl rfl)
theorem dX12_of_150 : decode cX12_of 150 = .ok (.isub, 1) := dk_100 (dk_at dksX12_of_3 6 rfl rfl)
theorem dX12_of_151 : decode cX12_of 151 = .ok (.ireturn, 1) := dk_172 (dk_at dksX12_of_3 7 rfl rfl)
theorem dX12_of_152 : decode cX12_of 152 = .ok (.iload_n 2, 1) := dk_28 (dk_at dksX12_of_3 8 rfl rfl)
theorem dX12_of_153 : decode cX12_of 153 = .ok (.iload_n 3, 1) := dk_29 (dk_at dksX12_of_3 9 rfl rfl)
theorem dX12_of_154 : decode cX12_of 154 = .ok (.imul, 1) := dk_104 (dk_at dksX12_of_3 10 rfl rfl)
theorem dX12_of_155 : decode cX12_of 155 = .ok (.ireturn, 1) := dk_172 (dk_at dksX12_of_3 11 rfl rfl)
theorem dX12_of_156 : decode cX12_of 156 = .ok (.iload_n 3, 1) := dk_29 (dk_at dksX12_of_3 12 rfl rfl)
theorem dX12_of_157 : decode cX12_of 157 = .ok (.ifCond .ne 7, 3) := dk_154 0 7 (dk_at dksX12_of_3 13 rfl rfl)
theorem dX12_of_160 : decode cX12_of 160 = .ok (.iconst 0, 1) := dk_3 (dk_at dksX12_of_3 16 rfl rfl)
theorem dX12_of_161 : decode cX12_of 161 = .ok (.goto 6, 3) := dk_167 0 6 (dk_at dksX12_of_3 17 rfl rfl)
theorem dX12_of_164 : decode cX12_of 164 = .ok (.iload_n 2, 1) := dk_28 (dk_at dksX12_of_3 20 rfl rfl)
theorem dX12_of_165 : decode cX12_of 165 = .ok (.iload_n 3, 1) := dk_29 (dk_at dksX12_of_3 21 rfl rfl)
theorem dX12_of_166 : decode cX12_of 166 = .ok (.idiv, 1) := dk_108 (dk_at dksX12_of_3 22 rfl rfl)
theorem dX12_of_167 : decode cX12_of 167 = .ok (.ireturn, 1) := dk_172 (dk_at dksX12_of_3 23 rfl rfl)
theorem dX12_of_168 : decode cX12_of 168 = .ok (.iload_n 3, 1) := dk_29 (dk_at dksX12_of_4 0 rfl rfl)
theorem dX12_of_169 : decode cX12_of 169 = .ok (.ifCond .ne 7, 3) := dk_154 0 7 (dk_at dksX12_of_4 1 rfl rfl)
theorem dX12_of_172 : decode cX12_of 172 = .ok (.iconst 0, 1) := dk_3 (dk_at dksX12_of_4 4 rfl rfl)
theorem dX12_of_173 : decode cX12_of 173 = .ok (.goto 6, 3) := dk_167 0 6 (dk_at dksX12_of_4 5 rfl rfl)
theorem dX12_of_176 : decode cX12_of 176 = .ok (.iload_n 2, 1) := dk_28 (dk_at dksX12_of_4 8 rfl rfl)
theorem dX12_of_177 : decode cX12_of 177 = .ok (.iload_n 3, 1) := dk_29 (dk_at dksX12_of_4 9 rfl rfl)
theorem dX12_of_178 : decode cX12_of 178 = .ok (.irem, 1) := dk_112 (dk_at dksX12_of_4 10 rfl rfl)
theorem dX12_of_179 : decode cX12_of 179 = .ok (.ireturn, 1) := dk_172 (dk_at dksX12_of_4 11 rfl rfl)
theorem dX12_of_180 : decode cX12_of 180 = .ok (.iload_n 2, 1) := dk_28 (dk_at dksX12_of_4 12 rfl rfl)
theorem dX12_of_181 : decode cX12_of 181 = .ok (.iload_n 3, 1) := dk_29 (dk_at dksX12_of_4 13 rfl rfl)
theorem dX12_of_182 : decode cX12_of 182 = .ok (.if_icmp .ge 7, 3) := dk_162 0 7 (dk_at dksX12_of_4 14 rfl rfl)
theorem dX12_of_185 : decode cX12_of 185 = .ok (.iconst 1, 1) := dk_4 (dk_at dksX12_of_4 17 rfl rfl)
theorem dX12_of_186 : decode cX12_of 186 = .ok (.goto 4, 3) := dk_167 0 4 (dk_at dksX12_of_4 18 rfl rfl)
theorem dX12_of_189 : decode cX12_of 189 = .ok (.iconst 0, 1) := dk_3 (dk_at dksX12_of_4 21 rfl rfl)
theorem dX12_of_190 : decode cX12_of 190 = .ok (.ireturn, 1) := dk_172 (dk_at dksX12_of_4 22 rfl rfl)
theorem dX12_of_191 : decode cX12_of 191 = .ok (.iload_n 2, 1) := dk_28 (dk_at dksX12_of_4 23 rfl rfl)
theorem dX12_of_192 : decode cX12_of 192 = .ok (.iload_n 3, 1) := dk_29 (dk_at dksX12_of_5 0 rfl rfl)
theorem dX12_of_193 : decode cX12_of 193 = .ok (.if_icmp .le 7, 3) := dk_164 0 7 (dk_at dksX12_of_5 1 rfl rfl)
theorem dX12_of_196 : decode cX12_of 196 = .ok (.iconst 1, 1) := dk_4 (dk_at dksX12_of_5 4 rfl rfl)
theorem dX12_of_197 : decode cX12_of 197 = .ok (.goto 4, 3) := dk_167 0 4 (dk_at dksX12_of_5 5 rfl rfl)
theorem dX12_of_200 : decode cX12_of 200 = .ok (.iconst 0, 1) := dk_3 (dk_at dksX12_of_5 8 rfl rfl)
theorem dX12_of_201 : decode cX12_of 201 = .ok (.ireturn, 1) := dk_172 (dk_at dksX12_of_5 9 rfl rfl)
theorem dX12_of_202 : decode cX12_of 202 = .ok (.iload_n 2, 1) := dk_28 (dk_at dksX12_of_5 10 rfl rfl)
theorem dX12_of_203 : decode cX12_of 203 = .ok (.iload_n 3, 1) := dk_29 (dk_at dksX12_of_5 11 rfl rfl)
theorem dX12_of_204 : decode cX12_of 204 = .ok (.if_icmp .ne 7, 3) := dk_160 0 7 (dk_at dksX12_of_5 12 rfl rfl)
theorem dX12_of_207 : decode cX12_of 207 = .ok (.iconst 1, 1) := dk_4 (dk_at dksX12_of_5 15 rfl rfl)
theorem dX12_of_208 : decode cX12_of 208 = .ok (.goto 4, 3) := dk_167 0 4 (dk_at dksX12_of_5 16 rfl rfl)
theorem dX12_of_211 : decode cX12_of 211 = .ok (.iconst 0, 1) := dk_3 (dk_at dksX12_of_5 19 rfl rfl)
theorem dX12_of_212 : decode cX12_of 212 = .ok (.ireturn, 1) := dk_172 (dk_at dksX12_of_5 20 rfl rfl)
theorem dX12_of_213 : decode cX12_of 213 = .ok (.iload_n 2, 1) := dk_28 (dk_at dksX12_of_5 21 rfl rfl)
theorem dX12_of_214 : decode cX12_of 214 = .ok (.ifCond .eq 11, 3) := dk_153 0 11 (dk_at dksX12_of_6 0 rfl rfl)
theorem dX12_of_217 : decode cX12_of 217 = .ok (.iload_n 3, 1) := dk_29 (dk_at dksX12_of_6 3 rfl rfl)
theorem dX12_of_218 : decode cX12_of 218 = .ok (.ifCond .eq 7, 3) := dk_153 0 7 (dk_at dksX12_of_6 4 rfl rfl)
theorem dX12_of_221 : decode cX12_of 221 = .ok (.iconst 1, 1) := dk_4 (dk_at dksX12_of_6 7 rfl rfl)
theorem dX12_of_222 : decode cX12_of 222 = .ok (.goto 4, 3) := dk_167 0 4 (dk_at dksX12_of_6 8 rfl rfl)
theorem dX12_of_225 : decode cX12_of 225 = .ok (.iconst 0, 1) := dk_3 (dk_at dksX12_of_6 11 rfl rfl)
theorem dX12_of_226 : decode cX12_of 226 = .ok (.ireturn, 1) := dk_172 (dk_at dksX12_of_6 12 rfl rfl)
theorem dX12_of_227 : decode cX12_of 227 = .ok (.iload_n 2, 1) := dk_28 (dk_at dksX12_of_6 13 rfl rfl)
theorem dX12_of_228 : decode cX12_of 228 = .ok (.ifCond .ne 7, 3) := dk_154 0 7 (dk_at dksX12_of_6 14 rfl rfl)
theorem dX12_of_231 : decode cX12_of 231 = .ok (.iload_n 3, 1) := dk_29 (dk_at dksX12_of_6 17 rfl rfl)
theorem dX12_of_232 : decode cX12_of 232 = .ok (.ifCond .eq 7, 3) := dk_153 0 7 (dk_at dksX12_of_6 18 rfl rfl)
theorem dX12_of_235 : decode cX12_of 235 = .ok (.iconst 1, 1) := dk_4 (dk_at dksX12_of_6 21 rfl rfl)
theorem dX12_of_236 : decode cX12_of 236 = .ok (.goto 4, 3) := dk_167 0 4 (dk_at dksX12_of_7 0 rfl rfl)
theorem dX12_of_239 : decode cX12_of 239 = .ok (.iconst 0, 1) := dk_3 (dk_at dksX12_of_7 3 rfl rfl)
theorem dX12_of_240 : decode cX12_of 240 = .ok (.ireturn, 1) := dk_172 (dk_at dksX12_of_7 4 rfl rfl)
theorem q166 : (Jvm.Cond.initialized "PepperTables$Pair") ∈ lw_all := lw_g (lw_at lw_m1 31 rfl) rfl
theorem q940 : (Jvm.Cond.selects "PepperTables$Pair" ({ cls := "java/lang/Object", name := "getClass", desc := "()Ljava/lang/Class;" } : Jvm.MethodName) ({ cls := "java/lang/Object", name := "getClass", desc := "()Ljava/lang/Class;" } : Jvm.MethodName)) ∈ lw_all := lw_g (lw_at lw_m4 85 rfl) rfl
theorem q1066 : (Jvm.Cond.instantiable "PepperTables$Pair" (3 : Nat)) ∈ lw_all := lw_g (lw_at lw_m4 211 rfl) rfl
theorem q1068 : (Jvm.Cond.instanceMethod ({ cls := "PepperTables$Pair", name := "<init>", desc := "(LPepperTables$Node;LPepperTables$Node;C)V" } : Jvm.MethodName)) ∈ lw_all := lw_g (lw_at lw_m4 213 rfl) rfl
theorem q1069 : (Jvm.Cond.code ({ cls := "PepperTables$Pair", name := "<init>", desc := "(LPepperTables$Node;LPepperTables$Node;C)V" } : Jvm.MethodName) prog_15_method_1_code (4 : Nat) (Option.none : Option Jvm.ClassFile.FieldType)) ∈ lw_all := lw_g (lw_at lw_m4 214 rfl) rfl
theorem q1070 : (Jvm.Cond.methodLink "PepperTables$Pair" (1 : Nat) ({ cls := "java/lang/Object", name := "<init>", desc := "()V" } : Jvm.MethodName)) ∈ lw_all := lw_g (lw_at lw_m4 215 rfl) rfl
theorem q1071 : (Jvm.Cond.fieldLink "PepperTables$Pair" (7 : Nat) "PepperTables$Pair" "left" "LPepperTables$Node;") ∈ lw_all := lw_g (lw_at lw_m4 216 rfl) rfl
theorem q1072 : (Jvm.Cond.fieldLink "PepperTables$Pair" (13 : Nat) "PepperTables$Pair" "right" "LPepperTables$Node;") ∈ lw_all := lw_g (lw_at lw_m4 217 rfl) rfl
theorem q1073 : (Jvm.Cond.fieldLink "PepperTables$Pair" (16 : Nat) "PepperTables$Pair" "sign" "C") ∈ lw_all := lw_g (lw_at lw_m4 218 rfl) rfl
theorem q1074 : (Jvm.Cond.laysFinal "PepperTables$Pair" "PepperTables$Pair" "left" "LPepperTables$Node;") ∈ lw_all := lw_g (lw_at lw_m4 219 rfl) rfl
theorem q1075 : (Jvm.Cond.soleField "PepperTables$Pair" "left") ∈ lw_all := lw_g (lw_at lw_m4 220 rfl) rfl
theorem q1076 : (Jvm.Cond.laysFinal "PepperTables$Pair" "PepperTables$Pair" "right" "LPepperTables$Node;") ∈ lw_all := lw_g (lw_at lw_m4 221 rfl) rfl
theorem q1077 : (Jvm.Cond.soleField "PepperTables$Pair" "right") ∈ lw_all := lw_g (lw_at lw_m4 222 rfl) rfl
theorem q1078 : (Jvm.Cond.laysFinal "PepperTables$Pair" "PepperTables$Pair" "sign" "C") ∈ lw_all := lw_g (lw_at lw_m4 223 rfl) rfl
theorem q1079 : (Jvm.Cond.soleField "PepperTables$Pair" "sign") ∈ lw_all := lw_g (lw_at lw_m4 224 rfl) rfl
theorem q1080 : (Jvm.Cond.superclass "PepperTables$Pair" "java/lang/Object") ∈ lw_all := lw_g (lw_at lw_m4 225 rfl) rfl
theorem q1269 : (Jvm.Cond.castable "PepperTables$Pair" "PepperTables$Node") ∈ lw_tbl := lw_at lw_m5 174 rfl
theorem q1270 : (Jvm.Cond.selects "PepperTables$Pair" ({ cls := "PepperTables$Node", name := "of", desc := "(LPepperTables$Ask;)I" } : Jvm.MethodName) ({ cls := "PepperTables$Pair", name := "of", desc := "(LPepperTables$Ask;)I" } : Jvm.MethodName)) ∈ lw_all := lw_g (lw_at lw_m5 175 rfl) rfl
theorem q1271 : (Jvm.Cond.unhidden "PepperTables$Pair" "of" "(LPepperTables$Ask;)I") ∈ lw_tbl := lw_at lw_m5 176 rfl
theorem q1272 : (Jvm.Cond.instanceMethod ({ cls := "PepperTables$Pair", name := "of", desc := "(LPepperTables$Ask;)I" } : Jvm.MethodName)) ∈ lw_all := lw_g (lw_at lw_m5 177 rfl) rfl
theorem q1273 : (Jvm.Cond.publicMethod ({ cls := "PepperTables$Pair", name := "of", desc := "(LPepperTables$Ask;)I" } : Jvm.MethodName)) ∈ lw_tbl := lw_at lw_m5 178 rfl
theorem q1274 : (Jvm.Cond.code ({ cls := "PepperTables$Pair", name := "of", desc := "(LPepperTables$Ask;)I" } : Jvm.MethodName) prog_15_method_2_code (4 : Nat) (Option.some Jvm.ClassFile.FieldType.int)) ∈ lw_all := lw_g (lw_at lw_m5 179 rfl) rfl
theorem q1275 : (Jvm.Cond.interfaceEntry "PepperTables$Pair" (20 : Nat)) ∈ lw_tbl := lw_at lw_m5 180 rfl
theorem q1276 : (Jvm.Cond.methodLink "PepperTables$Pair" (20 : Nat) ({ cls := "PepperTables$Node", name := "of", desc := "(LPepperTables$Ask;)I" } : Jvm.MethodName)) ∈ lw_all := lw_g (lw_at lw_m5 181 rfl) rfl
theorem q2434 : (Jvm.Cond.castable "PepperTables$Pair" "java/lang/Object") ∈ lw_tbl := lw_at lw_m10 139 rfl
theorem in_X12 : ∀ w ∈ wsX120, w ∈ lw_all := lw_in wsX120 [1074, 1076, 1078] (by decide +kernel) (by decide +kernel)

/-! PepperTables$Noise -/
set_option maxRecDepth 100000
def RX13 : String := "PepperTables$Noise"
def TX13 : u_T := fun k => match k with
  | 0 => ("PepperTables$Noise", "sack", "I", true)
  | 1 => ("PepperTables$Noise", "many", "I", true)
  | 2 => ("PepperTables$Noise", "told", "I", true)
  | 3 => ("PepperTables$Noise", "is", "Z", true)
  | 4 => ("PepperTables$Noise", "untold", "I", false)
  | _ => ("PepperTables$Noise", "this$0", "LPepperTables;", true)
def tyX13 : Nat → FieldType := fun k => match k with
  | 0 => .int
  | 1 => .int
  | 2 => .int
  | 3 => .boolean
  | 4 => .int
  | _ => .object "PepperTables"
abbrev wsX130 : List Cond := u_ws RX13 TX13 6
theorem nmX13 : ∀ a, a < 6 → ∀ b, b < 6 → a ≠ b → (TX13 a).2.1 ≠ (TX13 b).2.1 := by decide +kernel
theorem tyX13_ok : ∀ k, k < 6 → parseFieldDescriptor (TX13 k).2.2.1 = some (tyX13 k) := by decide +kernel
abbrev cX13_init : ByteArray := prog_13_method_1_code
def yX13_init : MethodName := ⟨RX13, "<init>", "(LPepperTables;IIZ)V"⟩
def dkwX13_init_1 : List UInt8 := [42, 21, 4, 181, 0, 25, 42, 43, 180, 0, 29, 181, 0, 32, 177]
abbrev dktX13_init_1 : List UInt8 := dkwX13_init_1 ++ []
def dkwX13_init_0 : List UInt8 := [42, 43, 181, 0, 3, 42, 183, 0, 9, 42, 2, 181, 0, 15, 42, 28, 181, 0, 19, 42, 29, 181, 0, 22]
abbrev dktX13_init_0 : List UInt8 := dkwX13_init_0 ++ dktX13_init_1
theorem dksX13_init_0 : cX13_init.data.toList.drop 0 = dktX13_init_0 := by decide +kernel
theorem dksX13_init_1 : cX13_init.data.toList.drop 24 = dktX13_init_1 := dk_seg dksX13_init_0 24 rfl rfl
theorem dX13_init_0 : decode cX13_init 0 = .ok (.aload_n 0, 1) := dk_42 (dk_at dksX13_init_0 0 rfl rfl)
theorem dX13_init_1 : decode cX13_init 1 = .ok (.aload_n 1, 1) := dk_43 (dk_at dksX13_init_0 1 rfl rfl)
theorem dX13_init_2 : decode cX13_init 2 = .ok (.putfield 3, 3) := dk_181 0 3 (dk_at dksX13_init_0 2 rfl rfl)
theorem dX13_init_5 : decode cX13_init 5 = .ok (.aload_n 0, 1) := dk_42 (dk_at dksX13_init_0 5 rfl rfl)
theorem dX13_init_6 : decode cX13_init 6 = .ok (.invokespecial 9, 3) := dk_183 0 9 (dk_at dksX13_init_0 6 rfl rfl)
theorem dX13_init_9 : decode cX13_init 9 = .ok (.aload_n 0, 1) := dk_42 (dk_at dksX13_init_0 9 rfl rfl)
theorem dX13_init_10 : decode cX13_init 10 = .ok (.iconst (-1), 1) := dk_2 (dk_at dksX13_init_0 10 rfl rfl)
theorem dX13_init_11 : decode cX13_init 11 = .ok (.putfield 15, 3) := dk_181 0 15 (dk_at dksX13_init_0 11 rfl rfl)
theorem dX13_init_14 : decode cX13_init 14 = .ok (.aload_n 0, 1) := dk_42 (dk_at dksX13_init_0 14 rfl rfl)
theorem dX13_init_15 : decode cX13_init 15 = .ok (.iload_n 2, 1) := dk_28 (dk_at dksX13_init_0 15 rfl rfl)
theorem dX13_init_16 : decode cX13_init 16 = .ok (.putfield 19, 3) := dk_181 0 19 (dk_at dksX13_init_0 16 rfl rfl)
theorem dX13_init_19 : decode cX13_init 19 = .ok (.aload_n 0, 1) := dk_42 (dk_at dksX13_init_0 19 rfl rfl)
theorem dX13_init_20 : decode cX13_init 20 = .ok (.iload_n 3, 1) := dk_29 (dk_at dksX13_init_0 20 rfl rfl)
theorem dX13_init_21 : decode cX13_init 21 = .ok (.putfield 22, 3) := dk_181 0 22 (dk_at dksX13_init_0 21 rfl rfl)
theorem dX13_init_24 : decode cX13_init 24 = .ok (.aload_n 0, 1) := dk_42 (dk_at dksX13_init_1 0 rfl rfl)
theorem dX13_init_25 : decode cX13_init 25 = .ok (.iload 4, 2) := dk_21 4 (dk_at dksX13_init_1 1 rfl rfl)
theorem dX13_init_27 : decode cX13_init 27 = .ok (.putfield 25, 3) := dk_181 0 25 (dk_at dksX13_init_1 3 rfl rfl)
theorem dX13_init_30 : decode cX13_init 30 = .ok (.aload_n 0, 1) := dk_42 (dk_at dksX13_init_1 6 rfl rfl)
theorem dX13_init_31 : decode cX13_init 31 = .ok (.aload_n 1, 1) := dk_43 (dk_at dksX13_init_1 7 rfl rfl)
theorem dX13_init_32 : decode cX13_init 32 = .ok (.getfield 29, 3) := dk_180 0 29 (dk_at dksX13_init_1 8 rfl rfl)
theorem dX13_init_35 : decode cX13_init 35 = .ok (.putfield 32, 3) := dk_181 0 32 (dk_at dksX13_init_1 11 rfl rfl)
theorem dX13_init_38 : decode cX13_init 38 = .ok (.return_, 1) := dk_177 (dk_at dksX13_init_1 14 rfl rfl)
abbrev cX13_untell : ByteArray := prog_13_method_2_code
def yX13_untell : MethodName := ⟨RX13, "untell", "()Z"⟩
def dkwX13_untell_0 : List UInt8 := [42, 180, 0, 15, 155, 0, 5, 3, 172, 42, 42, 180, 0, 3, 180, 0, 29, 181, 0, 15, 4, 172]
abbrev dktX13_untell_0 : List UInt8 := dkwX13_untell_0 ++ []
theorem dksX13_untell_0 : cX13_untell.data.toList.drop 0 = dktX13_untell_0 := by decide +kernel
theorem dX13_untell_0 : decode cX13_untell 0 = .ok (.aload_n 0, 1) := dk_42 (dk_at dksX13_untell_0 0 rfl rfl)
theorem dX13_untell_1 : decode cX13_untell 1 = .ok (.getfield 15, 3) := dk_180 0 15 (dk_at dksX13_untell_0 1 rfl rfl)
theorem dX13_untell_4 : decode cX13_untell 4 = .ok (.ifCond .lt 5, 3) := dk_155 0 5 (dk_at dksX13_untell_0 4 rfl rfl)
theorem dX13_untell_7 : decode cX13_untell 7 = .ok (.iconst 0, 1) := dk_3 (dk_at dksX13_untell_0 7 rfl rfl)
theorem dX13_untell_8 : decode cX13_untell 8 = .ok (.ireturn, 1) := dk_172 (dk_at dksX13_untell_0 8 rfl rfl)
theorem dX13_untell_9 : decode cX13_untell 9 = .ok (.aload_n 0, 1) := dk_42 (dk_at dksX13_untell_0 9 rfl rfl)
theorem dX13_untell_10 : decode cX13_untell 10 = .ok (.aload_n 0, 1) := dk_42 (dk_at dksX13_untell_0 10 rfl rfl)
theorem dX13_untell_11 : decode cX13_untell 11 = .ok (.getfield 3, 3) := dk_180 0 3 (dk_at dksX13_untell_0 11 rfl rfl)
theorem dX13_untell_14 : decode cX13_untell 14 = .ok (.getfield 29, 3) := dk_180 0 29 (dk_at dksX13_untell_0 14 rfl rfl)
theorem dX13_untell_17 : decode cX13_untell 17 = .ok (.putfield 15, 3) := dk_181 0 15 (dk_at dksX13_untell_0 17 rfl rfl)
theorem dX13_untell_20 : decode cX13_untell 20 = .ok (.iconst 1, 1) := dk_4 (dk_at dksX13_untell_0 20 rfl rfl)
theorem dX13_untell_21 : decode cX13_untell 21 = .ok (.ireturn, 1) := dk_172 (dk_at dksX13_untell_0 21 rfl rfl)
abbrev cX13_allows : ByteArray := prog_13_method_3_code
def yX13_allows : MethodName := ⟨RX13, "allows", "(II)Z"⟩
def dkwX13_allows_2 : List UInt8 := [3, 42, 180, 0, 25, 160, 0, 7, 4, 167, 0, 4, 3, 172]
abbrev dktX13_allows_2 : List UInt8 := dkwX13_allows_2 ++ []
def dkwX13_allows_1 : List UInt8 := [180, 0, 3, 180, 0, 35, 27, 50, 42, 180, 0, 19, 46, 42, 180, 0, 22, 161, 0, 7, 4, 167, 0, 4]
abbrev dktX13_allows_1 : List UInt8 := dkwX13_allows_1 ++ dktX13_allows_2
def dkwX13_allows_0 : List UInt8 := [42, 180, 0, 32, 28, 163, 0, 51, 42, 180, 0, 15, 155, 0, 11, 42, 180, 0, 15, 28, 164, 0, 36, 42]
abbrev dktX13_allows_0 : List UInt8 := dkwX13_allows_0 ++ dktX13_allows_1
theorem dksX13_allows_0 : cX13_allows.data.toList.drop 0 = dktX13_allows_0 := by decide +kernel
theorem dksX13_allows_1 : cX13_allows.data.toList.drop 24 = dktX13_allows_1 := dk_seg dksX13_allows_0 24 rfl rfl
theorem dksX13_allows_2 : cX13_allows.data.toList.drop 48 = dktX13_allows_2 := dk_seg dksX13_allows_1 24 rfl rfl
theorem dX13_allows_0 : decode cX13_allows 0 = .ok (.aload_n 0, 1) := dk_42 (dk_at dksX13_allows_0 0 rfl rfl)
theorem dX13_allows_1 : decode cX13_allows 1 = .ok (.getfield 32, 3) := dk_180 0 32 (dk_at dksX13_allows_0 1 rfl rfl)
theorem dX13_allows_4 : decode cX13_allows 4 = .ok (.iload_n 2, 1) := dk_28 (dk_at dksX13_allows_0 4 rfl rfl)
theorem dX13_allows_5 : decode cX13_allows 5 = .ok (.if_icmp .gt 51, 3) := dk_163 0 51 (dk_at dksX13_allows_0 5 rfl rfl)
theorem dX13_allows_8 : decode cX13_allows 8 = .ok (.aload_n 0, 1) := dk_42 (dk_at dksX13_allows_0 8 rfl rfl)
theorem dX13_allows_9 : decode cX13_allows 9 = .ok (.getfield 15, 3) := dk_180 0 15 (dk_at dksX13_allows_0 9 rfl rfl)
theorem dX13_allows_12 : decode cX13_allows 12 = .ok (.ifCond .lt 11, 3) := dk_155 0 11 (dk_at dksX13_allows_0 12 rfl rfl)
theorem dX13_allows_15 : decode cX13_allows 15 = .ok (.aload_n 0, 1) := dk_42 (dk_at dksX13_allows_0 15 rfl rfl)
theorem dX13_allows_16 : decode cX13_allows 16 = .ok (.getfield 15, 3) := dk_180 0 15 (dk_at dksX13_allows_0 16 rfl rfl)
theorem dX13_allows_19 : decode cX13_allows 19 = .ok (.iload_n 2, 1) := dk_28 (dk_at dksX13_allows_0 19 rfl rfl)
theorem dX13_allows_20 : decode cX13_allows 20 = .ok (.if_icmp .le 36, 3) := dk_164 0 36 (dk_at dksX13_allows_0 20 rfl rfl)
theorem dX13_allows_23 : decode cX13_allows 23 = .ok (.aload_n 0, 1) := dk_42 (dk_at dksX13_allows_0 23 rfl rfl)
theorem dX13_allows_24 : decode cX13_allows 24 = .ok (.getfield 3, 3) := dk_180 0 3 (dk_at dksX13_allows_1 0 rfl rfl)
theorem dX13_allows_27 : decode cX13_allows 27 = .ok (.getfield 35, 3) := dk_180 0 35 (dk_at dksX13_allows_1 3 rfl rfl)
theorem dX13_allows_30 : decode cX13_allows 30 = .ok (.iload_n 1, 1) := dk_27 (dk_at dksX13_allows_1 6 rfl rfl)
theorem dX13_allows_31 : decode cX13_allows 31 = .ok (.aaload, 1) := dk_50 (dk_at dksX13_allows_1 7 rfl rfl)
theorem dX13_allows_32 : decode cX13_allows 32 = .ok (.aload_n 0, 1) := dk_42 (dk_at dksX13_allows_1 8 rfl rfl)
theorem dX13_allows_33 : decode cX13_allows 33 = .ok (.getfield 19, 3) := dk_180 0 19 (dk_at dksX13_allows_1 9 rfl rfl)
theorem dX13_allows_36 : decode cX13_allows 36 = .ok (.iaload, 1) := dk_46 (dk_at dksX13_allows_1 12 rfl rfl)
theorem dX13_allows_37 : decode cX13_allows 37 = .ok (.aload_n 0, 1) := dk_42 (dk_at dksX13_allows_1 13 rfl rfl)
theorem dX13_allows_38 : decode cX13_allows 38 = .ok (.getfield 22, 3) := dk_180 0 22 (dk_at dksX13_allows_1 14 rfl rfl)
theorem dX13_allows_41 : decode cX13_allows 41 = .ok (.if_icmp .lt 7, 3) := dk_161 0 7 (dk_at dksX13_allows_1 17 rfl rfl)
theorem dX13_allows_44 : decode cX13_allows 44 = .ok (.iconst 1, 1) := dk_4 (dk_at dksX13_allows_1 20 rfl rfl)
theorem dX13_allows_45 : decode cX13_allows 45 = .ok (.goto 4, 3) := dk_167 0 4 (dk_at dksX13_allows_1 21 rfl rfl)
theorem dX13_allows_48 : decode cX13_allows 48 = .ok (.iconst 0, 1) := dk_3 (dk_at dksX13_allows_2 0 rfl rfl)
theorem dX13_allows_49 : decode cX13_allows 49 = .ok (.aload_n 0, 1) := dk_42 (dk_at dksX13_allows_2 1 rfl rfl)
theorem dX13_allows_50 : decode cX13_allows 50 = .ok (.getfield 25, 3) := dk_180 0 25 (dk_at dksX13_allows_2 2 rfl rfl)
theorem dX13_allows_53 : decode cX13_allows 53 = .ok (.if_icmp .ne 7, 3) := dk_160 0 7 (dk_at dksX13_allows_2 5 rfl rfl)
theorem dX13_allows_56 : decode cX13_allows 56 = .ok (.iconst 1, 1) := dk_4 (dk_at dksX13_allows_2 8 rfl rfl)
theorem dX13_allows_57 : decode cX13_allows 57 = .ok (.goto 4, 3) := dk_167 0 4 (dk_at dksX13_allows_2 9 rfl rfl)
theorem dX13_allows_60 : decode cX13_allows 60 = .ok (.iconst 0, 1) := dk_3 (dk_at dksX13_allows_2 12 rfl rfl)
theorem dX13_allows_61 : decode cX13_allows 61 = .ok (.ireturn, 1) := dk_172 (dk_at dksX13_allows_2 13 rfl rfl)
theorem q168 : (Jvm.Cond.initialized "PepperTables$Noise") ∈ lw_all := lw_g (lw_at lw_m1 33 rfl) rfl
theorem q356 : (Jvm.Cond.fieldLinkNest "PepperTables$Noise" (29 : Nat) "PepperTables" "time" "I" "PepperTables") ∈ lw_tbl := lw_at lw_m1 221 rfl
theorem q369 : (Jvm.Cond.fieldLinkNest "PepperTables$Noise" (35 : Nat) "PepperTables" "counts" "[[I" "PepperTables") ∈ lw_tbl := lw_at lw_m1 234 rfl
theorem q938 : (Jvm.Cond.selects "PepperTables$Noise" ({ cls := "java/lang/Object", name := "getClass", desc := "()Ljava/lang/Class;" } : Jvm.MethodName) ({ cls := "java/lang/Object", name := "getClass", desc := "()Ljava/lang/Class;" } : Jvm.MethodName)) ∈ lw_all := lw_g (lw_at lw_m4 83 rfl) rfl
theorem q1549 : (Jvm.Cond.instantiable "PepperTables$Noise" (6 : Nat)) ∈ lw_all := lw_g (lw_at lw_m6 214 rfl) rfl
theorem q1551 : (Jvm.Cond.instanceMethod ({ cls := "PepperTables$Noise", name := "<init>", desc := "(LPepperTables;IIZ)V" } : Jvm.MethodName)) ∈ lw_all := lw_g (lw_at lw_m6 216 rfl) rfl
theorem q1552 : (Jvm.Cond.code ({ cls := "PepperTables$Noise", name := "<init>", desc := "(LPepperTables;IIZ)V" } : Jvm.MethodName) prog_13_method_1_code (5 : Nat) (Option.none : Option Jvm.ClassFile.FieldType)) ∈ lw_all := lw_g (lw_at lw_m6 217 rfl) rfl
theorem q1553 : (Jvm.Cond.methodLink "PepperTables$Noise" (9 : Nat) ({ cls := "java/lang/Object", name := "<init>", desc := "()V" } : Jvm.MethodName)) ∈ lw_all := lw_g (lw_at lw_m6 218 rfl) rfl
theorem q1554 : (Jvm.Cond.fieldLink "PepperTables$Noise" (19 : Nat) "PepperTables$Noise" "sack" "I") ∈ lw_all := lw_g (lw_at lw_m6 219 rfl) rfl
theorem q1555 : (Jvm.Cond.fieldLink "PepperTables$Noise" (22 : Nat) "PepperTables$Noise" "many" "I") ∈ lw_all := lw_g (lw_at lw_m6 220 rfl) rfl
theorem q1556 : (Jvm.Cond.fieldLink "PepperTables$Noise" (32 : Nat) "PepperTables$Noise" "told" "I") ∈ lw_all := lw_g (lw_at lw_m6 221 rfl) rfl
theorem q1557 : (Jvm.Cond.fieldLink "PepperTables$Noise" (25 : Nat) "PepperTables$Noise" "is" "Z") ∈ lw_all := lw_g (lw_at lw_m6 222 rfl) rfl
theorem q1558 : (Jvm.Cond.fieldLink "PepperTables$Noise" (15 : Nat) "PepperTables$Noise" "untold" "I") ∈ lw_all := lw_g (lw_at lw_m6 223 rfl) rfl
theorem q1559 : (Jvm.Cond.fieldLink "PepperTables$Noise" (3 : Nat) "PepperTables$Noise" "this$0" "LPepperTables;") ∈ lw_all := lw_g (lw_at lw_m6 224 rfl) rfl
theorem q1560 : (Jvm.Cond.laysFinal "PepperTables$Noise" "PepperTables$Noise" "sack" "I") ∈ lw_all := lw_g (lw_at lw_m6 225 rfl) rfl
theorem q1561 : (Jvm.Cond.soleField "PepperTables$Noise" "sack") ∈ lw_all := lw_g (lw_at lw_m6 226 rfl) rfl
theorem q1562 : (Jvm.Cond.laysFinal "PepperTables$Noise" "PepperTables$Noise" "many" "I") ∈ lw_all := lw_g (lw_at lw_m6 227 rfl) rfl
theorem q1563 : (Jvm.Cond.soleField "PepperTables$Noise" "many") ∈ lw_all := lw_g (lw_at lw_m6 228 rfl) rfl
theorem q1564 : (Jvm.Cond.laysFinal "PepperTables$Noise" "PepperTables$Noise" "told" "I") ∈ lw_all := lw_g (lw_at lw_m6 229 rfl) rfl
theorem q1565 : (Jvm.Cond.soleField "PepperTables$Noise" "told") ∈ lw_all := lw_g (lw_at lw_m6 230 rfl) rfl
theorem q1566 : (Jvm.Cond.laysFinal "PepperTables$Noise" "PepperTables$Noise" "is" "Z") ∈ lw_all := lw_g (lw_at lw_m6 231 rfl) rfl
theorem q1567 : (Jvm.Cond.soleField "PepperTables$Noise" "is") ∈ lw_all := lw_g (lw_at lw_m6 232 rfl) rfl
theorem q1568 : (Jvm.Cond.lays "PepperTables$Noise" "PepperTables$Noise" "untold" "I") ∈ lw_all := lw_g (lw_at lw_m6 233 rfl) rfl
theorem q1569 : (Jvm.Cond.soleField "PepperTables$Noise" "untold") ∈ lw_all := lw_g (lw_at lw_m6 234 rfl) rfl
theorem q1570 : (Jvm.Cond.laysFinal "PepperTables$Noise" "PepperTables$Noise" "this$0" "LPepperTables;") ∈ lw_all := lw_g (lw_at lw_m6 235 rfl) rfl
theorem q1571 : (Jvm.Cond.soleField "PepperTables$Noise" "this$0") ∈ lw_all := lw_g (lw_at lw_m6 236 rfl) rfl
theorem q1572 : (Jvm.Cond.superclass "PepperTables$Noise" "java/lang/Object") ∈ lw_all := lw_g (lw_at lw_m6 237 rfl) rfl
theorem q1579 : (Jvm.Cond.instanceMethod ({ cls := "PepperTables$Noise", name := "untell", desc := "()Z" } : Jvm.MethodName)) ∈ lw_all := lw_g (lw_at lw_m7 4 rfl) rfl
theorem q1580 : (Jvm.Cond.selects "PepperTables$Noise" ({ cls := "PepperTables$Noise", name := "untell", desc := "()Z" } : Jvm.MethodName) ({ cls := "PepperTables$Noise", name := "untell", desc := "()Z" } : Jvm.MethodName)) ∈ lw_all := lw_g (lw_at lw_m7 5 rfl) rfl
theorem q1581 : (Jvm.Cond.code ({ cls := "PepperTables$Noise", name := "untell", desc := "()Z" } : Jvm.MethodName) prog_13_method_2_code (1 : Nat) (Option.some Jvm.ClassFile.FieldType.boolean)) ∈ lw_all := lw_g (lw_at lw_m7 6 rfl) rfl
theorem q1608 : (Jvm.Cond.instanceMethod ({ cls := "PepperTables$Noise", name := "allows", desc := "(II)Z" } : Jvm.MethodName)) ∈ lw_all := lw_g (lw_at lw_m7 33 rfl) rfl
theorem q1609 : (Jvm.Cond.selects "PepperTables$Noise" ({ cls := "PepperTables$Noise", name := "allows", desc := "(II)Z" } : Jvm.MethodName) ({ cls := "PepperTables$Noise", name := "allows", desc := "(II)Z" } : Jvm.MethodName)) ∈ lw_all := lw_g (lw_at lw_m7 34 rfl) rfl
theorem q1610 : (Jvm.Cond.code ({ cls := "PepperTables$Noise", name := "allows", desc := "(II)Z" } : Jvm.MethodName) prog_13_method_3_code (3 : Nat) (Option.some Jvm.ClassFile.FieldType.boolean)) ∈ lw_all := lw_g (lw_at lw_m7 35 rfl) rfl
theorem q2435 : (Jvm.Cond.castable "PepperTables$Noise" "java/lang/Object") ∈ lw_tbl := lw_at lw_m10 140 rfl
theorem in_X13 : ∀ w ∈ wsX130, w ∈ lw_all := lw_in wsX130 [1560, 1562, 1564, 1566, 1568, 1570] (by decide +kernel) (by decide +kernel)

/-! PepperTables$Asked$1 -/
set_option maxRecDepth 100000
def RX14 : String := "PepperTables$Asked$1"
abbrev cX14_of : ByteArray := prog_4_method_2_code
def yX14_of : MethodName := ⟨RX14, "of", "(LPepperTables$Ask;)I"⟩
theorem dX14_of_0 : decode cX14_of 0 = .ok (.aload_n 1, 1) := by decide +kernel
theorem dX14_of_1 : decode cX14_of 1 = .ok (.getfield 7, 3) := by decide +kernel
theorem dX14_of_4 : decode cX14_of 4 = .ok (.ireturn, 1) := by decide +kernel
theorem q218 : (Jvm.Cond.fieldLink "PepperTables$Asked$1" (7 : Nat) "PepperTables$Ask" "hot" "I") ∈ lw_all := lw_g (lw_at lw_m1 83 rfl) rfl
theorem q930 : (Jvm.Cond.selects "PepperTables$Asked$1" ({ cls := "java/lang/Object", name := "getClass", desc := "()Ljava/lang/Class;" } : Jvm.MethodName) ({ cls := "java/lang/Object", name := "getClass", desc := "()Ljava/lang/Class;" } : Jvm.MethodName)) ∈ lw_all := lw_g (lw_at lw_m4 75 rfl) rfl
theorem q1225 : (Jvm.Cond.castable "PepperTables$Asked$1" "PepperTables$Node") ∈ lw_tbl := lw_at lw_m5 130 rfl
theorem q1226 : (Jvm.Cond.selects "PepperTables$Asked$1" ({ cls := "PepperTables$Node", name := "of", desc := "(LPepperTables$Ask;)I" } : Jvm.MethodName) ({ cls := "PepperTables$Asked$1", name := "of", desc := "(LPepperTables$Ask;)I" } : Jvm.MethodName)) ∈ lw_all := lw_g (lw_at lw_m5 131 rfl) rfl
theorem q1227 : (Jvm.Cond.unhidden "PepperTables$Asked$1" "of" "(LPepperTables$Ask;)I") ∈ lw_tbl := lw_at lw_m5 132 rfl
theorem q1228 : (Jvm.Cond.instanceMethod ({ cls := "PepperTables$Asked$1", name := "of", desc := "(LPepperTables$Ask;)I" } : Jvm.MethodName)) ∈ lw_all := lw_g (lw_at lw_m5 133 rfl) rfl
theorem q1229 : (Jvm.Cond.publicMethod ({ cls := "PepperTables$Asked$1", name := "of", desc := "(LPepperTables$Ask;)I" } : Jvm.MethodName)) ∈ lw_tbl := lw_at lw_m5 134 rfl
theorem q1230 : (Jvm.Cond.code ({ cls := "PepperTables$Asked$1", name := "of", desc := "(LPepperTables$Ask;)I" } : Jvm.MethodName) prog_4_method_2_code (2 : Nat) (Option.some Jvm.ClassFile.FieldType.int)) ∈ lw_all := lw_g (lw_at lw_m5 135 rfl) rfl
theorem q2427 : (Jvm.Cond.castable "PepperTables$Asked$1" "java/lang/Object") ∈ lw_tbl := lw_at lw_m10 132 rfl

/-! PepperTables$Asked$2 -/
set_option maxRecDepth 100000
def RX15 : String := "PepperTables$Asked$2"
abbrev cX15_of : ByteArray := prog_5_method_2_code
def yX15_of : MethodName := ⟨RX15, "of", "(LPepperTables$Ask;)I"⟩
theorem dX15_of_0 : decode cX15_of 0 = .ok (.aload_n 1, 1) := by decide +kernel
theorem dX15_of_1 : decode cX15_of 1 = .ok (.getfield 7, 3) := by decide +kernel
theorem dX15_of_4 : decode cX15_of 4 = .ok (.ireturn, 1) := by decide +kernel
theorem q220 : (Jvm.Cond.fieldLink "PepperTables$Asked$2" (7 : Nat) "PepperTables$Ask" "shy" "I") ∈ lw_all := lw_g (lw_at lw_m1 85 rfl) rfl
theorem q931 : (Jvm.Cond.selects "PepperTables$Asked$2" ({ cls := "java/lang/Object", name := "getClass", desc := "()Ljava/lang/Class;" } : Jvm.MethodName) ({ cls := "java/lang/Object", name := "getClass", desc := "()Ljava/lang/Class;" } : Jvm.MethodName)) ∈ lw_all := lw_g (lw_at lw_m4 76 rfl) rfl
theorem q1231 : (Jvm.Cond.castable "PepperTables$Asked$2" "PepperTables$Node") ∈ lw_tbl := lw_at lw_m5 136 rfl
theorem q1232 : (Jvm.Cond.selects "PepperTables$Asked$2" ({ cls := "PepperTables$Node", name := "of", desc := "(LPepperTables$Ask;)I" } : Jvm.MethodName) ({ cls := "PepperTables$Asked$2", name := "of", desc := "(LPepperTables$Ask;)I" } : Jvm.MethodName)) ∈ lw_all := lw_g (lw_at lw_m5 137 rfl) rfl
theorem q1233 : (Jvm.Cond.unhidden "PepperTables$Asked$2" "of" "(LPepperTables$Ask;)I") ∈ lw_tbl := lw_at lw_m5 138 rfl
theorem q1234 : (Jvm.Cond.instanceMethod ({ cls := "PepperTables$Asked$2", name := "of", desc := "(LPepperTables$Ask;)I" } : Jvm.MethodName)) ∈ lw_all := lw_g (lw_at lw_m5 139 rfl) rfl
theorem q1235 : (Jvm.Cond.publicMethod ({ cls := "PepperTables$Asked$2", name := "of", desc := "(LPepperTables$Ask;)I" } : Jvm.MethodName)) ∈ lw_tbl := lw_at lw_m5 140 rfl
theorem q1236 : (Jvm.Cond.code ({ cls := "PepperTables$Asked$2", name := "of", desc := "(LPepperTables$Ask;)I" } : Jvm.MethodName) prog_5_method_2_code (2 : Nat) (Option.some Jvm.ClassFile.FieldType.int)) ∈ lw_all := lw_g (lw_at lw_m5 141 rfl) rfl
theorem q2428 : (Jvm.Cond.castable "PepperTables$Asked$2" "java/lang/Object") ∈ lw_tbl := lw_at lw_m10 133 rfl

/-! PepperTables$Asked$3 -/
set_option maxRecDepth 100000
def RX16 : String := "PepperTables$Asked$3"
abbrev cX16_of : ByteArray := prog_6_method_2_code
def yX16_of : MethodName := ⟨RX16, "of", "(LPepperTables$Ask;)I"⟩
theorem dX16_of_0 : decode cX16_of 0 = .ok (.aload_n 1, 1) := by decide +kernel
theorem dX16_of_1 : decode cX16_of 1 = .ok (.getfield 7, 3) := by decide +kernel
theorem dX16_of_4 : decode cX16_of 4 = .ok (.ireturn, 1) := by decide +kernel
theorem q222 : (Jvm.Cond.fieldLink "PepperTables$Asked$3" (7 : Nat) "PepperTables$Ask" "guests" "I") ∈ lw_all := lw_g (lw_at lw_m1 87 rfl) rfl
theorem q932 : (Jvm.Cond.selects "PepperTables$Asked$3" ({ cls := "java/lang/Object", name := "getClass", desc := "()Ljava/lang/Class;" } : Jvm.MethodName) ({ cls := "java/lang/Object", name := "getClass", desc := "()Ljava/lang/Class;" } : Jvm.MethodName)) ∈ lw_all := lw_g (lw_at lw_m4 77 rfl) rfl
theorem q1237 : (Jvm.Cond.castable "PepperTables$Asked$3" "PepperTables$Node") ∈ lw_tbl := lw_at lw_m5 142 rfl
theorem q1238 : (Jvm.Cond.selects "PepperTables$Asked$3" ({ cls := "PepperTables$Node", name := "of", desc := "(LPepperTables$Ask;)I" } : Jvm.MethodName) ({ cls := "PepperTables$Asked$3", name := "of", desc := "(LPepperTables$Ask;)I" } : Jvm.MethodName)) ∈ lw_all := lw_g (lw_at lw_m5 143 rfl) rfl
theorem q1239 : (Jvm.Cond.unhidden "PepperTables$Asked$3" "of" "(LPepperTables$Ask;)I") ∈ lw_tbl := lw_at lw_m5 144 rfl
theorem q1240 : (Jvm.Cond.instanceMethod ({ cls := "PepperTables$Asked$3", name := "of", desc := "(LPepperTables$Ask;)I" } : Jvm.MethodName)) ∈ lw_all := lw_g (lw_at lw_m5 145 rfl) rfl
theorem q1241 : (Jvm.Cond.publicMethod ({ cls := "PepperTables$Asked$3", name := "of", desc := "(LPepperTables$Ask;)I" } : Jvm.MethodName)) ∈ lw_tbl := lw_at lw_m5 146 rfl
theorem q1242 : (Jvm.Cond.code ({ cls := "PepperTables$Asked$3", name := "of", desc := "(LPepperTables$Ask;)I" } : Jvm.MethodName) prog_6_method_2_code (2 : Nat) (Option.some Jvm.ClassFile.FieldType.int)) ∈ lw_all := lw_g (lw_at lw_m5 147 rfl) rfl
theorem q2429 : (Jvm.Cond.castable "PepperTables$Asked$3" "java/lang/Object") ∈ lw_tbl := lw_at lw_m10 134 rfl

/-! PepperTables$Asked$4 -/
set_option maxRecDepth 100000
def RX17 : String := "PepperTables$Asked$4"
abbrev cX17_of : ByteArray := prog_7_method_2_code
def yX17_of : MethodName := ⟨RX17, "of", "(LPepperTables$Ask;)I"⟩
theorem dX17_of_0 : decode cX17_of 0 = .ok (.aload_n 1, 1) := by decide +kernel
theorem dX17_of_1 : decode cX17_of 1 = .ok (.getfield 7, 3) := by decide +kernel
theorem dX17_of_4 : decode cX17_of 4 = .ok (.ireturn, 1) := by decide +kernel
theorem q224 : (Jvm.Cond.fieldLink "PepperTables$Asked$4" (7 : Nat) "PepperTables$Ask" "ground" "I") ∈ lw_all := lw_g (lw_at lw_m1 89 rfl) rfl
theorem q933 : (Jvm.Cond.selects "PepperTables$Asked$4" ({ cls := "java/lang/Object", name := "getClass", desc := "()Ljava/lang/Class;" } : Jvm.MethodName) ({ cls := "java/lang/Object", name := "getClass", desc := "()Ljava/lang/Class;" } : Jvm.MethodName)) ∈ lw_all := lw_g (lw_at lw_m4 78 rfl) rfl
theorem q1243 : (Jvm.Cond.castable "PepperTables$Asked$4" "PepperTables$Node") ∈ lw_tbl := lw_at lw_m5 148 rfl
theorem q1244 : (Jvm.Cond.selects "PepperTables$Asked$4" ({ cls := "PepperTables$Node", name := "of", desc := "(LPepperTables$Ask;)I" } : Jvm.MethodName) ({ cls := "PepperTables$Asked$4", name := "of", desc := "(LPepperTables$Ask;)I" } : Jvm.MethodName)) ∈ lw_all := lw_g (lw_at lw_m5 149 rfl) rfl
theorem q1245 : (Jvm.Cond.unhidden "PepperTables$Asked$4" "of" "(LPepperTables$Ask;)I") ∈ lw_tbl := lw_at lw_m5 150 rfl
theorem q1246 : (Jvm.Cond.instanceMethod ({ cls := "PepperTables$Asked$4", name := "of", desc := "(LPepperTables$Ask;)I" } : Jvm.MethodName)) ∈ lw_all := lw_g (lw_at lw_m5 151 rfl) rfl
theorem q1247 : (Jvm.Cond.publicMethod ({ cls := "PepperTables$Asked$4", name := "of", desc := "(LPepperTables$Ask;)I" } : Jvm.MethodName)) ∈ lw_tbl := lw_at lw_m5 152 rfl
theorem q1248 : (Jvm.Cond.code ({ cls := "PepperTables$Asked$4", name := "of", desc := "(LPepperTables$Ask;)I" } : Jvm.MethodName) prog_7_method_2_code (2 : Nat) (Option.some Jvm.ClassFile.FieldType.int)) ∈ lw_all := lw_g (lw_at lw_m5 153 rfl) rfl
theorem q2430 : (Jvm.Cond.castable "PepperTables$Asked$4" "java/lang/Object") ∈ lw_tbl := lw_at lw_m10 135 rfl

/-! PepperTables$Asked$5 -/
set_option maxRecDepth 100000
def RX18 : String := "PepperTables$Asked$5"
abbrev cX18_of : ByteArray := prog_8_method_2_code
def yX18_of : MethodName := ⟨RX18, "of", "(LPepperTables$Ask;)I"⟩
theorem dX18_of_0 : decode cX18_of 0 = .ok (.aload_n 1, 1) := by decide +kernel
theorem dX18_of_1 : decode cX18_of 1 = .ok (.getfield 7, 3) := by decide +kernel
theorem dX18_of_4 : decode cX18_of 4 = .ok (.ireturn, 1) := by decide +kernel
theorem q226 : (Jvm.Cond.fieldLink "PepperTables$Asked$5" (7 : Nat) "PepperTables$Ask" "heat" "I") ∈ lw_all := lw_g (lw_at lw_m1 91 rfl) rfl
theorem q934 : (Jvm.Cond.selects "PepperTables$Asked$5" ({ cls := "java/lang/Object", name := "getClass", desc := "()Ljava/lang/Class;" } : Jvm.MethodName) ({ cls := "java/lang/Object", name := "getClass", desc := "()Ljava/lang/Class;" } : Jvm.MethodName)) ∈ lw_all := lw_g (lw_at lw_m4 79 rfl) rfl
theorem q1249 : (Jvm.Cond.castable "PepperTables$Asked$5" "PepperTables$Node") ∈ lw_tbl := lw_at lw_m5 154 rfl
theorem q1250 : (Jvm.Cond.selects "PepperTables$Asked$5" ({ cls := "PepperTables$Node", name := "of", desc := "(LPepperTables$Ask;)I" } : Jvm.MethodName) ({ cls := "PepperTables$Asked$5", name := "of", desc := "(LPepperTables$Ask;)I" } : Jvm.MethodName)) ∈ lw_all := lw_g (lw_at lw_m5 155 rfl) rfl
theorem q1251 : (Jvm.Cond.unhidden "PepperTables$Asked$5" "of" "(LPepperTables$Ask;)I") ∈ lw_tbl := lw_at lw_m5 156 rfl
theorem q1252 : (Jvm.Cond.instanceMethod ({ cls := "PepperTables$Asked$5", name := "of", desc := "(LPepperTables$Ask;)I" } : Jvm.MethodName)) ∈ lw_all := lw_g (lw_at lw_m5 157 rfl) rfl
theorem q1253 : (Jvm.Cond.publicMethod ({ cls := "PepperTables$Asked$5", name := "of", desc := "(LPepperTables$Ask;)I" } : Jvm.MethodName)) ∈ lw_tbl := lw_at lw_m5 158 rfl
theorem q1254 : (Jvm.Cond.code ({ cls := "PepperTables$Asked$5", name := "of", desc := "(LPepperTables$Ask;)I" } : Jvm.MethodName) prog_8_method_2_code (2 : Nat) (Option.some Jvm.ClassFile.FieldType.int)) ∈ lw_all := lw_g (lw_at lw_m5 159 rfl) rfl
theorem q2431 : (Jvm.Cond.castable "PepperTables$Asked$5" "java/lang/Object") ∈ lw_tbl := lw_at lw_m10 136 rfl

/-! PepperTables$Asked$6 -/
set_option maxRecDepth 100000
def RX19 : String := "PepperTables$Asked$6"
abbrev cX19_of : ByteArray := prog_9_method_2_code
def yX19_of : MethodName := ⟨RX19, "of", "(LPepperTables$Ask;)I"⟩
theorem dX19_of_0 : decode cX19_of 0 = .ok (.aload_n 1, 1) := by decide +kernel
theorem dX19_of_1 : decode cX19_of 1 = .ok (.getfield 7, 3) := by decide +kernel
theorem dX19_of_4 : decode cX19_of 4 = .ok (.ireturn, 1) := by decide +kernel
theorem q228 : (Jvm.Cond.fieldLink "PepperTables$Asked$6" (7 : Nat) "PepperTables$Ask" "course" "I") ∈ lw_all := lw_g (lw_at lw_m1 93 rfl) rfl
theorem q935 : (Jvm.Cond.selects "PepperTables$Asked$6" ({ cls := "java/lang/Object", name := "getClass", desc := "()Ljava/lang/Class;" } : Jvm.MethodName) ({ cls := "java/lang/Object", name := "getClass", desc := "()Ljava/lang/Class;" } : Jvm.MethodName)) ∈ lw_all := lw_g (lw_at lw_m4 80 rfl) rfl
theorem q1255 : (Jvm.Cond.castable "PepperTables$Asked$6" "PepperTables$Node") ∈ lw_tbl := lw_at lw_m5 160 rfl
theorem q1256 : (Jvm.Cond.selects "PepperTables$Asked$6" ({ cls := "PepperTables$Node", name := "of", desc := "(LPepperTables$Ask;)I" } : Jvm.MethodName) ({ cls := "PepperTables$Asked$6", name := "of", desc := "(LPepperTables$Ask;)I" } : Jvm.MethodName)) ∈ lw_all := lw_g (lw_at lw_m5 161 rfl) rfl
theorem q1257 : (Jvm.Cond.unhidden "PepperTables$Asked$6" "of" "(LPepperTables$Ask;)I") ∈ lw_tbl := lw_at lw_m5 162 rfl
theorem q1258 : (Jvm.Cond.instanceMethod ({ cls := "PepperTables$Asked$6", name := "of", desc := "(LPepperTables$Ask;)I" } : Jvm.MethodName)) ∈ lw_all := lw_g (lw_at lw_m5 163 rfl) rfl
theorem q1259 : (Jvm.Cond.publicMethod ({ cls := "PepperTables$Asked$6", name := "of", desc := "(LPepperTables$Ask;)I" } : Jvm.MethodName)) ∈ lw_tbl := lw_at lw_m5 164 rfl
theorem q1260 : (Jvm.Cond.code ({ cls := "PepperTables$Asked$6", name := "of", desc := "(LPepperTables$Ask;)I" } : Jvm.MethodName) prog_9_method_2_code (2 : Nat) (Option.some Jvm.ClassFile.FieldType.int)) ∈ lw_all := lw_g (lw_at lw_m5 165 rfl) rfl
theorem q2432 : (Jvm.Cond.castable "PepperTables$Asked$6" "java/lang/Object") ∈ lw_tbl := lw_at lw_m10 137 rfl

theorem q135 : (Jvm.Cond.initialized "PepperTablesLaw") ∈ lw_all := lw_g (lw_at lw_m1 0 rfl) rfl
set_option maxRecDepth 100000
theorem q169 : (Jvm.Cond.classLink "PepperTablesLaw" (7 : Nat) "PepperTables") ∈ lw_all := lw_g (lw_at lw_m1 34 rfl) rfl
theorem q171 : (Jvm.Cond.methodLink "PepperTablesLaw" (9 : Nat) ({ cls := "PepperTables", name := "<init>", desc := "()V" } : Jvm.MethodName)) ∈ lw_all := lw_g (lw_at lw_m1 36 rfl) rfl
theorem q424 : (Jvm.Cond.methodLink "PepperTablesLaw" (13 : Nat) ({ cls := "PepperTables", name := "feed", desc := "(IIIII)I" } : Jvm.MethodName)) ∈ lw_all := lw_g (lw_at lw_m2 49 rfl) rfl
theorem q428 : (Jvm.Cond.methodLink "PepperTablesLaw" (18 : Nat) ({ cls := "PepperTables", name := "end", desc := "(I)I" } : Jvm.MethodName)) ∈ lw_all := lw_g (lw_at lw_m2 53 rfl) rfl
theorem q432 : (Jvm.Cond.methodLink "PepperTablesLaw" (23 : Nat) ({ cls := "PepperTables", name := "store", desc := "()I" } : Jvm.MethodName)) ∈ lw_all := lw_g (lw_at lw_m2 57 rfl) rfl
theorem q1097 : (Jvm.Cond.methodLink "PepperTablesLaw" (28 : Nat) ({ cls := "PepperTables", name := "fault", desc := "(I)I" } : Jvm.MethodName)) ∈ lw_all := lw_g (lw_at lw_m5 2 rfl) rfl
theorem q1101 : (Jvm.Cond.methodLink "PepperTablesLaw" (32 : Nat) ({ cls := "PepperTables", name := "person", desc := "(II)I" } : Jvm.MethodName)) ∈ lw_all := lw_g (lw_at lw_m5 6 rfl) rfl
theorem q1148 : (Jvm.Cond.methodLink "PepperTablesLaw" (37 : Nat) ({ cls := "PepperTables", name := "thing", desc := "(II)I" } : Jvm.MethodName)) ∈ lw_all := lw_g (lw_at lw_m5 53 rfl) rfl
theorem q1166 : (Jvm.Cond.methodLink "PepperTablesLaw" (41 : Nat) ({ cls := "PepperTables", name := "sack", desc := "(II)I" } : Jvm.MethodName)) ∈ lw_all := lw_g (lw_at lw_m5 71 rfl) rfl
theorem q1192 : (Jvm.Cond.methodLink "PepperTablesLaw" (45 : Nat) ({ cls := "PepperTables", name := "would", desc := "(I)I" } : Jvm.MethodName)) ∈ lw_all := lw_g (lw_at lw_m5 97 rfl) rfl
theorem q1283 : (Jvm.Cond.methodLink "PepperTablesLaw" (49 : Nat) ({ cls := "PepperTables", name := "sit", desc := "(I)I" } : Jvm.MethodName)) ∈ lw_all := lw_g (lw_at lw_m5 188 rfl) rfl
theorem q1302 : (Jvm.Cond.methodLink "PepperTablesLaw" (53 : Nat) ({ cls := "PepperTables", name := "rise", desc := "(I)I" } : Jvm.MethodName)) ∈ lw_all := lw_g (lw_at lw_m5 207 rfl) rfl
theorem q1306 : (Jvm.Cond.methodLink "PepperTablesLaw" (57 : Nat) ({ cls := "PepperTables", name := "grind", desc := "(I)I" } : Jvm.MethodName)) ∈ lw_all := lw_g (lw_at lw_m5 211 rfl) rfl
theorem q1316 : (Jvm.Cond.methodLink "PepperTablesLaw" (61 : Nat) ({ cls := "PepperTables", name := "pour", desc := "(II)I" } : Jvm.MethodName)) ∈ lw_all := lw_g (lw_at lw_m5 221 rfl) rfl
theorem q1320 : (Jvm.Cond.methodLink "PepperTablesLaw" (65 : Nat) ({ cls := "PepperTables", name := "course", desc := "()I" } : Jvm.MethodName)) ∈ lw_all := lw_g (lw_at lw_m5 225 rfl) rfl
theorem q1332 : (Jvm.Cond.methodLink "PepperTablesLaw" (69 : Nat) ({ cls := "PepperTables", name := "undo", desc := "()Z" } : Jvm.MethodName)) ∈ lw_all := lw_g (lw_at lw_m5 237 rfl) rfl
theorem q1340 : (Jvm.Cond.methodLink "PepperTablesLaw" (74 : Nat) ({ cls := "PepperTables", name := "redo", desc := "()Z" } : Jvm.MethodName)) ∈ lw_all := lw_g (lw_at lw_m6 5 rfl) rfl
theorem q1344 : (Jvm.Cond.methodLink "PepperTablesLaw" (78 : Nat) ({ cls := "PepperTables", name := "table", desc := "(III)I" } : Jvm.MethodName)) ∈ lw_all := lw_g (lw_at lw_m6 9 rfl) rfl
theorem q1363 : (Jvm.Cond.methodLink "PepperTablesLaw" (87 : Nat) ({ cls := "PepperTables", name := "mute", desc := "()I" } : Jvm.MethodName)) ∈ lw_all := lw_g (lw_at lw_m6 28 rfl) rfl
theorem q1367 : (Jvm.Cond.methodLink "PepperTablesLaw" (95 : Nat) ({ cls := "PepperTables", name := "send", desc := "(II)I" } : Jvm.MethodName)) ∈ lw_all := lw_g (lw_at lw_m6 32 rfl) rfl
theorem q1371 : (Jvm.Cond.methodLink "PepperTablesLaw" (151 : Nat) ({ cls := "PepperTables", name := "spark", desc := "(I)I" } : Jvm.MethodName)) ∈ lw_all := lw_g (lw_at lw_m6 36 rfl) rfl
theorem q1375 : (Jvm.Cond.methodLink "PepperTablesLaw" (155 : Nat) ({ cls := "PepperTables", name := "spine", desc := "(I)I" } : Jvm.MethodName)) ∈ lw_all := lw_g (lw_at lw_m6 40 rfl) rfl
theorem q1379 : (Jvm.Cond.methodLink "PepperTablesLaw" (159 : Nat) ({ cls := "PepperTables", name := "idle", desc := "()I" } : Jvm.MethodName)) ∈ lw_all := lw_g (lw_at lw_m6 44 rfl) rfl
theorem q1383 : (Jvm.Cond.methodLink "PepperTablesLaw" (163 : Nat) ({ cls := "PepperTables", name := "storm", desc := "()I" } : Jvm.MethodName)) ∈ lw_all := lw_g (lw_at lw_m6 48 rfl) rfl
theorem q1400 : (Jvm.Cond.methodLink "PepperTablesLaw" (83 : Nat) ({ cls := "PepperTables", name := "round", desc := "(II)I" } : Jvm.MethodName)) ∈ lw_all := lw_g (lw_at lw_m6 65 rfl) rfl
theorem q1408 : (Jvm.Cond.methodLink "PepperTablesLaw" (91 : Nat) ({ cls := "PepperTables", name := "fewest", desc := "(I)I" } : Jvm.MethodName)) ∈ lw_all := lw_g (lw_at lw_m6 73 rfl) rfl
theorem q1412 : (Jvm.Cond.methodLink "PepperTablesLaw" (99 : Nat) ({ cls := "PepperTables", name := "hide", desc := "(II)I" } : Jvm.MethodName)) ∈ lw_all := lw_g (lw_at lw_m6 77 rfl) rfl
theorem q1416 : (Jvm.Cond.methodLink "PepperTablesLaw" (115 : Nat) ({ cls := "PepperTables", name := "shyest", desc := "(I)I" } : Jvm.MethodName)) ∈ lw_all := lw_g (lw_at lw_m6 81 rfl) rfl
theorem q1420 : (Jvm.Cond.methodLink "PepperTablesLaw" (187 : Nat) ({ cls := "PepperTables", name := "law", desc := "(II)I" } : Jvm.MethodName)) ∈ lw_all := lw_g (lw_at lw_m6 85 rfl) rfl
theorem q1424 : (Jvm.Cond.methodLink "PepperTablesLaw" (123 : Nat) ({ cls := "PepperTables", name := "invite", desc := "(I)I" } : Jvm.MethodName)) ∈ lw_all := lw_g (lw_at lw_m6 89 rfl) rfl
theorem q1432 : (Jvm.Cond.methodLink "PepperTablesLaw" (127 : Nat) ({ cls := "PepperTables", name := "blend", desc := "(II)I" } : Jvm.MethodName)) ∈ lw_all := lw_g (lw_at lw_m6 97 rfl) rfl
theorem q1436 : (Jvm.Cond.methodLink "PepperTablesLaw" (131 : Nat) ({ cls := "PepperTables", name := "exchange", desc := "(I)I" } : Jvm.MethodName)) ∈ lw_all := lw_g (lw_at lw_m6 101 rfl) rfl
theorem q1444 : (Jvm.Cond.methodLink "PepperTablesLaw" (135 : Nat) ({ cls := "PepperTables", name := "after", desc := "(I)I" } : Jvm.MethodName)) ∈ lw_all := lw_g (lw_at lw_m6 109 rfl) rfl
theorem q1448 : (Jvm.Cond.methodLink "PepperTablesLaw" (103 : Nat) ({ cls := "PepperTables", name := "pairs", desc := "()I" } : Jvm.MethodName)) ∈ lw_all := lw_g (lw_at lw_m6 113 rfl) rfl
theorem q1456 : (Jvm.Cond.methodLink "PepperTablesLaw" (139 : Nat) ({ cls := "PepperTables", name := "rumour", desc := "(II)I" } : Jvm.MethodName)) ∈ lw_all := lw_g (lw_at lw_m6 121 rfl) rfl
theorem q1460 : (Jvm.Cond.methodLink "PepperTablesLaw" (143 : Nat) ({ cls := "PepperTables", name := "keeps", desc := "(II)I" } : Jvm.MethodName)) ∈ lw_all := lw_g (lw_at lw_m6 125 rfl) rfl
theorem q1464 : (Jvm.Cond.methodLink "PepperTablesLaw" (147 : Nat) ({ cls := "PepperTables", name := "dupe", desc := "()I" } : Jvm.MethodName)) ∈ lw_all := lw_g (lw_at lw_m6 129 rfl) rfl
theorem q1472 : (Jvm.Cond.methodLink "PepperTablesLaw" (107 : Nat) ({ cls := "PepperTables", name := "gain", desc := "(I)I" } : Jvm.MethodName)) ∈ lw_all := lw_g (lw_at lw_m6 137 rfl) rfl
theorem q1476 : (Jvm.Cond.methodLink "PepperTablesLaw" (111 : Nat) ({ cls := "PepperTables", name := "feast", desc := "(II)I" } : Jvm.MethodName)) ∈ lw_all := lw_g (lw_at lw_m6 141 rfl) rfl
theorem q1488 : (Jvm.Cond.methodLink "PepperTablesLaw" (119 : Nat) ({ cls := "PepperTables", name := "line", desc := "()I" } : Jvm.MethodName)) ∈ lw_all := lw_g (lw_at lw_m6 153 rfl) rfl
theorem q1500 : (Jvm.Cond.methodLink "PepperTablesLaw" (167 : Nat) ({ cls := "PepperTables", name := "hottest", desc := "()I" } : Jvm.MethodName)) ∈ lw_all := lw_g (lw_at lw_m6 165 rfl) rfl
theorem q1504 : (Jvm.Cond.methodLink "PepperTablesLaw" (171 : Nat) ({ cls := "PepperTables", name := "closest", desc := "()I" } : Jvm.MethodName)) ∈ lw_all := lw_g (lw_at lw_m6 169 rfl) rfl
theorem q1512 : (Jvm.Cond.methodLink "PepperTablesLaw" (175 : Nat) ({ cls := "PepperTables", name := "rank", desc := "()I" } : Jvm.MethodName)) ∈ lw_all := lw_g (lw_at lw_m6 177 rfl) rfl
theorem q1520 : (Jvm.Cond.methodLink "PepperTablesLaw" (179 : Nat) ({ cls := "PepperTables", name := "near", desc := "()I" } : Jvm.MethodName)) ∈ lw_all := lw_g (lw_at lw_m6 185 rfl) rfl
theorem q1525 : (Jvm.Cond.methodLink "PepperTablesLaw" (183 : Nat) ({ cls := "PepperTables", name := "scandal", desc := "()I" } : Jvm.MethodName)) ∈ lw_all := lw_g (lw_at lw_m6 190 rfl) rfl
theorem q1529 : (Jvm.Cond.methodLink "PepperTablesLaw" (191 : Nat) ({ cls := "PepperTables", name := "next", desc := "()I" } : Jvm.MethodName)) ∈ lw_all := lw_g (lw_at lw_m6 194 rfl) rfl
theorem q1533 : (Jvm.Cond.methodLink "PepperTablesLaw" (195 : Nat) ({ cls := "PepperTables", name := "odds", desc := "(II)I" } : Jvm.MethodName)) ∈ lw_all := lw_g (lw_at lw_m6 198 rfl) rfl
theorem q1540 : (Jvm.Cond.methodLink "PepperTablesLaw" (199 : Nat) ({ cls := "PepperTables", name := "lies", desc := "(I)I" } : Jvm.MethodName)) ∈ lw_all := lw_g (lw_at lw_m6 205 rfl) rfl
theorem q1544 : (Jvm.Cond.methodLink "PepperTablesLaw" (203 : Nat) ({ cls := "PepperTables", name := "heard", desc := "(IIZ)I" } : Jvm.MethodName)) ∈ lw_all := lw_g (lw_at lw_m6 209 rfl) rfl
theorem q1574 : (Jvm.Cond.methodLink "PepperTablesLaw" (208 : Nat) ({ cls := "PepperTables", name := "untell", desc := "(I)Z" } : Jvm.MethodName)) ∈ lw_all := lw_g (lw_at lw_m6 239 rfl) rfl
theorem q1582 : (Jvm.Cond.methodLink "PepperTablesLaw" (213 : Nat) ({ cls := "PepperTables", name := "later", desc := "(I)I" } : Jvm.MethodName)) ∈ lw_all := lw_g (lw_at lw_m7 7 rfl) rfl
theorem q1587 : (Jvm.Cond.methodLink "PepperTablesLaw" (217 : Nat) ({ cls := "PepperTables", name := "rows", desc := "(I)I" } : Jvm.MethodName)) ∈ lw_all := lw_g (lw_at lw_m7 12 rfl) rfl
theorem q1611 : (Jvm.Cond.methodLink "PepperTablesLaw" (221 : Nat) ({ cls := "PepperTables", name := "sure", desc := "(II)I" } : Jvm.MethodName)) ∈ lw_all := lw_g (lw_at lw_m7 36 rfl) rfl
theorem q1616 : (Jvm.Cond.methodLink "PepperTablesLaw" (225 : Nat) ({ cls := "PepperTables", name := "ask", desc := "(II)I" } : Jvm.MethodName)) ∈ lw_all := lw_g (lw_at lw_m7 41 rfl) rfl
theorem q1625 : (Jvm.Cond.methodLink "PepperTablesLaw" (229 : Nat) ({ cls := "PepperTables", name := "image", desc := "(I)I" } : Jvm.MethodName)) ∈ lw_all := lw_g (lw_at lw_m7 50 rfl) rfl
theorem q1632 : (Jvm.Cond.methodLink "PepperTablesLaw" (233 : Nat) ({ cls := "PepperTables", name := "back", desc := "(I)I" } : Jvm.MethodName)) ∈ lw_all := lw_g (lw_at lw_m7 57 rfl) rfl
theorem q1636 : (Jvm.Cond.methodLink "PepperTablesLaw" (237 : Nat) ({ cls := "PepperTables", name := "about", desc := "(I)I" } : Jvm.MethodName)) ∈ lw_all := lw_g (lw_at lw_m7 61 rfl) rfl
theorem q1640 : (Jvm.Cond.classLink "PepperTablesLaw" (10 : Nat) "PepperTablesModel") ∈ lw_all := lw_g (lw_at lw_m7 65 rfl) rfl
theorem q1642 : (Jvm.Cond.methodLink "PepperTablesLaw" (12 : Nat) ({ cls := "PepperTablesModel", name := "<init>", desc := "()V" } : Jvm.MethodName)) ∈ lw_all := lw_g (lw_at lw_m7 67 rfl) rfl
theorem q1859 : (Jvm.Cond.methodLink "PepperTablesLaw" (27 : Nat) ({ cls := "PepperTablesModel", name := "store", desc := "()I" } : Jvm.MethodName)) ∈ lw_all := lw_g (lw_at lw_m8 44 rfl) rfl
theorem q2004 : (Jvm.Cond.methodLink "PepperTablesLaw" (31 : Nat) ({ cls := "PepperTablesModel", name := "fault", desc := "(I)I" } : Jvm.MethodName)) ∈ lw_all := lw_g (lw_at lw_m8 189 rfl) rfl
theorem q2008 : (Jvm.Cond.methodLink "PepperTablesLaw" (36 : Nat) ({ cls := "PepperTablesModel", name := "person", desc := "(II)I" } : Jvm.MethodName)) ∈ lw_all := lw_g (lw_at lw_m8 193 rfl) rfl
theorem q2043 : (Jvm.Cond.methodLink "PepperTablesLaw" (40 : Nat) ({ cls := "PepperTablesModel", name := "thing", desc := "(II)I" } : Jvm.MethodName)) ∈ lw_all := lw_g (lw_at lw_m8 228 rfl) rfl
theorem q2055 : (Jvm.Cond.methodLink "PepperTablesLaw" (44 : Nat) ({ cls := "PepperTablesModel", name := "sack", desc := "(II)I" } : Jvm.MethodName)) ∈ lw_all := lw_g (lw_at lw_m9 0 rfl) rfl
theorem q2079 : (Jvm.Cond.methodLink "PepperTablesLaw" (48 : Nat) ({ cls := "PepperTablesModel", name := "would", desc := "(I)I" } : Jvm.MethodName)) ∈ lw_all := lw_g (lw_at lw_m9 24 rfl) rfl
theorem q2109 : (Jvm.Cond.methodLink "PepperTablesLaw" (146 : Nat) ({ cls := "PepperTablesModel", name := "keeps", desc := "(II)I" } : Jvm.MethodName)) ∈ lw_all := lw_g (lw_at lw_m9 54 rfl) rfl
theorem q2113 : (Jvm.Cond.methodLink "PepperTablesLaw" (150 : Nat) ({ cls := "PepperTablesModel", name := "dupe", desc := "()I" } : Jvm.MethodName)) ∈ lw_all := lw_g (lw_at lw_m9 58 rfl) rfl
theorem q2117 : (Jvm.Cond.methodLink "PepperTablesLaw" (174 : Nat) ({ cls := "PepperTablesModel", name := "closest", desc := "()I" } : Jvm.MethodName)) ∈ lw_all := lw_g (lw_at lw_m9 62 rfl) rfl
theorem q2121 : (Jvm.Cond.methodLink "PepperTablesLaw" (170 : Nat) ({ cls := "PepperTablesModel", name := "hottest", desc := "()I" } : Jvm.MethodName)) ∈ lw_all := lw_g (lw_at lw_m9 66 rfl) rfl
theorem q2125 : (Jvm.Cond.methodLink "PepperTablesLaw" (162 : Nat) ({ cls := "PepperTablesModel", name := "idle", desc := "()I" } : Jvm.MethodName)) ∈ lw_all := lw_g (lw_at lw_m9 70 rfl) rfl
theorem q2129 : (Jvm.Cond.methodLink "PepperTablesLaw" (166 : Nat) ({ cls := "PepperTablesModel", name := "storm", desc := "()I" } : Jvm.MethodName)) ∈ lw_all := lw_g (lw_at lw_m9 74 rfl) rfl
theorem q2141 : (Jvm.Cond.methodLink "PepperTablesLaw" (186 : Nat) ({ cls := "PepperTablesModel", name := "scandal", desc := "()I" } : Jvm.MethodName)) ∈ lw_all := lw_g (lw_at lw_m9 86 rfl) rfl
theorem q2145 : (Jvm.Cond.methodLink "PepperTablesLaw" (182 : Nat) ({ cls := "PepperTablesModel", name := "near", desc := "()I" } : Jvm.MethodName)) ∈ lw_all := lw_g (lw_at lw_m9 90 rfl) rfl
theorem q2149 : (Jvm.Cond.methodLink "PepperTablesLaw" (194 : Nat) ({ cls := "PepperTablesModel", name := "next", desc := "()I" } : Jvm.MethodName)) ∈ lw_all := lw_g (lw_at lw_m9 94 rfl) rfl
theorem q2157 : (Jvm.Cond.methodLink "PepperTablesLaw" (106 : Nat) ({ cls := "PepperTablesModel", name := "pairs", desc := "()I" } : Jvm.MethodName)) ∈ lw_all := lw_g (lw_at lw_m9 102 rfl) rfl
theorem q2161 : (Jvm.Cond.methodLink "PepperTablesLaw" (190 : Nat) ({ cls := "PepperTablesModel", name := "law", desc := "(II)I" } : Jvm.MethodName)) ∈ lw_all := lw_g (lw_at lw_m9 106 rfl) rfl
theorem q2165 : (Jvm.Cond.methodLink "PepperTablesLaw" (52 : Nat) ({ cls := "PepperTablesModel", name := "sit", desc := "(I)I" } : Jvm.MethodName)) ∈ lw_all := lw_g (lw_at lw_m9 110 rfl) rfl
theorem q2173 : (Jvm.Cond.methodLink "PepperTablesLaw" (56 : Nat) ({ cls := "PepperTablesModel", name := "rise", desc := "(I)I" } : Jvm.MethodName)) ∈ lw_all := lw_g (lw_at lw_m9 118 rfl) rfl
theorem q2177 : (Jvm.Cond.methodLink "PepperTablesLaw" (60 : Nat) ({ cls := "PepperTablesModel", name := "grind", desc := "(I)I" } : Jvm.MethodName)) ∈ lw_all := lw_g (lw_at lw_m9 122 rfl) rfl
theorem q2185 : (Jvm.Cond.methodLink "PepperTablesLaw" (64 : Nat) ({ cls := "PepperTablesModel", name := "pour", desc := "(II)I" } : Jvm.MethodName)) ∈ lw_all := lw_g (lw_at lw_m9 130 rfl) rfl
theorem q2189 : (Jvm.Cond.methodLink "PepperTablesLaw" (68 : Nat) ({ cls := "PepperTablesModel", name := "course", desc := "()I" } : Jvm.MethodName)) ∈ lw_all := lw_g (lw_at lw_m9 134 rfl) rfl
theorem q2193 : (Jvm.Cond.methodLink "PepperTablesLaw" (73 : Nat) ({ cls := "PepperTablesModel", name := "undo", desc := "()Z" } : Jvm.MethodName)) ∈ lw_all := lw_g (lw_at lw_m9 138 rfl) rfl
theorem q2201 : (Jvm.Cond.methodLink "PepperTablesLaw" (77 : Nat) ({ cls := "PepperTablesModel", name := "redo", desc := "()Z" } : Jvm.MethodName)) ∈ lw_all := lw_g (lw_at lw_m9 146 rfl) rfl
theorem q2205 : (Jvm.Cond.methodLink "PepperTablesLaw" (202 : Nat) ({ cls := "PepperTablesModel", name := "lies", desc := "(I)I" } : Jvm.MethodName)) ∈ lw_all := lw_g (lw_at lw_m9 150 rfl) rfl
theorem q2209 : (Jvm.Cond.methodLink "PepperTablesLaw" (82 : Nat) ({ cls := "PepperTablesModel", name := "table", desc := "(III)I" } : Jvm.MethodName)) ∈ lw_all := lw_g (lw_at lw_m9 154 rfl) rfl
theorem q2217 : (Jvm.Cond.methodLink "PepperTablesLaw" (90 : Nat) ({ cls := "PepperTablesModel", name := "mute", desc := "()I" } : Jvm.MethodName)) ∈ lw_all := lw_g (lw_at lw_m9 162 rfl) rfl
theorem q2225 : (Jvm.Cond.methodLink "PepperTablesLaw" (98 : Nat) ({ cls := "PepperTablesModel", name := "send", desc := "(II)I" } : Jvm.MethodName)) ∈ lw_all := lw_g (lw_at lw_m9 170 rfl) rfl
theorem q2229 : (Jvm.Cond.methodLink "PepperTablesLaw" (154 : Nat) ({ cls := "PepperTablesModel", name := "spark", desc := "(I)I" } : Jvm.MethodName)) ∈ lw_all := lw_g (lw_at lw_m9 174 rfl) rfl
theorem q2233 : (Jvm.Cond.methodLink "PepperTablesLaw" (158 : Nat) ({ cls := "PepperTablesModel", name := "spine", desc := "(I)I" } : Jvm.MethodName)) ∈ lw_all := lw_g (lw_at lw_m9 178 rfl) rfl
theorem q2237 : (Jvm.Cond.methodLink "PepperTablesLaw" (110 : Nat) ({ cls := "PepperTablesModel", name := "gain", desc := "(I)I" } : Jvm.MethodName)) ∈ lw_all := lw_g (lw_at lw_m9 182 rfl) rfl
theorem q2241 : (Jvm.Cond.methodLink "PepperTablesLaw" (126 : Nat) ({ cls := "PepperTablesModel", name := "invite", desc := "(I)I" } : Jvm.MethodName)) ∈ lw_all := lw_g (lw_at lw_m9 186 rfl) rfl
theorem q2245 : (Jvm.Cond.methodLink "PepperTablesLaw" (114 : Nat) ({ cls := "PepperTablesModel", name := "feast", desc := "(II)I" } : Jvm.MethodName)) ∈ lw_all := lw_g (lw_at lw_m9 190 rfl) rfl
theorem q2253 : (Jvm.Cond.methodLink "PepperTablesLaw" (86 : Nat) ({ cls := "PepperTablesModel", name := "round", desc := "(II)I" } : Jvm.MethodName)) ∈ lw_all := lw_g (lw_at lw_m9 198 rfl) rfl
theorem q2272 : (Jvm.Cond.methodLink "PepperTablesLaw" (94 : Nat) ({ cls := "PepperTablesModel", name := "fewest", desc := "(I)I" } : Jvm.MethodName)) ∈ lw_all := lw_g (lw_at lw_m9 217 rfl) rfl
theorem q2276 : (Jvm.Cond.methodLink "PepperTablesLaw" (102 : Nat) ({ cls := "PepperTablesModel", name := "hide", desc := "(II)I" } : Jvm.MethodName)) ∈ lw_all := lw_g (lw_at lw_m9 221 rfl) rfl
theorem q2280 : (Jvm.Cond.methodLink "PepperTablesLaw" (130 : Nat) ({ cls := "PepperTablesModel", name := "blend", desc := "(II)I" } : Jvm.MethodName)) ∈ lw_all := lw_g (lw_at lw_m9 225 rfl) rfl
theorem q2284 : (Jvm.Cond.methodLink "PepperTablesLaw" (134 : Nat) ({ cls := "PepperTablesModel", name := "exchange", desc := "(I)I" } : Jvm.MethodName)) ∈ lw_all := lw_g (lw_at lw_m9 229 rfl) rfl
theorem q2292 : (Jvm.Cond.methodLink "PepperTablesLaw" (138 : Nat) ({ cls := "PepperTablesModel", name := "after", desc := "(I)I" } : Jvm.MethodName)) ∈ lw_all := lw_g (lw_at lw_m9 237 rfl) rfl
theorem q2296 : (Jvm.Cond.methodLink "PepperTablesLaw" (118 : Nat) ({ cls := "PepperTablesModel", name := "shyest", desc := "(I)I" } : Jvm.MethodName)) ∈ lw_all := lw_g (lw_at lw_m10 1 rfl) rfl
theorem q2300 : (Jvm.Cond.methodLink "PepperTablesLaw" (122 : Nat) ({ cls := "PepperTablesModel", name := "line", desc := "()I" } : Jvm.MethodName)) ∈ lw_all := lw_g (lw_at lw_m10 5 rfl) rfl
theorem q2316 : (Jvm.Cond.methodLink "PepperTablesLaw" (178 : Nat) ({ cls := "PepperTablesModel", name := "rank", desc := "()I" } : Jvm.MethodName)) ∈ lw_all := lw_g (lw_at lw_m10 21 rfl) rfl
theorem q2320 : (Jvm.Cond.methodLink "PepperTablesLaw" (142 : Nat) ({ cls := "PepperTablesModel", name := "rumour", desc := "(II)I" } : Jvm.MethodName)) ∈ lw_all := lw_g (lw_at lw_m10 25 rfl) rfl
theorem q2324 : (Jvm.Cond.methodLink "PepperTablesLaw" (198 : Nat) ({ cls := "PepperTablesModel", name := "odds", desc := "(II)I" } : Jvm.MethodName)) ∈ lw_all := lw_g (lw_at lw_m10 29 rfl) rfl
theorem q2331 : (Jvm.Cond.methodLink "PepperTablesLaw" (207 : Nat) ({ cls := "PepperTablesModel", name := "heard", desc := "(IIZ)I" } : Jvm.MethodName)) ∈ lw_all := lw_g (lw_at lw_m10 36 rfl) rfl
theorem q2335 : (Jvm.Cond.methodLink "PepperTablesLaw" (212 : Nat) ({ cls := "PepperTablesModel", name := "untell", desc := "(I)Z" } : Jvm.MethodName)) ∈ lw_all := lw_g (lw_at lw_m10 40 rfl) rfl
theorem q2339 : (Jvm.Cond.methodLink "PepperTablesLaw" (216 : Nat) ({ cls := "PepperTablesModel", name := "later", desc := "(I)I" } : Jvm.MethodName)) ∈ lw_all := lw_g (lw_at lw_m10 44 rfl) rfl
theorem q2344 : (Jvm.Cond.methodLink "PepperTablesLaw" (220 : Nat) ({ cls := "PepperTablesModel", name := "rows", desc := "(I)I" } : Jvm.MethodName)) ∈ lw_all := lw_g (lw_at lw_m10 49 rfl) rfl
theorem q2372 : (Jvm.Cond.methodLink "PepperTablesLaw" (224 : Nat) ({ cls := "PepperTablesModel", name := "sure", desc := "(II)I" } : Jvm.MethodName)) ∈ lw_all := lw_g (lw_at lw_m10 77 rfl) rfl
theorem q2376 : (Jvm.Cond.methodLink "PepperTablesLaw" (228 : Nat) ({ cls := "PepperTablesModel", name := "ask", desc := "(II)I" } : Jvm.MethodName)) ∈ lw_all := lw_g (lw_at lw_m10 81 rfl) rfl
theorem q2384 : (Jvm.Cond.methodLink "PepperTablesLaw" (232 : Nat) ({ cls := "PepperTablesModel", name := "image", desc := "(I)I" } : Jvm.MethodName)) ∈ lw_all := lw_g (lw_at lw_m10 89 rfl) rfl
theorem q2388 : (Jvm.Cond.methodLink "PepperTablesLaw" (236 : Nat) ({ cls := "PepperTablesModel", name := "back", desc := "(I)I" } : Jvm.MethodName)) ∈ lw_all := lw_g (lw_at lw_m10 93 rfl) rfl
theorem q2392 : (Jvm.Cond.methodLink "PepperTablesLaw" (240 : Nat) ({ cls := "PepperTablesModel", name := "about", desc := "(I)I" } : Jvm.MethodName)) ∈ lw_all := lw_g (lw_at lw_m10 97 rfl) rfl
theorem q2396 : (Jvm.Cond.methodLink "PepperTablesLaw" (17 : Nat) ({ cls := "PepperTablesModel", name := "feed", desc := "(IIIII)I" } : Jvm.MethodName)) ∈ lw_all := lw_g (lw_at lw_m10 101 rfl) rfl
theorem q2400 : (Jvm.Cond.methodLink "PepperTablesLaw" (22 : Nat) ({ cls := "PepperTablesModel", name := "end", desc := "(I)I" } : Jvm.MethodName)) ∈ lw_all := lw_g (lw_at lw_m10 105 rfl) rfl

theorem q164 : (Jvm.Cond.initialized "PepperTables$Asked") ∈ lw_all := lw_g (lw_at lw_m1 29 rfl) rfl
set_option maxRecDepth 100000
theorem q1044 : (Jvm.Cond.laysStatic "PepperTables$Asked" "HOW_HOT" "LPepperTables$Asked;") ∈ lw_tbl := lw_at lw_m4 189 rfl
theorem q1046 : (Jvm.Cond.laysStatic "PepperTables$Asked" "HOW_SHY" "LPepperTables$Asked;") ∈ lw_tbl := lw_at lw_m4 191 rfl
theorem q1048 : (Jvm.Cond.laysStatic "PepperTables$Asked" "HOW_MANY" "LPepperTables$Asked;") ∈ lw_tbl := lw_at lw_m4 193 rfl
theorem q1050 : (Jvm.Cond.laysStatic "PepperTables$Asked" "HOW_OFTEN" "LPepperTables$Asked;") ∈ lw_tbl := lw_at lw_m4 195 rfl
theorem q1052 : (Jvm.Cond.laysStatic "PepperTables$Asked" "ITS_HEAT" "LPepperTables$Asked;") ∈ lw_tbl := lw_at lw_m4 197 rfl
theorem q1054 : (Jvm.Cond.laysStatic "PepperTables$Asked" "A_COURSE" "LPepperTables$Asked;") ∈ lw_tbl := lw_at lw_m4 199 rfl
theorem q2440 : (Jvm.Cond.castable "PepperTables$Asked" "java/lang/Object") ∈ lw_tbl := lw_at lw_m10 145 rfl

theorem q1223 : (Jvm.Cond.interfaceMethod "PepperTables$Node" "PepperTables$Node" "of" "(LPepperTables$Ask;)I") ∈ lw_tbl := lw_at lw_m5 128 rfl
set_option maxRecDepth 100000
theorem q1224 : (Jvm.Cond.declares ({ cls := "PepperTables$Node", name := "of", desc := "(LPepperTables$Ask;)I" } : Jvm.MethodName)) ∈ lw_tbl := lw_at lw_m5 129 rfl

theorem q557 : (Jvm.Cond.sameMethod "[B" "java/lang/Object" "clone" "()Ljava/lang/Object;") ∈ lw_all := lw_g (lw_at lw_m2 182 rfl) rfl
set_option maxRecDepth 100000
theorem q560 : (Jvm.Cond.selects "[B" ({ cls := "[B", name := "clone", desc := "()Ljava/lang/Object;" } : Jvm.MethodName) ({ cls := "java/lang/Object", name := "clone", desc := "()Ljava/lang/Object;" } : Jvm.MethodName)) ∈ lw_all := lw_g (lw_at lw_m2 185 rfl) rfl
theorem q561 : (Jvm.Cond.castable "[B" "java/lang/Cloneable") ∈ lw_tbl := lw_at lw_m2 186 rfl
theorem q2442 : (Jvm.Cond.castable "[B" "java/lang/Object") ∈ lw_tbl := lw_at lw_m10 147 rfl

theorem q2443 : (Jvm.Cond.castable "[I" "java/lang/Object") ∈ lw_tbl := lw_at lw_m10 148 rfl
set_option maxRecDepth 100000

theorem q2447 : (Jvm.Cond.castable "[J" "java/lang/Object") ∈ lw_tbl := lw_at lw_m10 152 rfl
set_option maxRecDepth 100000

theorem q2444 : (Jvm.Cond.castable "[LPepperTables$Table;" "java/lang/Object") ∈ lw_tbl := lw_at lw_m10 149 rfl
set_option maxRecDepth 100000

theorem q2437 : (Jvm.Cond.sameMethod "[Ljava/lang/Object;" "java/lang/Object" "getClass" "()Ljava/lang/Class;") ∈ lw_all := lw_g (lw_at lw_m10 142 rfl) rfl
set_option maxRecDepth 100000
theorem q2438 : (Jvm.Cond.selects "[Ljava/lang/Object;" ({ cls := "java/lang/Object", name := "getClass", desc := "()Ljava/lang/Class;" } : Jvm.MethodName) ({ cls := "java/lang/Object", name := "getClass", desc := "()Ljava/lang/Class;" } : Jvm.MethodName)) ∈ lw_all := lw_g (lw_at lw_m10 143 rfl) rfl
theorem q2441 : (Jvm.Cond.castable "[Ljava/lang/Object;" "java/lang/Object") ∈ lw_tbl := lw_at lw_m10 146 rfl

theorem q2446 : (Jvm.Cond.castable "[Z" "java/lang/Object") ∈ lw_tbl := lw_at lw_m10 151 rfl
set_option maxRecDepth 100000

theorem q2445 : (Jvm.Cond.castable "[[I" "java/lang/Object") ∈ lw_tbl := lw_at lw_m10 150 rfl
set_option maxRecDepth 100000

theorem q163 : (Jvm.Cond.initialized "java/lang/Enum") ∈ lw_all := lw_g (lw_at lw_m1 28 rfl) rfl
set_option maxRecDepth 100000

theorem q154 : (Jvm.Cond.initialized "java/lang/System") ∈ lw_all := lw_g (lw_at lw_m1 19 rfl) rfl
set_option maxRecDepth 100000
theorem q567 : (Jvm.Cond.static ({ cls := "java/lang/System", name := "arraycopy", desc := "(Ljava/lang/Object;ILjava/lang/Object;II)V" } : Jvm.MethodName)) ∈ lw_all := lw_g (lw_at lw_m2 192 rfl) rfl
theorem q568 : (Jvm.Cond.native ({ cls := "java/lang/System", name := "arraycopy", desc := "(Ljava/lang/Object;ILjava/lang/Object;II)V" } : Jvm.MethodName)) ∈ lw_all := lw_g (lw_at lw_m2 193 rfl) rfl

theorem q747 : (Jvm.Cond.interfaceMethod "jdk/internal/access/JavaLangAccess" "jdk/internal/access/JavaLangAccess" "getUTF16Char" "([BI)C") ∈ lw_tbl := lw_at lw_m3 132 rfl
set_option maxRecDepth 100000
theorem q748 : (Jvm.Cond.declares ({ cls := "jdk/internal/access/JavaLangAccess", name := "getUTF16Char", desc := "([BI)C" } : Jvm.MethodName)) ∈ lw_tbl := lw_at lw_m3 133 rfl

theorem q196 : (Jvm.Cond.arrayOver (Jvm.ClassFile.FieldType.object "java/lang/Object")) ∈ lw_tbl := lw_at lw_m1 61 rfl
set_option maxRecDepth 100000
theorem q211 : (Jvm.Cond.arrayClass Jvm.ClassFile.FieldType.byte) ∈ lw_all := lw_g (lw_at lw_m1 76 rfl) rfl
theorem q317 : (Jvm.Cond.arrayClass Jvm.ClassFile.FieldType.int) ∈ lw_all := lw_g (lw_at lw_m1 182 rfl) rfl
theorem q341 : (Jvm.Cond.arrayOver (Jvm.ClassFile.FieldType.object "PepperTables$Table")) ∈ lw_tbl := lw_at lw_m1 206 rfl
theorem q343 : (Jvm.Cond.arrayOver (Jvm.ClassFile.FieldType.array Jvm.ClassFile.FieldType.int)) ∈ lw_tbl := lw_at lw_m1 208 rfl
theorem q423 : (Jvm.Cond.arrayClass Jvm.ClassFile.FieldType.boolean) ∈ lw_all := lw_g (lw_at lw_m2 48 rfl) rfl
theorem q1858 : (Jvm.Cond.arrayClass Jvm.ClassFile.FieldType.long) ∈ lw_all := lw_g (lw_at lw_m8 43 rfl) rfl
theorem q2448 : (Jvm.Cond.arrayClass Jvm.ClassFile.FieldType.char) ∈ lw_all := lw_g (lw_at lw_m10 153 rfl) rfl
theorem q2449 : (Jvm.Cond.arrayClass Jvm.ClassFile.FieldType.short) ∈ lw_all := lw_g (lw_at lw_m10 154 rfl) rfl

