/-! PepperTablesModel -/
set_option maxRecDepth 100000
def RX4 : String := "PepperTablesModel"
def TX4 : u_T := fun k => match k with
  | 0 => ("PepperTablesModel", "tape", "[B", true)
  | 1 => ("PepperTablesModel", "text", "[B", true)
  | 2 => ("PepperTablesModel", "taped", "I", false)
  | 3 => ("PepperTablesModel", "size", "I", false)
  | 4 => ("PepperTablesModel", "faultKind", "I", false)
  | 5 => ("PepperTablesModel", "faultPlace", "I", false)
  | 6 => ("PepperTablesModel", "at", "I", false)
  | 7 => ("PepperTablesModel", "end", "I", false)
  | 8 => ("PepperTablesModel", "token", "I", false)
  | 9 => ("PepperTablesModel", "number", "I", false)
  | 10 => ("PepperTablesModel", "name", "J", false)
  | 11 => ("PepperTablesModel", "people", "[I", true)
  | 12 => ("PepperTablesModel", "sacks", "[I", true)
  | 13 => ("PepperTablesModel", "things", "[I", true)
  | 14 => ("PepperTablesModel", "units", "[I", true)
  | 15 => ("PepperTablesModel", "sneeze", "[I", true)
  | 16 => ("PepperTablesModel", "draw", "[I", true)
  | 17 => ("PepperTablesModel", "told", "[I", true)
  | 18 => ("PepperTablesModel", "shy", "[I", true)
  | 19 => ("PepperTablesModel", "from", "[I", true)
  | 20 => ("PepperTablesModel", "whom", "[I", true)
  | 21 => ("PepperTablesModel", "hot", "[I", true)
  | 22 => ("PepperTablesModel", "inSack", "[I", true)
  | 23 => ("PepperTablesModel", "ruleFrom", "[I", true)
  | 24 => ("PepperTablesModel", "ruleTo", "[I", true)
  | 25 => ("PepperTablesModel", "pName", "[J", true)
  | 26 => ("PepperTablesModel", "sName", "[J", true)
  | 27 => ("PepperTablesModel", "tName", "[J", true)
  | 28 => ("PepperTablesModel", "code", "[I", true)
  | 29 => ("PepperTablesModel", "codeNumber", "[I", true)
  | 30 => ("PepperTablesModel", "eWhat", "[I", true)
  | 31 => ("PepperTablesModel", "eSign", "[I", true)
  | 32 => ("PepperTablesModel", "pile", "[I", true)
  | 33 => ("PepperTablesModel", "bank", "I", false)
  | 34 => ("PepperTablesModel", "rb", "I", false)
  | 35 => ("PepperTablesModel", "codes", "I", false)
  | 36 => ("PepperTablesModel", "within", "I", false)
  | 37 => ("PepperTablesModel", "piled", "I", false)
  | 38 => ("PepperTablesModel", "unitsInRule", "I", false)
  | 39 => ("PepperTablesModel", "askThing", "I", false)
  | 40 => ("PepperTablesModel", "askSack", "I", false)
  | 41 => ("PepperTablesModel", "askShy", "I", false)
  | 42 => ("PepperTablesModel", "all", "[I", true)
  | 43 => ("PepperTablesModel", "thoughtThing", "I", false)
  | 44 => ("PepperTablesModel", "thoughtShy", "I", false)
  | 45 => ("PepperTablesModel", "was", "[I", true)
  | 46 => ("PepperTablesModel", "acts", "I", false)
  | 47 => ("PepperTablesModel", "undone", "I", false)
  | 48 => ("PepperTablesModel", "kept", "[I", true)
  | 49 => ("PepperTablesModel", "laidRow", "[I", true)
  | 50 => ("PepperTablesModel", "laid", "I", false)
  | 51 => ("PepperTablesModel", "feasts", "[I", true)
  | 52 => ("PepperTablesModel", "manyBy", "[I", true)
  | 53 => ("PepperTablesModel", "sSack", "[I", true)
  | 54 => ("PepperTablesModel", "sMany", "[I", true)
  | 55 => ("PepperTablesModel", "sIs", "[I", true)
  | 56 => ("PepperTablesModel", "sTold", "[I", true)
  | 57 => ("PepperTablesModel", "sUntold", "[I", true)
  | 58 => ("PepperTablesModel", "parts", "[I", true)
  | 59 => ("PepperTablesModel", "byMany", "[I", true)
  | 60 => ("PepperTablesModel", "heards", "I", false)
  | 61 => ("PepperTablesModel", "time", "I", false)
  | 62 => ("PepperTablesModel", "fitting", "I", false)
  | 63 => ("PepperTablesModel", "boxAll", "[I", true)
  | _ => ("PepperTablesModel", "isBoxed", "[Z", true)
def tyX4 : Nat → FieldType := fun k => match k with
  | 0 => .array .byte
  | 1 => .array .byte
  | 2 => .int
  | 3 => .int
  | 4 => .int
  | 5 => .int
  | 6 => .int
  | 7 => .int
  | 8 => .int
  | 9 => .int
  | 10 => .long
  | 11 => .array .int
  | 12 => .array .int
  | 13 => .array .int
  | 14 => .array .int
  | 15 => .array .int
  | 16 => .array .int
  | 17 => .array .int
  | 18 => .array .int
  | 19 => .array .int
  | 20 => .array .int
  | 21 => .array .int
  | 22 => .array .int
  | 23 => .array .int
  | 24 => .array .int
  | 25 => .array .long
  | 26 => .array .long
  | 27 => .array .long
  | 28 => .array .int
  | 29 => .array .int
  | 30 => .array .int
  | 31 => .array .int
  | 32 => .array .int
  | 33 => .int
  | 34 => .int
  | 35 => .int
  | 36 => .int
  | 37 => .int
  | 38 => .int
  | 39 => .int
  | 40 => .int
  | 41 => .int
  | 42 => .array .int
  | 43 => .int
  | 44 => .int
  | 45 => .array .int
  | 46 => .int
  | 47 => .int
  | 48 => .array .int
  | 49 => .array .int
  | 50 => .int
  | 51 => .array .int
  | 52 => .array .int
  | 53 => .array .int
  | 54 => .array .int
  | 55 => .array .int
  | 56 => .array .int
  | 57 => .array .int
  | 58 => .array .int
  | 59 => .array .int
  | 60 => .int
  | 61 => .int
  | 62 => .int
  | 63 => .array .int
  | _ => .array .boolean
abbrev wsX40 : List Cond := u_ws RX4 TX4 65
set_option maxRecDepth 100000 in
theorem nmX4 : ∀ a, a < 65 → ∀ b, b < 65 → a ≠ b → (TX4 a).2.1 ≠ (TX4 b).2.1 := by decide +kernel
set_option maxRecDepth 100000 in
theorem tyX4_ok : ∀ k, k < 65 → parseFieldDescriptor (TX4 k).2.2.1 = some (tyX4 k) := by decide +kernel
abbrev cX4_init : ByteArray := prog_23_method_1_code
def yX4_init : MethodName := ⟨RX4, "<init>", "()V"⟩
def dkwX4_init_14 : List UInt8 := [182, 0, 140, 177]
abbrev dktX4_init_14 : List UInt8 := dkwX4_init_14 ++ []
def dkwX4_init_13 : List UInt8 := [181, 0, 127, 42, 16, 57, 188, 10, 181, 0, 130, 42, 6, 188, 4, 181, 0, 133, 42, 182, 0, 137, 42]
abbrev dktX4_init_13 : List UInt8 := dkwX4_init_13 ++ dktX4_init_14
def dkwX4_init_12 : List UInt8 := [181, 0, 118, 42, 16, 30, 188, 10, 181, 0, 121, 42, 16, 12, 188, 10, 181, 0, 124, 42, 16, 11, 188, 10]
abbrev dktX4_init_12 : List UInt8 := dkwX4_init_12 ++ dktX4_init_13
def dkwX4_init_11 : List UInt8 := [181, 0, 109, 42, 16, 30, 188, 10, 181, 0, 112, 42, 16, 30, 188, 10, 181, 0, 115, 42, 16, 30, 188, 10]
abbrev dktX4_init_11 : List UInt8 := dkwX4_init_11 ++ dktX4_init_12
def dkwX4_init_10 : List UInt8 := [42, 16, 8, 188, 10, 181, 0, 103, 42, 17, 0, 180, 188, 10, 181, 0, 106, 42, 16, 30, 188, 10]
abbrev dktX4_init_10 : List UInt8 := dkwX4_init_10 ++ dktX4_init_11
def dkwX4_init_9 : List UInt8 := [17, 3, 11, 188, 10, 181, 0, 94, 42, 16, 19, 188, 10, 181, 0, 97, 42, 16, 6, 188, 10, 181, 0, 100]
abbrev dktX4_init_9 : List UInt8 := dkwX4_init_9 ++ dktX4_init_10
def dkwX4_init_8 : List UInt8 := [42, 16, 60, 188, 10, 181, 0, 85, 42, 16, 19, 188, 10, 181, 0, 88, 42, 2, 181, 0, 91, 42]
abbrev dktX4_init_8 : List UInt8 := dkwX4_init_8 ++ dktX4_init_9
def dkwX4_init_7 : List UInt8 := [17, 4, 96, 188, 10, 181, 0, 76, 42, 16, 90, 188, 10, 181, 0, 79, 42, 16, 90, 188, 10, 181, 0, 82]
abbrev dktX4_init_7 : List UInt8 := dkwX4_init_7 ++ dktX4_init_8
def dkwX4_init_6 : List UInt8 := [188, 11, 181, 0, 67, 42, 16, 20, 188, 11, 181, 0, 70, 42, 17, 4, 96, 188, 10, 181, 0, 73, 42]
abbrev dktX4_init_6 : List UInt8 := dkwX4_init_6 ++ dktX4_init_7
def dkwX4_init_5 : List UInt8 := [188, 10, 181, 0, 57, 42, 5, 188, 10, 181, 0, 60, 42, 16, 12, 188, 11, 181, 0, 63, 42, 16, 10]
abbrev dktX4_init_5 : List UInt8 := dkwX4_init_5 ++ dktX4_init_6
def dkwX4_init_4 : List UInt8 := [188, 10, 181, 0, 48, 42, 16, 20, 188, 10, 181, 0, 51, 42, 16, 20, 188, 10, 181, 0, 54, 42, 5]
abbrev dktX4_init_4 : List UInt8 := dkwX4_init_4 ++ dktX4_init_5
def dkwX4_init_3 : List UInt8 := [188, 10, 181, 0, 39, 42, 16, 12, 188, 10, 181, 0, 42, 42, 16, 20, 188, 10, 181, 0, 45, 42, 16, 20]
abbrev dktX4_init_3 : List UInt8 := dkwX4_init_3 ++ dktX4_init_4
def dkwX4_init_2 : List UInt8 := [42, 5, 188, 10, 181, 0, 30, 42, 5, 188, 10, 181, 0, 33, 42, 5, 188, 10, 181, 0, 36, 42, 5]
abbrev dktX4_init_2 : List UInt8 := dkwX4_init_2 ++ dktX4_init_3
def dkwX4_init_1 : List UInt8 := [181, 0, 16, 42, 5, 188, 10, 181, 0, 20, 42, 5, 188, 10, 181, 0, 24, 42, 5, 188, 10, 181, 0, 27]
abbrev dktX4_init_1 : List UInt8 := dkwX4_init_1 ++ dktX4_init_2
def dkwX4_init_0 : List UInt8 := [42, 183, 0, 1, 42, 17, 6, 84, 188, 8, 181, 0, 7, 42, 17, 6, 64, 188, 8, 181, 0, 13, 42, 2]
abbrev dktX4_init_0 : List UInt8 := dkwX4_init_0 ++ dktX4_init_1
theorem dksX4_init_0 : cX4_init.data.toList.drop 0 = dktX4_init_0 := by decide +kernel
theorem dksX4_init_1 : cX4_init.data.toList.drop 24 = dktX4_init_1 := dk_seg dksX4_init_0 24 rfl rfl
theorem dksX4_init_2 : cX4_init.data.toList.drop 48 = dktX4_init_2 := dk_seg dksX4_init_1 24 rfl rfl
theorem dksX4_init_3 : cX4_init.data.toList.drop 71 = dktX4_init_3 := dk_seg dksX4_init_2 23 rfl rfl
theorem dksX4_init_4 : cX4_init.data.toList.drop 95 = dktX4_init_4 := dk_seg dksX4_init_3 24 rfl rfl
theorem dksX4_init_5 : cX4_init.data.toList.drop 118 = dktX4_init_5 := dk_seg dksX4_init_4 23 rfl rfl
theorem dksX4_init_6 : cX4_init.data.toList.drop 141 = dktX4_init_6 := dk_seg dksX4_init_5 23 rfl rfl
theorem dksX4_init_7 : cX4_init.data.toList.drop 164 = dktX4_init_7 := dk_seg dksX4_init_6 23 rfl rfl
theorem dksX4_init_8 : cX4_init.data.toList.drop 188 = dktX4_init_8 := dk_seg dksX4_init_7 24 rfl rfl
theorem dksX4_init_9 : cX4_init.data.toList.drop 210 = dktX4_init_9 := dk_seg dksX4_init_8 22 rfl rfl
theorem dksX4_init_10 : cX4_init.data.toList.drop 234 = dktX4_init_10 := dk_seg dksX4_init_9 24 rfl rfl
theorem dksX4_init_11 : cX4_init.data.toList.drop 256 = dktX4_init_11 := dk_seg dksX4_init_10 22 rfl rfl
theorem dksX4_init_12 : cX4_init.data.toList.drop 280 = dktX4_init_12 := dk_seg dksX4_init_11 24 rfl rfl
theorem dksX4_init_13 : cX4_init.data.toList.drop 304 = dktX4_init_13 := dk_seg dksX4_init_12 24 rfl rfl
theorem dksX4_init_14 : cX4_init.data.toList.drop 327 = dktX4_init_14 := dk_seg dksX4_init_13 23 rfl rfl
theorem dX4_init_0 : decode cX4_init 0 = .ok (.aload_n 0, 1) := dk_42 (dk_at dksX4_init_0 0 rfl rfl)
theorem dX4_init_1 : decode cX4_init 1 = .ok (.invokespecial 1, 3) := dk_183 0 1 (dk_at dksX4_init_0 1 rfl rfl)
theorem dX4_init_4 : decode cX4_init 4 = .ok (.aload_n 0, 1) := dk_42 (dk_at dksX4_init_0 4 rfl rfl)
theorem dX4_init_5 : decode cX4_init 5 = .ok (.sipush 1620, 3) := dk_17 6 84 (dk_at dksX4_init_0 5 rfl rfl)
theorem dX4_init_8 : decode cX4_init 8 = .ok (.newarray .byte, 2) := dk_188_8 (dk_at dksX4_init_0 8 rfl rfl)
theorem dX4_init_10 : decode cX4_init 10 = .ok (.putfield 7, 3) := dk_181 0 7 (dk_at dksX4_init_0 10 rfl rfl)
theorem dX4_init_13 : decode cX4_init 13 = .ok (.aload_n 0, 1) := dk_42 (dk_at dksX4_init_0 13 rfl rfl)
theorem dX4_init_14 : decode cX4_init 14 = .ok (.sipush 1600, 3) := dk_17 6 64 (dk_at dksX4_init_0 14 rfl rfl)
theorem dX4_init_17 : decode cX4_init 17 = .ok (.newarray .byte, 2) := dk_188_8 (dk_at dksX4_init_0 17 rfl rfl)
theorem dX4_init_19 : decode cX4_init 19 = .ok (.putfield 13, 3) := dk_181 0 13 (dk_at dksX4_init_0 19 rfl rfl)
theorem dX4_init_22 : decode cX4_init 22 = .ok (.aload_n 0, 1) := dk_42 (dk_at dksX4_init_0 22 rfl rfl)
theorem dX4_init_23 : decode cX4_init 23 = .ok (.iconst (-1), 1) := dk_2 (dk_at dksX4_init_0 23 rfl rfl)
theorem dX4_init_24 : decode cX4_init 24 = .ok (.putfield 16, 3) := dk_181 0 16 (dk_at dksX4_init_1 0 rfl rfl)
theorem dX4_init_27 : decode cX4_init 27 = .ok (.aload_n 0, 1) := dk_42 (dk_at dksX4_init_1 3 rfl rfl)
theorem dX4_init_28 : decode cX4_init 28 = .ok (.iconst 2, 1) := dk_5 (dk_at dksX4_init_1 4 rfl rfl)
theorem dX4_init_29 : decode cX4_init 29 = .ok (.newarray .int, 2) := dk_188_10 (dk_at dksX4_init_1 5 rfl rfl)
theorem dX4_init_31 : decode cX4_init 31 = .ok (.putfield 20, 3) := dk_181 0 20 (dk_at dksX4_init_1 7 rfl rfl)
theorem dX4_init_34 : decode cX4_init 34 = .ok (.aload_n 0, 1) := dk_42 (dk_at dksX4_init_1 10 rfl rfl)
theorem dX4_init_35 : decode cX4_init 35 = .ok (.iconst 2, 1) := dk_5 (dk_at dksX4_init_1 11 rfl rfl)
theorem dX4_init_36 : decode cX4_init 36 = .ok (.newarray .int, 2) := dk_188_10 (dk_at dksX4_init_1 12 rfl rfl)
theorem dX4_init_38 : decode cX4_init 38 = .ok (.putfield 24, 3) := dk_181 0 24 (dk_at dksX4_init_1 14 rfl rfl)
theorem dX4_init_41 : decode cX4_init 41 = .ok (.aload_n 0, 1) := dk_42 (dk_at dksX4_init_1 17 rfl rfl)
theorem dX4_init_42 : decode cX4_init 42 = .ok (.iconst 2, 1) := dk_5 (dk_at dksX4_init_1 18 rfl rfl)
theorem dX4_init_43 : decode cX4_init 43 = .ok (.newarray .int, 2) := dk_188_10 (dk_at dksX4_init_1 19 rfl rfl)
theorem dX4_init_45 : decode cX4_init 45 = .ok (.putfield 27, 3) := dk_181 0 27 (dk_at dksX4_init_1 21 rfl rfl)
theorem dX4_init_48 : decode cX4_init 48 = .ok (.aload_n 0, 1) := dk_42 (dk_at dksX4_init_2 0 rfl rfl)
theorem dX4_init_49 : decode cX4_init 49 = .ok (.iconst 2, 1) := dk_5 (dk_at dksX4_init_2 1 rfl rfl)
theorem dX4_init_50 : decode cX4_init 50 = .ok (.newarray .int, 2) := dk_188_10 (dk_at dksX4_init_2 2 rfl rfl)
theorem dX4_init_52 : decode cX4_init 52 = .ok (.putfield 30, 3) := dk_181 0 30 (dk_at dksX4_init_2 4 rfl rfl)
theorem dX4_init_55 : decode cX4_init 55 = .ok (.aload_n 0, 1) := dk_42 (dk_at dksX4_init_2 7 rfl rfl)
theorem dX4_init_56 : decode cX4_init 56 = .ok (.iconst 2, 1) := dk_5 (dk_at dksX4_init_2 8 rfl rfl)
theorem dX4_init_57 : decode cX4_init 57 = .ok (.newarray .int, 2) := dk_188_10 (dk_at dksX4_init_2 9 rfl rfl)
theorem dX4_init_59 : decode cX4_init 59 = .ok (.putfield 33, 3) := dk_181 0 33 (dk_at dksX4_init_2 11 rfl rfl)
theorem dX4_init_62 : decode cX4_init 62 = .ok (.aload_n 0, 1) := dk_42 (dk_at dksX4_init_2 14 rfl rfl)
theorem dX4_init_63 : decode cX4_init 63 = .ok (.iconst 2, 1) := dk_5 (dk_at dksX4_init_2 15 rfl rfl)
theorem dX4_init_64 : decode cX4_init 64 = .ok (.newarray .int, 2) := dk_188_10 (dk_at dksX4_init_2 16 rfl rfl)
theorem dX4_init_66 : decode cX4_init 66 = .ok (.putfield 36, 3) := dk_181 0 36 (dk_at dksX4_init_2 18 rfl rfl)
theorem dX4_init_69 : decode cX4_init 69 = .ok (.aload_n 0, 1) := dk_42 (dk_at dksX4_init_2 21 rfl rfl)
theorem dX4_init_70 : decode cX4_init 70 = .ok (.iconst 2, 1) := dk_5 (dk_at dksX4_init_2 22 rfl rfl)
theorem dX4_init_71 : decode cX4_init 71 = .ok (.newarray .int, 2) := dk_188_10 (dk_at dksX4_init_3 0 rfl rfl)
theorem dX4_init_73 : decode cX4_init 73 = .ok (.putfield 39, 3) := dk_181 0 39 (dk_at dksX4_init_3 2 rfl rfl)
theorem dX4_init_76 : decode cX4_init 76 = .ok (.aload_n 0, 1) := dk_42 (dk_at dksX4_init_3 5 rfl rfl)
theorem dX4_init_77 : decode cX4_init 77 = .ok (.bipush 12, 2) := dk_16 12 (dk_at dksX4_init_3 6 rfl rfl)
theorem dX4_init_79 : decode cX4_init 79 = .ok (.newarray .int, 2) := dk_188_10 (dk_at dksX4_init_3 8 rfl rfl)
theorem dX4_init_81 : decode cX4_init 81 = .ok (.putfield 42, 3) := dk_181 0 42 (dk_at dksX4_init_3 10 rfl rfl)
theorem dX4_init_84 : decode cX4_init 84 = .ok (.aload_n 0, 1) := dk_42 (dk_at dksX4_init_3 13 rfl rfl)
theorem dX4_init_85 : decode cX4_init 85 = .ok (.bipush 20, 2) := dk_16 20 (dk_at dksX4_init_3 14 rfl rfl)
theorem dX4_init_87 : decode cX4_init 87 = .ok (.newarray .int, 2) := dk_188_10 (dk_at dksX4_init_3 16 rfl rfl)
theorem dX4_init_89 : decode cX4_init 89 = .ok (.putfield 45, 3) := dk_181 0 45 (dk_at dksX4_init_3 18 rfl rfl)
theorem dX4_init_92 : decode cX4_init 92 = .ok (.aload_n 0, 1) := dk_42 (dk_at dksX4_init_3 21 rfl rfl)
theorem dX4_init_93 : decode cX4_init 93 = .ok (.bipush 20, 2) := dk_16 20 (dk_at dksX4_init_3 22 rfl rfl)
theorem dX4_init_95 : decode cX4_init 95 = .ok (.newarray .int, 2) := dk_188_10 (dk_at dksX4_init_4 0 rfl rfl)
theorem dX4_init_97 : decode cX4_init 97 = .ok (.putfield 48, 3) := dk_181 0 48 (dk_at dksX4_init_4 2 rfl rfl)
theorem dX4_init_100 : decode cX4_init 100 = .ok (.aload_n 0, 1) := dk_42 (dk_at dksX4_init_4 5 rfl rfl)
theorem dX4_init_101 : decode cX4_init 101 = .ok (.bipush 20, 2) := dk_16 20 (dk_at dksX4_init_4 6 rfl rfl)
theorem dX4_init_103 : decode cX4_init 103 = .ok (.newarray .int, 2) := dk_188_10 (dk_at dksX4_init_4 8 rfl rfl)
theorem dX4_init_105 : decode cX4_init 105 = .ok (.putfield 51, 3) := dk_181 0 51 (dk_at dksX4_init_4 10 rfl rfl)
theorem dX4_init_108 : decode cX4_init 108 = .ok (.aload_n 0, 1) := dk_42 (dk_at dksX4_init_4 13 rfl rfl)
theorem dX4_init_109 : decode cX4_init 109 = .ok (.bipush 20, 2) := dk_16 20 (dk_at dksX4_init_4 14 rfl rfl)
theorem dX4_init_111 : decode cX4_init 111 = .ok (.newarray .int, 2) := dk_188_10 (dk_at dksX4_init_4 16 rfl rfl)
theorem dX4_init_113 : decode cX4_init 113 = .ok (.putfield 54, 3) := dk_181 0 54 (dk_at dksX4_init_4 18 rfl rfl)
theorem dX4_init_116 : decode cX4_init 116 = .ok (.aload_n 0, 1) := dk_42 (dk_at dksX4_init_4 21 rfl rfl)
theorem dX4_init_117 : decode cX4_init 117 = .ok (.iconst 2, 1) := dk_5 (dk_at dksX4_init_4 22 rfl rfl)
theorem dX4_init_118 : decode cX4_init 118 = .ok (.newarray .int, 2) := dk_188_10 (dk_at dksX4_init_5 0 rfl rfl)
theorem dX4_init_120 : decode cX4_init 120 = .ok (.putfield 57, 3) := dk_181 0 57 (dk_at dksX4_init_5 2 rfl rfl)
theorem dX4_init_123 : decode cX4_init 123 = .ok (.aload_n 0, 1) := dk_42 (dk_at dksX4_init_5 5 rfl rfl)
theorem dX4_init_124 : decode cX4_init 124 = .ok (.iconst 2, 1) := dk_5 (dk_at dksX4_init_5 6 rfl rfl)
theorem dX4_init_125 : decode cX4_init 125 = .ok (.newarray .int, 2) := dk_188_10 (dk_at dksX4_init_5 7 rfl rfl)
theorem dX4_init_127 : decode cX4_init 127 = .ok (.putfield 60, 3) := dk_181 0 60 (dk_at dksX4_init_5 9 rfl rfl)
theorem dX4_init_130 : decode cX4_init 130 = .ok (.aload_n 0, 1) := dk_42 (dk_at dksX4_init_5 12 rfl rfl)
theorem dX4_init_131 : decode cX4_init 131 = .ok (.bipush 12, 2) := dk_16 12 (dk_at dksX4_init_5 13 rfl rfl)
theorem dX4_init_133 : decode cX4_init 133 = .ok (.newarray .long, 2) := dk_188_11 (dk_at dksX4_init_5 15 rfl rfl)
theorem dX4_init_135 : decode cX4_init 135 = .ok (.putfield 63, 3) := dk_181 0 63 (dk_at dksX4_init_5 17 rfl rfl)
theorem dX4_init_138 : decode cX4_init 138 = .ok (.aload_n 0, 1) := dk_42 (dk_at dksX4_init_5 20 rfl rfl)
theorem dX4_init_139 : decode cX4_init 139 = .ok (.bipush 10, 2) := dk_16 10 (dk_at dksX4_init_5 21 rfl rfl)
theorem dX4_init_141 : decode cX4_init 141 = .ok (.newarray .long, 2) := dk_188_11 (dk_at dksX4_init_6 0 rfl rfl)
theorem dX4_init_143 : decode cX4_init 143 = .ok (.putfield 67, 3) := dk_181 0 67 (dk_at dksX4_init_6 2 rfl rfl)
theorem dX4_init_146 : decode cX4_init 146 = .ok (.aload_n 0, 1) := dk_42 (dk_at dksX4_init_6 5 rfl rfl)
theorem dX4_init_147 : decode cX4_init 147 = .ok (.bipush 20, 2) := dk_16 20 (dk_at dksX4_init_6 6 rfl rfl)
theorem dX4_init_149 : decode cX4_init 149 = .ok (.newarray .long, 2) := dk_188_11 (dk_at dksX4_init_6 8 rfl rfl)
theorem dX4_init_151 : decode cX4_init 151 = .ok (.putfield 70, 3) := dk_181 0 70 (dk_at dksX4_init_6 10 rfl rfl)
theorem dX4_init_154 : decode cX4_init 154 = .ok (.aload_n 0, 1) := dk_42 (dk_at dksX4_init_6 13 rfl rfl)
theorem dX4_init_155 : decode cX4_init 155 = .ok (.sipush 1120, 3) := dk_17 4 96 (dk_at dksX4_init_6 14 rfl rfl)
theorem dX4_init_158 : decode cX4_init 158 = .ok (.newarray .int, 2) := dk_188_10 (dk_at dksX4_init_6 17 rfl rfl)
theorem dX4_init_160 : decode cX4_init 160 = .ok (.putfield 73, 3) := dk_181 0 73 (dk_at dksX4_init_6 19 rfl rfl)
theorem dX4_init_163 : decode cX4_init 163 = .ok (.aload_n 0, 1) := dk_42 (dk_at dksX4_init_6 22 rfl rfl)
theorem dX4_init_164 : decode cX4_init 164 = .ok (.sipush 1120, 3) := dk_17 4 96 (dk_at dksX4_init_7 0 rfl rfl)
theorem dX4_init_167 : decode cX4_init 167 = .ok (.newarray .int, 2) := dk_188_10 (dk_at dksX4_init_7 3 rfl rfl)
theorem dX4_init_169 : decode cX4_init 169 = .ok (.putfield 76, 3) := dk_181 0 76 (dk_at dksX4_init_7 5 rfl rfl)
theorem dX4_init_172 : decode cX4_init 172 = .ok (.aload_n 0, 1) := dk_42 (dk_at dksX4_init_7 8 rfl rfl)
theorem dX4_init_173 : decode cX4_init 173 = .ok (.bipush 90, 2) := dk_16 90 (dk_at dksX4_init_7 9 rfl rfl)
theorem dX4_init_175 : decode cX4_init 175 = .ok (.newarray .int, 2) := dk_188_10 (dk_at dksX4_init_7 11 rfl rfl)
theorem dX4_init_177 : decode cX4_init 177 = .ok (.putfield 79, 3) := dk_181 0 79 (dk_at dksX4_init_7 13 rfl rfl)
theorem dX4_init_180 : decode cX4_init 180 = .ok (.aload_n 0, 1) := dk_42 (dk_at dksX4_init_7 16 rfl rfl)
theorem dX4_init_181 : decode cX4_init 181 = .ok (.bipush 90, 2) := dk_16 90 (dk_at dksX4_init_7 17 rfl rfl)
theorem dX4_init_183 : decode cX4_init 183 = .ok (.newarray .int, 2) := dk_188_10 (dk_at dksX4_init_7 19 rfl rfl)
theorem dX4_init_185 : decode cX4_init 185 = .ok (.putfield 82, 3) := dk_181 0 82 (dk_at dksX4_init_7 21 rfl rfl)
theorem dX4_init_188 : decode cX4_init 188 = .ok (.aload_n 0, 1) := dk_42 (dk_at dksX4_init_8 0 rfl rfl)
theorem dX4_init_189 : decode cX4_init 189 = .ok (.bipush 60, 2) := dk_16 60 (dk_at dksX4_init_8 1 rfl rfl)
theorem dX4_init_191 : decode cX4_init 191 = .ok (.newarray .int, 2) := dk_188_10 (dk_at dksX4_init_8 3 rfl rfl)
theorem dX4_init_193 : decode cX4_init 193 = .ok (.putfield 85, 3) := dk_181 0 85 (dk_at dksX4_init_8 5 rfl rfl)
theorem dX4_init_196 : decode cX4_init 196 = .ok (.aload_n 0, 1) := dk_42 (dk_at dksX4_init_8 8 rfl rfl)
theorem dX4_init_197 : decode cX4_init 197 = .ok (.bipush 19, 2) := dk_16 19 (dk_at dksX4_init_8 9 rfl rfl)
theorem dX4_init_199 : decode cX4_init 199 = .ok (.newarray .int, 2) := dk_188_10 (dk_at dksX4_init_8 11 rfl rfl)
theorem dX4_init_201 : decode cX4_init 201 = .ok (.putfield 88, 3) := dk_181 0 88 (dk_at dksX4_init_8 13 rfl rfl)
theorem dX4_init_204 : decode cX4_init 204 = .ok (.aload_n 0, 1) := dk_42 (dk_at dksX4_init_8 16 rfl rfl)
theorem dX4_init_205 : decode cX4_init 205 = .ok (.iconst (-1), 1) := dk_2 (dk_at dksX4_init_8 17 rfl rfl)
theorem dX4_init_206 : decode cX4_init 206 = .ok (.putfield 91, 3) := dk_181 0 91 (dk_at dksX4_init_8 18 rfl rfl)
theorem dX4_init_209 : decode cX4_init 209 = .ok (.aload_n 0, 1) := dk_42 (dk_at dksX4_init_8 21 rfl rfl)
theorem dX4_init_210 : decode cX4_init 210 = .ok (.sipush 779, 3) := dk_17 3 11 (dk_at dksX4_init_9 0 rfl rfl)
theorem dX4_init_213 : decode cX4_init 213 = .ok (.newarray .int, 2) := dk_188_10 (dk_at dksX4_init_9 3 rfl rfl)
theorem dX4_init_215 : decode cX4_init 215 = .ok (.putfield 94, 3) := dk_181 0 94 (dk_at dksX4_init_9 5 rfl rfl)
theorem dX4_init_218 : decode cX4_init 218 = .ok (.aload_n 0, 1) := dk_42 (dk_at dksX4_init_9 8 rfl rfl)
theorem dX4_init_219 : decode cX4_init 219 = .ok (.bipush 19, 2) := dk_16 19 (dk_at dksX4_init_9 9 rfl rfl)
theorem dX4_init_221 : decode cX4_init 221 = .ok (.newarray .int, 2) := dk_188_10 (dk_at dksX4_init_9 11 rfl rfl)
theorem dX4_init_223 : decode cX4_init 223 = .ok (.putfield 97, 3) := dk_181 0 97 (dk_at dksX4_init_9 13 rfl rfl)
theorem dX4_init_226 : decode cX4_init 226 = .ok (.aload_n 0, 1) := dk_42 (dk_at dksX4_init_9 16 rfl rfl)
theorem dX4_init_227 : decode cX4_init 227 = .ok (.bipush 6, 2) := dk_16 6 (dk_at dksX4_init_9 17 rfl rfl)
theorem dX4_init_229 : decode cX4_init 229 = .ok (.newarray .int, 2) := dk_188_10 (dk_at dksX4_init_9 19 rfl rfl)
theorem dX4_init_231 : decode cX4_init 231 = .ok (.putfield 100, 3) := dk_181 0 100 (dk_at dksX4_init_9 21 rfl rfl)
theorem dX4_init_234 : decode cX4_init 234 = .ok (.aload_n 0, 1) := dk_42 (dk_at dksX4_init_10 0 rfl rfl)
theorem dX4_init_235 : decode cX4_init 235 = .ok (.bipush 8, 2) := dk_16 8 (dk_at dksX4_init_10 1 rfl rfl)
theorem dX4_init_237 : decode cX4_init 237 = .ok (.newarray .int, 2) := dk_188_10 (dk_at dksX4_init_10 3 rfl rfl)
theorem dX4_init_239 : decode cX4_init 239 = .ok (.putfield 103, 3) := dk_181 0 103 (dk_at dksX4_init_10 5 rfl rfl)
theorem dX4_init_242 : decode cX4_init 242 = .ok (.aload_n 0, 1) := dk_42 (dk_at dksX4_init_10 8 rfl rfl)
theorem dX4_init_243 : decode cX4_init 243 = .ok (.sipush 180, 3) := dk_17 0 180 (dk_at dksX4_init_10 9 rfl rfl)
theorem dX4_init_246 : decode cX4_init 246 = .ok (.newarray .int, 2) := dk_188_10 (dk_at dksX4_init_10 12 rfl rfl)
theorem dX4_init_248 : decode cX4_init 248 = .ok (.putfield 106, 3) := dk_181 0 106 (dk_at dksX4_init_10 14 rfl rfl)
theorem dX4_init_251 : decode cX4_init 251 = .ok (.aload_n 0, 1) := dk_42 (dk_at dksX4_init_10 17 rfl rfl)
theorem dX4_init_252 : decode cX4_init 252 = .ok (.bipush 30, 2) := dk_16 30 (dk_at dksX4_init_10 18 rfl rfl)
theorem dX4_init_254 : decode cX4_init 254 = .ok (.newarray .int, 2) := dk_188_10 (dk_at dksX4_init_10 20 rfl rfl)
theorem dX4_init_256 : decode cX4_init 256 = .ok (.putfield 109, 3) := dk_181 0 109 (dk_at dksX4_init_11 0 rfl rfl)
theorem dX4_init_259 : decode cX4_init 259 = .ok (.aload_n 0, 1) := dk_42 (dk_at dksX4_init_11 3 rfl rfl)
theorem dX4_init_260 : decode cX4_init 260 = .ok (.bipush 30, 2) := dk_16 30 (dk_at dksX4_init_11 4 rfl rfl)
theorem dX4_init_262 : decode cX4_init 262 = .ok (.newarray .int, 2) := dk_188_10 (dk_at dksX4_init_11 6 rfl rfl)
theorem dX4_init_264 : decode cX4_init 264 = .ok (.putfield 112, 3) := dk_181 0 112 (dk_at dksX4_init_11 8 rfl rfl)
theorem dX4_init_267 : decode cX4_init 267 = .ok (.aload_n 0, 1) := dk_42 (dk_at dksX4_init_11 11 rfl rfl)
theorem dX4_init_268 : decode cX4_init 268 = .ok (.bipush 30, 2) := dk_16 30 (dk_at dksX4_init_11 12 rfl rfl)
theorem dX4_init_270 : decode cX4_init 270 = .ok (.newarray .int, 2) := dk_188_10 (dk_at dksX4_init_11 14 rfl rfl)
theorem dX4_init_272 : decode cX4_init 272 = .ok (.putfield 115, 3) := dk_181 0 115 (dk_at dksX4_init_11 16 rfl rfl)
theorem dX4_init_275 : decode cX4_init 275 = .ok (.aload_n 0, 1) := dk_42 (dk_at dksX4_init_11 19 rfl rfl)
theorem dX4_init_276 : decode cX4_init 276 = .ok (.bipush 30, 2) := dk_16 30 (dk_at dksX4_init_11 20 rfl rfl)
theorem dX4_init_278 : decode cX4_init 278 = .ok (.newarray .int, 2) := dk_188_10 (dk_at dksX4_init_11 22 rfl rfl)
theorem dX4_init_280 : decode cX4_init 280 = .ok (.putfield 118, 3) := dk_181 0 118 (dk_at dksX4_init_12 0 rfl rfl)
theorem dX4_init_283 : decode cX4_init 283 = .ok (.aload_n 0, 1) := dk_42 (dk_at dksX4_init_12 3 rfl rfl)
theorem dX4_init_284 : decode cX4_init 284 = .ok (.bipush 30, 2) := dk_16 30 (dk_at dksX4_init_12 4 rfl rfl)
theorem dX4_init_286 : decode cX4_init 286 = .ok (.newarray .int, 2) := dk_188_10 (dk_at dksX4_init_12 6 rfl rfl)
theorem dX4_init_288 : decode cX4_init 288 = .ok (.putfield 121, 3) := dk_181 0 121 (dk_at dksX4_init_12 8 rfl rfl)
theorem dX4_init_291 : decode cX4_init 291 = .ok (.aload_n 0, 1) := dk_42 (dk_at dksX4_init_12 11 rfl rfl)
theorem dX4_init_292 : decode cX4_init 292 = .ok (.bipush 12, 2) := dk_16 12 (dk_at dksX4_init_12 12 rfl rfl)
theorem dX4_init_294 : decode cX4_init 294 = .ok (.newarray .int, 2) := dk_188_10 (dk_at dksX4_init_12 14 rfl rfl)
theorem dX4_init_296 : decode cX4_init 296 = .ok (.putfield 124, 3) := dk_181 0 124 (dk_at dksX4_init_12 16 rfl rfl)
theorem dX4_init_299 : decode cX4_init 299 = .ok (.aload_n 0, 1) := dk_42 (dk_at dksX4_init_12 19 rfl rfl)
theorem dX4_init_300 : decode cX4_init 300 = .ok (.bipush 11, 2) := dk_16 11 (dk_at dksX4_init_12 20 rfl rfl)
theorem dX4_init_302 : decode cX4_init 302 = .ok (.newarray .int, 2) := dk_188_10 (dk_at dksX4_init_12 22 rfl rfl)
theorem dX4_init_304 : decode cX4_init 304 = .ok (.putfield 127, 3) := dk_181 0 127 (dk_at dksX4_init_13 0 rfl rfl)
theorem dX4_init_307 : decode cX4_init 307 = .ok (.aload_n 0, 1) := dk_42 (dk_at dksX4_init_13 3 rfl rfl)
theorem dX4_init_308 : decode cX4_init 308 = .ok (.bipush 57, 2) := dk_16 57 (dk_at dksX4_init_13 4 rfl rfl)
theorem dX4_init_310 : decode cX4_init 310 = .ok (.newarray .int, 2) := dk_188_10 (dk_at dksX4_init_13 6 rfl rfl)
theorem dX4_init_312 : decode cX4_init 312 = .ok (.putfield 130, 3) := dk_181 0 130 (dk_at dksX4_init_13 8 rfl rfl)
theorem dX4_init_315 : decode cX4_init 315 = .ok (.aload_n 0, 1) := dk_42 (dk_at dksX4_init_13 11 rfl rfl)
theorem dX4_init_316 : decode cX4_init 316 = .ok (.iconst 3, 1) := dk_6 (dk_at dksX4_init_13 12 rfl rfl)
theorem dX4_init_317 : decode cX4_init 317 = .ok (.newarray .boolean, 2) := dk_188_4 (dk_at dksX4_init_13 13 rfl rfl)
theorem dX4_init_319 : decode cX4_init 319 = .ok (.putfield 133, 3) := dk_181 0 133 (dk_at dksX4_init_13 15 rfl rfl)
theorem dX4_init_322 : decode cX4_init 322 = .ok (.aload_n 0, 1) := dk_42 (dk_at dksX4_init_13 18 rfl rfl)
theorem dX4_init_323 : decode cX4_init 323 = .ok (.invokevirtual 137, 3) := dk_182 0 137 (dk_at dksX4_init_13 19 rfl rfl)
theorem dX4_init_326 : decode cX4_init 326 = .ok (.aload_n 0, 1) := dk_42 (dk_at dksX4_init_13 22 rfl rfl)
theorem dX4_init_327 : decode cX4_init 327 = .ok (.invokevirtual 140, 3) := dk_182 0 140 (dk_at dksX4_init_14 0 rfl rfl)
theorem dX4_init_330 : decode cX4_init 330 = .ok (.return_, 1) := dk_177 (dk_at dksX4_init_14 3 rfl rfl)
abbrev cX4_clearBank : ByteArray := prog_23_method_16_code
def yX4_clearBank : MethodName := ⟨RX4, "clearBank", "()V"⟩
def dkwX4_clearBank_3 : List UInt8 := [17, 2, 48, 42, 180, 0, 244, 104, 181, 0, 247, 177]
abbrev dktX4_clearBank_3 : List UInt8 := dkwX4_clearBank_3 ++ []
def dkwX4_clearBank_2 : List UInt8 := [3, 79, 42, 180, 0, 36, 42, 180, 0, 244, 3, 79, 42, 180, 0, 39, 42, 180, 0, 244, 3, 79, 42]
abbrev dktX4_clearBank_2 : List UInt8 := dkwX4_clearBank_2 ++ dktX4_clearBank_3
def dkwX4_clearBank_1 : List UInt8 := [42, 180, 0, 244, 3, 79, 42, 180, 0, 30, 42, 180, 0, 244, 3, 79, 42, 180, 0, 33, 42, 180, 0, 244]
abbrev dktX4_clearBank_1 : List UInt8 := dkwX4_clearBank_1 ++ dktX4_clearBank_2
def dkwX4_clearBank_0 : List UInt8 := [42, 180, 0, 20, 42, 180, 0, 244, 3, 79, 42, 180, 0, 24, 42, 180, 0, 244, 3, 79, 42, 180, 0, 27]
abbrev dktX4_clearBank_0 : List UInt8 := dkwX4_clearBank_0 ++ dktX4_clearBank_1
theorem dksX4_clearBank_0 : cX4_clearBank.data.toList.drop 0 = dktX4_clearBank_0 := by decide +kernel
theorem dksX4_clearBank_1 : cX4_clearBank.data.toList.drop 24 = dktX4_clearBank_1 := dk_seg dksX4_clearBank_0 24 rfl rfl
theorem dksX4_clearBank_2 : cX4_clearBank.data.toList.drop 48 = dktX4_clearBank_2 := dk_seg dksX4_clearBank_1 24 rfl rfl
theorem dksX4_clearBank_3 : cX4_clearBank.data.toList.drop 71 = dktX4_clearBank_3 := dk_seg dksX4_clearBank_2 23 rfl rfl
theorem dX4_clearBank_0 : decode cX4_clearBank 0 = .ok (.aload_n 0, 1) := dk_42 (dk_at dksX4_clearBank_0 0 rfl rfl)
theorem dX4_clearBank_1 : decode cX4_clearBank 1 = .ok (.getfield 20, 3) := dk_180 0 20 (dk_at dksX4_clearBank_0 1 rfl rfl)
theorem dX4_clearBank_4 : decode cX4_clearBank 4 = .ok (.aload_n 0, 1) := dk_42 (dk_at dksX4_clearBank_0 4 rfl rfl)
theorem dX4_clearBank_5 : decode cX4_clearBank 5 = .ok (.getfield 244, 3) := dk_180 0 244 (dk_at dksX4_clearBank_0 5 rfl rfl)
theorem dX4_clearBank_8 : decode cX4_clearBank 8 = .ok (.iconst 0, 1) := dk_3 (dk_at dksX4_clearBank_0 8 rfl rfl)
theorem dX4_clearBank_9 : decode cX4_clearBank 9 = .ok (.iastore, 1) := dk_79 (dk_at dksX4_clearBank_0 9 rfl rfl)
theorem dX4_clearBank_10 : decode cX4_clearBank 10 = .ok (.aload_n 0, 1) := dk_42 (dk_at dksX4_clearBank_0 10 rfl rfl)
theorem dX4_clearBank_11 : decode cX4_clearBank 11 = .ok (.getfield 24, 3) := dk_180 0 24 (dk_at dksX4_clearBank_0 11 rfl rfl)
theorem dX4_clearBank_14 : decode cX4_clearBank 14 = .ok (.aload_n 0, 1) := dk_42 (dk_at dksX4_clearBank_0 14 rfl rfl)
theorem dX4_clearBank_15 : decode cX4_clearBank 15 = .ok (.getfield 244, 3) := dk_180 0 244 (dk_at dksX4_clearBank_0 15 rfl rfl)
theorem dX4_clearBank_18 : decode cX4_clearBank 18 = .ok (.iconst 0, 1) := dk_3 (dk_at dksX4_clearBank_0 18 rfl rfl)
theorem dX4_clearBank_19 : decode cX4_clearBank 19 = .ok (.iastore, 1) := dk_79 (dk_at dksX4_clearBank_0 19 rfl rfl)
theorem dX4_clearBank_20 : decode cX4_clearBank 20 = .ok (.aload_n 0, 1) := dk_42 (dk_at dksX4_clearBank_0 20 rfl rfl)
theorem dX4_clearBank_21 : decode cX4_clearBank 21 = .ok (.getfield 27, 3) := dk_180 0 27 (dk_at dksX4_clearBank_0 21 rfl rfl)
theorem dX4_clearBank_24 : decode cX4_clearBank 24 = .ok (.aload_n 0, 1) := dk_42 (dk_at dksX4_clearBank_1 0 rfl rfl)
theorem dX4_clearBank_25 : decode cX4_clearBank 25 = .ok (.getfield 244, 3) := dk_180 0 244 (dk_at dksX4_clearBank_1 1 rfl rfl)
theorem dX4_clearBank_28 : decode cX4_clearBank 28 = .ok (.iconst 0, 1) := dk_3 (dk_at dksX4_clearBank_1 4 rfl rfl)
theorem dX4_clearBank_29 : decode cX4_clearBank 29 = .ok (.iastore, 1) := dk_79 (dk_at dksX4_clearBank_1 5 rfl rfl)
theorem dX4_clearBank_30 : decode cX4_clearBank 30 = .ok (.aload_n 0, 1) := dk_42 (dk_at dksX4_clearBank_1 6 rfl rfl)
theorem dX4_clearBank_31 : decode cX4_clearBank 31 = .ok (.getfield 30, 3) := dk_180 0 30 (dk_at dksX4_clearBank_1 7 rfl rfl)
theorem dX4_clearBank_34 : decode cX4_clearBank 34 = .ok (.aload_n 0, 1) := dk_42 (dk_at dksX4_clearBank_1 10 rfl rfl)
theorem dX4_clearBank_35 : decode cX4_clearBank 35 = .ok (.getfield 244, 3) := dk_180 0 244 (dk_at dksX4_clearBank_1 11 rfl rfl)
theorem dX4_clearBank_38 : decode cX4_clearBank 38 = .ok (.iconst 0, 1) := dk_3 (dk_at dksX4_clearBank_1 14 rfl rfl)
theorem dX4_clearBank_39 : decode cX4_clearBank 39 = .ok (.iastore, 1) := dk_79 (dk_at dksX4_clearBank_1 15 rfl rfl)
theorem dX4_clearBank_40 : decode cX4_clearBank 40 = .ok (.aload_n 0, 1) := dk_42 (dk_at dksX4_clearBank_1 16 rfl rfl)
theorem dX4_clearBank_41 : decode cX4_clearBank 41 = .ok (.getfield 33, 3) := dk_180 0 33 (dk_at dksX4_clearBank_1 17 rfl rfl)
theorem dX4_clearBank_44 : decode cX4_clearBank 44 = .ok (.aload_n 0, 1) := dk_42 (dk_at dksX4_clearBank_1 20 rfl rfl)
theorem dX4_clearBank_45 : decode cX4_clearBank 45 = .ok (.getfield 244, 3) := dk_180 0 244 (dk_at dksX4_clearBank_1 21 rfl rfl)
theorem dX4_clearBank_48 : decode cX4_clearBank 48 = .ok (.iconst 0, 1) := dk_3 (dk_at dksX4_clearBank_2 0 rfl rfl)
theorem dX4_clearBank_49 : decode cX4_clearBank 49 = .ok (.iastore, 1) := dk_79 (dk_at dksX4_clearBank_2 1 rfl rfl)
theorem dX4_clearBank_50 : decode cX4_clearBank 50 = .ok (.aload_n 0, 1) := dk_42 (dk_at dksX4_clearBank_2 2 rfl rfl)
theorem dX4_clearBank_51 : decode cX4_clearBank 51 = .ok (.getfield 36, 3) := dk_180 0 36 (dk_at dksX4_clearBank_2 3 rfl rfl)
theorem dX4_clearBank_54 : decode cX4_clearBank 54 = .ok (.aload_n 0, 1) := dk_42 (dk_at dksX4_clearBank_2 6 rfl rfl)
theorem dX4_clearBank_55 : decode cX4_clearBank 55 = .ok (.getfield 244, 3) := dk_180 0 244 (dk_at dksX4_clearBank_2 7 rfl rfl)
theorem dX4_clearBank_58 : decode cX4_clearBank 58 = .ok (.iconst 0, 1) := dk_3 (dk_at dksX4_clearBank_2 10 rfl rfl)
theorem dX4_clearBank_59 : decode cX4_clearBank 59 = .ok (.iastore, 1) := dk_79 (dk_at dksX4_clearBank_2 11 rfl rfl)
theorem dX4_clearBank_60 : decode cX4_clearBank 60 = .ok (.aload_n 0, 1) := dk_42 (dk_at dksX4_clearBank_2 12 rfl rfl)
theorem dX4_clearBank_61 : decode cX4_clearBank 61 = .ok (.getfield 39, 3) := dk_180 0 39 (dk_at dksX4_clearBank_2 13 rfl rfl)
theorem dX4_clearBank_64 : decode cX4_clearBank 64 = .ok (.aload_n 0, 1) := dk_42 (dk_at dksX4_clearBank_2 16 rfl rfl)
theorem dX4_clearBank_65 : decode cX4_clearBank 65 = .ok (.getfield 244, 3) := dk_180 0 244 (dk_at dksX4_clearBank_2 17 rfl rfl)
theorem dX4_clearBank_68 : decode cX4_clearBank 68 = .ok (.iconst 0, 1) := dk_3 (dk_at dksX4_clearBank_2 20 rfl rfl)
theorem dX4_clearBank_69 : decode cX4_clearBank 69 = .ok (.iastore, 1) := dk_79 (dk_at dksX4_clearBank_2 21 rfl rfl)
theorem dX4_clearBank_70 : decode cX4_clearBank 70 = .ok (.aload_n 0, 1) := dk_42 (dk_at dksX4_clearBank_2 22 rfl rfl)
theorem dX4_clearBank_71 : decode cX4_clearBank 71 = .ok (.sipush 560, 3) := dk_17 2 48 (dk_at dksX4_clearBank_3 0 rfl rfl)
theorem dX4_clearBank_74 : decode cX4_clearBank 74 = .ok (.aload_n 0, 1) := dk_42 (dk_at dksX4_clearBank_3 3 rfl rfl)
theorem dX4_clearBank_75 : decode cX4_clearBank 75 = .ok (.getfield 244, 3) := dk_180 0 244 (dk_at dksX4_clearBank_3 4 rfl rfl)
theorem dX4_clearBank_78 : decode cX4_clearBank 78 = .ok (.imul, 1) := dk_104 (dk_at dksX4_clearBank_3 7 rfl rfl)
theorem dX4_clearBank_79 : decode cX4_clearBank 79 = .ok (.putfield 247, 3) := dk_181 0 247 (dk_at dksX4_clearBank_3 8 rfl rfl)
theorem dX4_clearBank_82 : decode cX4_clearBank 82 = .ok (.return_, 1) := dk_177 (dk_at dksX4_clearBank_3 11 rfl rfl)
abbrev cX4_startAnew : ByteArray := prog_23_method_53_code
def yX4_startAnew : MethodName := ⟨RX4, "startAnew", "()V"⟩
def dkwX4_startAnew_1 : List UInt8 := [3, 60, 27, 6, 162, 0, 16, 42, 180, 0, 133, 27, 3, 84, 132, 1, 1, 167, 255, 241, 177]
abbrev dktX4_startAnew_1 : List UInt8 := dkwX4_startAnew_1 ++ []
def dkwX4_startAnew_0 : List UInt8 := [42, 182, 1, 115, 42, 3, 181, 1, 118, 42, 3, 181, 1, 121, 42, 3, 181, 1, 124, 42, 3, 181, 1, 127]
abbrev dktX4_startAnew_0 : List UInt8 := dkwX4_startAnew_0 ++ dktX4_startAnew_1
theorem dksX4_startAnew_0 : cX4_startAnew.data.toList.drop 0 = dktX4_startAnew_0 := by decide +kernel
theorem dksX4_startAnew_1 : cX4_startAnew.data.toList.drop 24 = dktX4_startAnew_1 := dk_seg dksX4_startAnew_0 24 rfl rfl
theorem dX4_startAnew_0 : decode cX4_startAnew 0 = .ok (.aload_n 0, 1) := dk_42 (dk_at dksX4_startAnew_0 0 rfl rfl)
theorem dX4_startAnew_1 : decode cX4_startAnew 1 = .ok (.invokevirtual 371, 3) := dk_182 1 115 (dk_at dksX4_startAnew_0 1 rfl rfl)
theorem dX4_startAnew_4 : decode cX4_startAnew 4 = .ok (.aload_n 0, 1) := dk_42 (dk_at dksX4_startAnew_0 4 rfl rfl)
theorem dX4_startAnew_5 : decode cX4_startAnew 5 = .ok (.iconst 0, 1) := dk_3 (dk_at dksX4_startAnew_0 5 rfl rfl)
theorem dX4_startAnew_6 : decode cX4_startAnew 6 = .ok (.putfield 374, 3) := dk_181 1 118 (dk_at dksX4_startAnew_0 6 rfl rfl)
theorem dX4_startAnew_9 : decode cX4_startAnew 9 = .ok (.aload_n 0, 1) := dk_42 (dk_at dksX4_startAnew_0 9 rfl rfl)
theorem dX4_startAnew_10 : decode cX4_startAnew 10 = .ok (.iconst 0, 1) := dk_3 (dk_at dksX4_startAnew_0 10 rfl rfl)
theorem dX4_startAnew_11 : decode cX4_startAnew 11 = .ok (.putfield 377, 3) := dk_181 1 121 (dk_at dksX4_startAnew_0 11 rfl rfl)
theorem dX4_startAnew_14 : decode cX4_startAnew 14 = .ok (.aload_n 0, 1) := dk_42 (dk_at dksX4_startAnew_0 14 rfl rfl)
theorem dX4_startAnew_15 : decode cX4_startAnew 15 = .ok (.iconst 0, 1) := dk_3 (dk_at dksX4_startAnew_0 15 rfl rfl)
theorem dX4_startAnew_16 : decode cX4_startAnew 16 = .ok (.putfield 380, 3) := dk_181 1 124 (dk_at dksX4_startAnew_0 16 rfl rfl)
theorem dX4_startAnew_19 : decode cX4_startAnew 19 = .ok (.aload_n 0, 1) := dk_42 (dk_at dksX4_startAnew_0 19 rfl rfl)
theorem dX4_startAnew_20 : decode cX4_startAnew 20 = .ok (.iconst 0, 1) := dk_3 (dk_at dksX4_startAnew_0 20 rfl rfl)
theorem dX4_startAnew_21 : decode cX4_startAnew 21 = .ok (.putfield 383, 3) := dk_181 1 127 (dk_at dksX4_startAnew_0 21 rfl rfl)
theorem dX4_startAnew_24 : decode cX4_startAnew 24 = .ok (.iconst 0, 1) := dk_3 (dk_at dksX4_startAnew_1 0 rfl rfl)
theorem dX4_startAnew_25 : decode cX4_startAnew 25 = .ok (.istore_n 1, 1) := dk_60 (dk_at dksX4_startAnew_1 1 rfl rfl)
theorem dX4_startAnew_26 : decode cX4_startAnew 26 = .ok (.iload_n 1, 1) := dk_27 (dk_at dksX4_startAnew_1 2 rfl rfl)
theorem dX4_startAnew_27 : decode cX4_startAnew 27 = .ok (.iconst 3, 1) := dk_6 (dk_at dksX4_startAnew_1 3 rfl rfl)
theorem dX4_startAnew_28 : decode cX4_startAnew 28 = .ok (.if_icmp .ge 16, 3) := dk_162 0 16 (dk_at dksX4_startAnew_1 4 rfl rfl)
theorem dX4_startAnew_31 : decode cX4_startAnew 31 = .ok (.aload_n 0, 1) := dk_42 (dk_at dksX4_startAnew_1 7 rfl rfl)
theorem dX4_startAnew_32 : decode cX4_startAnew 32 = .ok (.getfield 133, 3) := dk_180 0 133 (dk_at dksX4_startAnew_1 8 rfl rfl)
theorem dX4_startAnew_35 : decode cX4_startAnew 35 = .ok (.iload_n 1, 1) := dk_27 (dk_at dksX4_startAnew_1 11 rfl rfl)
theorem dX4_startAnew_36 : decode cX4_startAnew 36 = .ok (.iconst 0, 1) := dk_3 (dk_at dksX4_startAnew_1 12 rfl rfl)
theorem dX4_startAnew_37 : decode cX4_startAnew 37 = .ok (.bastore, 1) := dk_84 (dk_at dksX4_startAnew_1 13 rfl rfl)
theorem dX4_startAnew_38 : decode cX4_startAnew 38 = .ok (.iinc 1 1, 3) := dk_132 1 1 (dk_at dksX4_startAnew_1 14 rfl rfl)
theorem dX4_startAnew_41 : decode cX4_startAnew 41 = .ok (.goto (-15), 3) := dk_167 255 241 (dk_at dksX4_startAnew_1 17 rfl rfl)
theorem dX4_startAnew_44 : decode cX4_startAnew 44 = .ok (.return_, 1) := dk_177 (dk_at dksX4_startAnew_1 20 rfl rfl)
abbrev cX4_layTold : ByteArray := prog_23_method_54_code
def yX4_layTold : MethodName := ⟨RX4, "layTold", "()V"⟩
def dkwX4_layTold_3 : List UInt8 := [180, 0, 88, 16, 18, 42, 180, 0, 36, 42, 180, 0, 253, 46, 79, 177]
abbrev dktX4_layTold_3 : List UInt8 := dkwX4_layTold_3 ++ []
def dkwX4_layTold_2 : List UInt8 := [16, 10, 42, 180, 0, 253, 104, 27, 96, 46, 167, 0, 4, 2, 79, 132, 1, 1, 167, 255, 213, 42]
abbrev dktX4_layTold_2 : List UInt8 := dkwX4_layTold_2 ++ dktX4_layTold_3
def dkwX4_layTold_1 : List UInt8 := [16, 10, 162, 0, 43, 42, 180, 0, 88, 5, 27, 96, 27, 42, 182, 1, 112, 162, 0, 20, 42, 180, 0, 54]
abbrev dktX4_layTold_1 : List UInt8 := dkwX4_layTold_1 ++ dktX4_layTold_2
def dkwX4_layTold_0 : List UInt8 := [3, 60, 27, 16, 19, 162, 0, 16, 42, 180, 0, 88, 27, 3, 79, 132, 1, 1, 167, 255, 240, 3, 60, 27]
abbrev dktX4_layTold_0 : List UInt8 := dkwX4_layTold_0 ++ dktX4_layTold_1
theorem dksX4_layTold_0 : cX4_layTold.data.toList.drop 0 = dktX4_layTold_0 := by decide +kernel
theorem dksX4_layTold_1 : cX4_layTold.data.toList.drop 24 = dktX4_layTold_1 := dk_seg dksX4_layTold_0 24 rfl rfl
theorem dksX4_layTold_2 : cX4_layTold.data.toList.drop 48 = dktX4_layTold_2 := dk_seg dksX4_layTold_1 24 rfl rfl
theorem dksX4_layTold_3 : cX4_layTold.data.toList.drop 70 = dktX4_layTold_3 := dk_seg dksX4_layTold_2 22 rfl rfl
theorem dX4_layTold_0 : decode cX4_layTold 0 = .ok (.iconst 0, 1) := dk_3 (dk_at dksX4_layTold_0 0 rfl rfl)
theorem dX4_layTold_1 : decode cX4_layTold 1 = .ok (.istore_n 1, 1) := dk_60 (dk_at dksX4_layTold_0 1 rfl rfl)
theorem dX4_layTold_2 : decode cX4_layTold 2 = .ok (.iload_n 1, 1) := dk_27 (dk_at dksX4_layTold_0 2 rfl rfl)
theorem dX4_layTold_3 : decode cX4_layTold 3 = .ok (.bipush 19, 2) := dk_16 19 (dk_at dksX4_layTold_0 3 rfl rfl)
theorem dX4_layTold_5 : decode cX4_layTold 5 = .ok (.if_icmp .ge 16, 3) := dk_162 0 16 (dk_at dksX4_layTold_0 5 rfl rfl)
theorem dX4_layTold_8 : decode cX4_layTold 8 = .ok (.aload_n 0, 1) := dk_42 (dk_at dksX4_layTold_0 8 rfl rfl)
theorem dX4_layTold_9 : decode cX4_layTold 9 = .ok (.getfield 88, 3) := dk_180 0 88 (dk_at dksX4_layTold_0 9 rfl rfl)
theorem dX4_layTold_12 : decode cX4_layTold 12 = .ok (.iload_n 1, 1) := dk_27 (dk_at dksX4_layTold_0 12 rfl rfl)
theorem dX4_layTold_13 : decode cX4_layTold 13 = .ok (.iconst 0, 1) := dk_3 (dk_at dksX4_layTold_0 13 rfl rfl)
theorem dX4_layTold_14 : decode cX4_layTold 14 = .ok (.iastore, 1) := dk_79 (dk_at dksX4_layTold_0 14 rfl rfl)
theorem dX4_layTold_15 : decode cX4_layTold 15 = .ok (.iinc 1 1, 3) := dk_132 1 1 (dk_at dksX4_layTold_0 15 rfl rfl)
theorem dX4_layTold_18 : decode cX4_layTold 18 = .ok (.goto (-16), 3) := dk_167 255 240 (dk_at dksX4_layTold_0 18 rfl rfl)
theorem dX4_layTold_21 : decode cX4_layTold 21 = .ok (.iconst 0, 1) := dk_3 (dk_at dksX4_layTold_0 21 rfl rfl)
theorem dX4_layTold_22 : decode cX4_layTold 22 = .ok (.istore_n 1, 1) := dk_60 (dk_at dksX4_layTold_0 22 rfl rfl)
theorem dX4_layTold_23 : decode cX4_layTold 23 = .ok (.iload_n 1, 1) := dk_27 (dk_at dksX4_layTold_0 23 rfl rfl)
theorem dX4_layTold_24 : decode cX4_layTold 24 = .ok (.bipush 10, 2) := dk_16 10 (dk_at dksX4_layTold_1 0 rfl rfl)
theorem dX4_layTold_26 : decode cX4_layTold 26 = .ok (.if_icmp .ge 43, 3) := dk_162 0 43 (dk_at dksX4_layTold_1 2 rfl rfl)
theorem dX4_layTold_29 : decode cX4_layTold 29 = .ok (.aload_n 0, 1) := dk_42 (dk_at dksX4_layTold_1 5 rfl rfl)
theorem dX4_layTold_30 : decode cX4_layTold 30 = .ok (.getfield 88, 3) := dk_180 0 88 (dk_at dksX4_layTold_1 6 rfl rfl)
theorem dX4_layTold_33 : decode cX4_layTold 33 = .ok (.iconst 2, 1) := dk_5 (dk_at dksX4_layTold_1 9 rfl rfl)
theorem dX4_layTold_34 : decode cX4_layTold 34 = .ok (.iload_n 1, 1) := dk_27 (dk_at dksX4_layTold_1 10 rfl rfl)
theorem dX4_layTold_35 : decode cX4_layTold 35 = .ok (.iadd, 1) := dk_96 (dk_at dksX4_layTold_1 11 rfl rfl)
theorem dX4_layTold_36 : decode cX4_layTold 36 = .ok (.iload_n 1, 1) := dk_27 (dk_at dksX4_layTold_1 12 rfl rfl)
theorem dX4_layTold_37 : decode cX4_layTold 37 = .ok (.aload_n 0, 1) := dk_42 (dk_at dksX4_layTold_1 13 rfl rfl)
theorem dX4_layTold_38 : decode cX4_layTold 38 = .ok (.invokevirtual 368, 3) := dk_182 1 112 (dk_at dksX4_layTold_1 14 rfl rfl)
theorem dX4_layTold_41 : decode cX4_layTold 41 = .ok (.if_icmp .ge 20, 3) := dk_162 0 20 (dk_at dksX4_layTold_1 17 rfl rfl)
theorem dX4_layTold_44 : decode cX4_layTold 44 = .ok (.aload_n 0, 1) := dk_42 (dk_at dksX4_layTold_1 20 rfl rfl)
theorem dX4_layTold_45 : decode cX4_layTold 45 = .ok (.getfield 54, 3) := dk_180 0 54 (dk_at dksX4_layTold_1 21 rfl rfl)
theorem dX4_layTold_48 : decode cX4_layTold 48 = .ok (.bipush 10, 2) := dk_16 10 (dk_at dksX4_layTold_2 0 rfl rfl)
theorem dX4_layTold_50 : decode cX4_layTold 50 = .ok (.aload_n 0, 1) := dk_42 (dk_at dksX4_layTold_2 2 rfl rfl)
theorem dX4_layTold_51 : decode cX4_layTold 51 = .ok (.getfield 253, 3) := dk_180 0 253 (dk_at dksX4_layTold_2 3 rfl rfl)
theorem dX4_layTold_54 : decode cX4_layTold 54 = .ok (.imul, 1) := dk_104 (dk_at dksX4_layTold_2 6 rfl rfl)
theorem dX4_layTold_55 : decode cX4_layTold 55 = .ok (.iload_n 1, 1) := dk_27 (dk_at dksX4_layTold_2 7 rfl rfl)
theorem dX4_layTold_56 : decode cX4_layTold 56 = .ok (.iadd, 1) := dk_96 (dk_at dksX4_layTold_2 8 rfl rfl)
theorem dX4_layTold_57 : decode cX4_layTold 57 = .ok (.iaload, 1) := dk_46 (dk_at dksX4_layTold_2 9 rfl rfl)
theorem dX4_layTold_58 : decode cX4_layTold 58 = .ok (.goto 4, 3) := dk_167 0 4 (dk_at dksX4_layTold_2 10 rfl rfl)
theorem dX4_layTold_61 : decode cX4_layTold 61 = .ok (.iconst (-1), 1) := dk_2 (dk_at dksX4_layTold_2 13 rfl rfl)
theorem dX4_layTold_62 : decode cX4_layTold 62 = .ok (.iastore, 1) := dk_79 (dk_at dksX4_layTold_2 14 rfl rfl)
theorem dX4_layTold_63 : decode cX4_layTold 63 = .ok (.iinc 1 1, 3) := dk_132 1 1 (dk_at dksX4_layTold_2 15 rfl rfl)
theorem dX4_layTold_66 : decode cX4_layTold 66 = .ok (.goto (-43), 3) := dk_167 255 213 (dk_at dksX4_layTold_2 18 rfl rfl)
theorem dX4_layTold_69 : decode cX4_layTold 69 = .ok (.aload_n 0, 1) := dk_42 (dk_at dksX4_layTold_2 21 rfl rfl)
theorem dX4_layTold_70 : decode cX4_layTold 70 = .ok (.getfield 88, 3) := dk_180 0 88 (dk_at dksX4_layTold_3 0 rfl rfl)
theorem dX4_layTold_73 : decode cX4_layTold 73 = .ok (.bipush 18, 2) := dk_16 18 (dk_at dksX4_layTold_3 3 rfl rfl)
theorem dX4_layTold_75 : decode cX4_layTold 75 = .ok (.aload_n 0, 1) := dk_42 (dk_at dksX4_layTold_3 5 rfl rfl)
theorem dX4_layTold_76 : decode cX4_layTold 76 = .ok (.getfield 36, 3) := dk_180 0 36 (dk_at dksX4_layTold_3 6 rfl rfl)
theorem dX4_layTold_79 : decode cX4_layTold 79 = .ok (.aload_n 0, 1) := dk_42 (dk_at dksX4_layTold_3 9 rfl rfl)
theorem dX4_layTold_80 : decode cX4_layTold 80 = .ok (.getfield 253, 3) := dk_180 0 253 (dk_at dksX4_layTold_3 10 rfl rfl)
theorem dX4_layTold_83 : decode cX4_layTold 83 = .ok (.iaload, 1) := dk_46 (dk_at dksX4_layTold_3 13 rfl rfl)
theorem dX4_layTold_84 : decode cX4_layTold 84 = .ok (.iastore, 1) := dk_79 (dk_at dksX4_layTold_3 14 rfl rfl)
theorem dX4_layTold_85 : decode cX4_layTold 85 = .ok (.return_, 1) := dk_177 (dk_at dksX4_layTold_3 15 rfl rfl)
abbrev cX4_many : ByteArray := prog_23_method_46_code
def yX4_many : MethodName := ⟨RX4, "many", "()I"⟩
def dkwX4_many_0 : List UInt8 := [42, 180, 0, 27, 42, 180, 0, 253, 46, 172]
abbrev dktX4_many_0 : List UInt8 := dkwX4_many_0 ++ []
theorem dksX4_many_0 : cX4_many.data.toList.drop 0 = dktX4_many_0 := by decide +kernel
theorem dX4_many_0 : decode cX4_many 0 = .ok (.aload_n 0, 1) := dk_42 (dk_at dksX4_many_0 0 rfl rfl)
theorem dX4_many_1 : decode cX4_many 1 = .ok (.getfield 27, 3) := dk_180 0 27 (dk_at dksX4_many_0 1 rfl rfl)
theorem dX4_many_4 : decode cX4_many 4 = .ok (.aload_n 0, 1) := dk_42 (dk_at dksX4_many_0 4 rfl rfl)
theorem dX4_many_5 : decode cX4_many 5 = .ok (.getfield 253, 3) := dk_180 0 253 (dk_at dksX4_many_0 5 rfl rfl)
theorem dX4_many_8 : decode cX4_many 8 = .ok (.iaload, 1) := dk_46 (dk_at dksX4_many_0 8 rfl rfl)
theorem dX4_many_9 : decode cX4_many 9 = .ok (.ireturn, 1) := dk_172 (dk_at dksX4_many_0 9 rfl rfl)
abbrev cX4_store : ByteArray := prog_23_method_17_code
def yX4_store : MethodName := ⟨RX4, "store", "()I"⟩
def dkwX4_store_5 : List UInt8 := [42, 180, 0, 27, 42, 180, 0, 253, 46, 172]
abbrev dktX4_store_5 : List UInt8 := dkwX4_store_5 ++ []
def dkwX4_store_4 : List UInt8 := [167, 255, 238, 42, 182, 0, 223, 154, 0, 5, 2, 172, 42, 42, 180, 0, 244, 181, 0, 253, 42, 182, 0, 140]
abbrev dktX4_store_4 : List UInt8 := dkwX4_store_4 ++ dktX4_store_5
def dkwX4_store_3 : List UInt8 := [42, 182, 0, 227, 42, 182, 0, 223, 153, 0, 17, 42, 180, 0, 195, 153, 0, 10, 42, 182, 1, 0]
abbrev dktX4_store_3 : List UInt8 := dkwX4_store_3 ++ dktX4_store_4
def dkwX4_store_2 : List UInt8 := [42, 3, 181, 0, 250, 42, 3, 181, 0, 185, 42, 4, 42, 180, 0, 253, 100, 181, 0, 244, 42, 182, 0, 137]
abbrev dktX4_store_2 : List UInt8 := dkwX4_store_2 ++ dktX4_store_3
def dkwX4_store_1 : List UInt8 := [180, 0, 143, 162, 0, 21, 42, 180, 0, 13, 27, 42, 180, 0, 7, 27, 51, 84, 132, 1, 1, 167, 255, 233]
abbrev dktX4_store_1 : List UInt8 := dkwX4_store_1 ++ dktX4_store_2
def dkwX4_store_0 : List UInt8 := [42, 3, 181, 0, 146, 42, 2, 181, 0, 16, 42, 42, 180, 0, 250, 181, 0, 143, 3, 60, 27, 42]
abbrev dktX4_store_0 : List UInt8 := dkwX4_store_0 ++ dktX4_store_1
theorem dksX4_store_0 : cX4_store.data.toList.drop 0 = dktX4_store_0 := by decide +kernel
theorem dksX4_store_1 : cX4_store.data.toList.drop 22 = dktX4_store_1 := dk_seg dksX4_store_0 22 rfl rfl
theorem dksX4_store_2 : cX4_store.data.toList.drop 46 = dktX4_store_2 := dk_seg dksX4_store_1 24 rfl rfl
theorem dksX4_store_3 : cX4_store.data.toList.drop 70 = dktX4_store_3 := dk_seg dksX4_store_2 24 rfl rfl
theorem dksX4_store_4 : cX4_store.data.toList.drop 92 = dktX4_store_4 := dk_seg dksX4_store_3 22 rfl rfl
theorem dksX4_store_5 : cX4_store.data.toList.drop 116 = dktX4_store_5 := dk_seg dksX4_store_4 24 rfl rfl
theorem dX4_store_0 : decode cX4_store 0 = .ok (.aload_n 0, 1) := dk_42 (dk_at dksX4_store_0 0 rfl rfl)
theorem dX4_store_1 : decode cX4_store 1 = .ok (.iconst 0, 1) := dk_3 (dk_at dksX4_store_0 1 rfl rfl)
theorem dX4_store_2 : decode cX4_store 2 = .ok (.putfield 146, 3) := dk_181 0 146 (dk_at dksX4_store_0 2 rfl rfl)
theorem dX4_store_5 : decode cX4_store 5 = .ok (.aload_n 0, 1) := dk_42 (dk_at dksX4_store_0 5 rfl rfl)
theorem dX4_store_6 : decode cX4_store 6 = .ok (.iconst (-1), 1) := dk_2 (dk_at dksX4_store_0 6 rfl rfl)
theorem dX4_store_7 : decode cX4_store 7 = .ok (.putfield 16, 3) := dk_181 0 16 (dk_at dksX4_store_0 7 rfl rfl)
theorem dX4_store_10 : decode cX4_store 10 = .ok (.aload_n 0, 1) := dk_42 (dk_at dksX4_store_0 10 rfl rfl)
theorem dX4_store_11 : decode cX4_store 11 = .ok (.aload_n 0, 1) := dk_42 (dk_at dksX4_store_0 11 rfl rfl)
theorem dX4_store_12 : decode cX4_store 12 = .ok (.getfield 250, 3) := dk_180 0 250 (dk_at dksX4_store_0 12 rfl rfl)
theorem dX4_store_15 : decode cX4_store 15 = .ok (.putfield 143, 3) := dk_181 0 143 (dk_at dksX4_store_0 15 rfl rfl)
theorem dX4_store_18 : decode cX4_store 18 = .ok (.iconst 0, 1) := dk_3 (dk_at dksX4_store_0 18 rfl rfl)
theorem dX4_store_19 : decode cX4_store 19 = .ok (.istore_n 1, 1) := dk_60 (dk_at dksX4_store_0 19 rfl rfl)
theorem dX4_store_20 : decode cX4_store 20 = .ok (.iload_n 1, 1) := dk_27 (dk_at dksX4_store_0 20 rfl rfl)
theorem dX4_store_21 : decode cX4_store 21 = .ok (.aload_n 0, 1) := dk_42 (dk_at dksX4_store_0 21 rfl rfl)
theorem dX4_store_22 : decode cX4_store 22 = .ok (.getfield 143, 3) := dk_180 0 143 (dk_at dksX4_store_1 0 rfl rfl)
theorem dX4_store_25 : decode cX4_store 25 = .ok (.if_icmp .ge 21, 3) := dk_162 0 21 (dk_at dksX4_store_1 3 rfl rfl)
theorem dX4_store_28 : decode cX4_store 28 = .ok (.aload_n 0, 1) := dk_42 (dk_at dksX4_store_1 6 rfl rfl)
theorem dX4_store_29 : decode cX4_store 29 = .ok (.getfield 13, 3) := dk_180 0 13 (dk_at dksX4_store_1 7 rfl rfl)
theorem dX4_store_32 : decode cX4_store 32 = .ok (.iload_n 1, 1) := dk_27 (dk_at dksX4_store_1 10 rfl rfl)
theorem dX4_store_33 : decode cX4_store 33 = .ok (.aload_n 0, 1) := dk_42 (dk_at dksX4_store_1 11 rfl rfl)
theorem dX4_store_34 : decode cX4_store 34 = .ok (.getfield 7, 3) := dk_180 0 7 (dk_at dksX4_store_1 12 rfl rfl)
theorem dX4_store_37 : decode cX4_store 37 = .ok (.iload_n 1, 1) := dk_27 (dk_at dksX4_store_1 15 rfl rfl)
theorem dX4_store_38 : decode cX4_store 38 = .ok (.baload, 1) := dk_51 (dk_at dksX4_store_1 16 rfl rfl)
theorem dX4_store_39 : decode cX4_store 39 = .ok (.bastore, 1) := dk_84 (dk_at dksX4_store_1 17 rfl rfl)
theorem dX4_store_40 : decode cX4_store 40 = .ok (.iinc 1 1, 3) := dk_132 1 1 (dk_at dksX4_store_1 18 rfl rfl)
theorem dX4_store_43 : decode cX4_store 43 = .ok (.goto (-23), 3) := dk_167 255 233 (dk_at dksX4_store_1 21 rfl rfl)
theorem dX4_store_46 : decode cX4_store 46 = .ok (.aload_n 0, 1) := dk_42 (dk_at dksX4_store_2 0 rfl rfl)
theorem dX4_store_47 : decode cX4_store 47 = .ok (.iconst 0, 1) := dk_3 (dk_at dksX4_store_2 1 rfl rfl)
theorem dX4_store_48 : decode cX4_store 48 = .ok (.putfield 250, 3) := dk_181 0 250 (dk_at dksX4_store_2 2 rfl rfl)
theorem dX4_store_51 : decode cX4_store 51 = .ok (.aload_n 0, 1) := dk_42 (dk_at dksX4_store_2 5 rfl rfl)
theorem dX4_store_52 : decode cX4_store 52 = .ok (.iconst 0, 1) := dk_3 (dk_at dksX4_store_2 6 rfl rfl)
theorem dX4_store_53 : decode cX4_store 53 = .ok (.putfield 185, 3) := dk_181 0 185 (dk_at dksX4_store_2 7 rfl rfl)
theorem dX4_store_56 : decode cX4_store 56 = .ok (.aload_n 0, 1) := dk_42 (dk_at dksX4_store_2 10 rfl rfl)
theorem dX4_store_57 : decode cX4_store 57 = .ok (.iconst 1, 1) := dk_4 (dk_at dksX4_store_2 11 rfl rfl)
theorem dX4_store_58 : decode cX4_store 58 = .ok (.aload_n 0, 1) := dk_42 (dk_at dksX4_store_2 12 rfl rfl)
theorem dX4_store_59 : decode cX4_store 59 = .ok (.getfield 253, 3) := dk_180 0 253 (dk_at dksX4_store_2 13 rfl rfl)
theorem dX4_store_62 : decode cX4_store 62 = .ok (.isub, 1) := dk_100 (dk_at dksX4_store_2 16 rfl rfl)
theorem dX4_store_63 : decode cX4_store 63 = .ok (.putfield 244, 3) := dk_181 0 244 (dk_at dksX4_store_2 17 rfl rfl)
theorem dX4_store_66 : decode cX4_store 66 = .ok (.aload_n 0, 1) := dk_42 (dk_at dksX4_store_2 20 rfl rfl)
theorem dX4_store_67 : decode cX4_store 67 = .ok (.invokevirtual 137, 3) := dk_182 0 137 (dk_at dksX4_store_2 21 rfl rfl)
theorem dX4_store_70 : decode cX4_store 70 = .ok (.aload_n 0, 1) := dk_42 (dk_at dksX4_store_3 0 rfl rfl)
theorem dX4_store_71 : decode cX4_store 71 = .ok (.invokevirtual 227, 3) := dk_182 0 227 (dk_at dksX4_store_3 1 rfl rfl)
theorem dX4_store_74 : decode cX4_store 74 = .ok (.aload_n 0, 1) := dk_42 (dk_at dksX4_store_3 4 rfl rfl)
theorem dX4_store_75 : decode cX4_store 75 = .ok (.invokevirtual 223, 3) := dk_182 0 223 (dk_at dksX4_store_3 5 rfl rfl)
theorem dX4_store_78 : decode cX4_store 78 = .ok (.ifCond .eq 17, 3) := dk_153 0 17 (dk_at dksX4_store_3 8 rfl rfl)
theorem dX4_store_81 : decode cX4_store 81 = .ok (.aload_n 0, 1) := dk_42 (dk_at dksX4_store_3 11 rfl rfl)
theorem dX4_store_82 : decode cX4_store 82 = .ok (.getfield 195, 3) := dk_180 0 195 (dk_at dksX4_store_3 12 rfl rfl)
theorem dX4_store_85 : decode cX4_store 85 = .ok (.ifCond .eq 10, 3) := dk_153 0 10 (dk_at dksX4_store_3 15 rfl rfl)
theorem dX4_store_88 : decode cX4_store 88 = .ok (.aload_n 0, 1) := dk_42 (dk_at dksX4_store_3 18 rfl rfl)
theorem dX4_store_89 : decode cX4_store 89 = .ok (.invokevirtual 256, 3) := dk_182 1 0 (dk_at dksX4_store_3 19 rfl rfl)
theorem dX4_store_92 : decode cX4_store 92 = .ok (.goto (-18), 3) := dk_167 255 238 (dk_at dksX4_store_4 0 rfl rfl)
theorem dX4_store_95 : decode cX4_store 95 = .ok (.aload_n 0, 1) := dk_42 (dk_at dksX4_store_4 3 rfl rfl)
theorem dX4_store_96 : decode cX4_store 96 = .ok (.invokevirtual 223, 3) := dk_182 0 223 (dk_at dksX4_store_4 4 rfl rfl)
theorem dX4_store_99 : decode cX4_store 99 = .ok (.ifCond .ne 5, 3) := dk_154 0 5 (dk_at dksX4_store_4 7 rfl rfl)
theorem dX4_store_102 : decode cX4_store 102 = .ok (.iconst (-1), 1) := dk_2 (dk_at dksX4_store_4 10 rfl rfl)
theorem dX4_store_103 : decode cX4_store 103 = .ok (.ireturn, 1) := dk_172 (dk_at dksX4_store_4 11 rfl rfl)
theorem dX4_store_104 : decode cX4_store 104 = .ok (.aload_n 0, 1) := dk_42 (dk_at dksX4_store_4 12 rfl rfl)
theorem dX4_store_105 : decode cX4_store 105 = .ok (.aload_n 0, 1) := dk_42 (dk_at dksX4_store_4 13 rfl rfl)
theorem dX4_store_106 : decode cX4_store 106 = .ok (.getfield 244, 3) := dk_180 0 244 (dk_at dksX4_store_4 14 rfl rfl)
theorem dX4_store_109 : decode cX4_store 109 = .ok (.putfield 253, 3) := dk_181 0 253 (dk_at dksX4_store_4 17 rfl rfl)
theorem dX4_store_112 : decode cX4_store 112 = .ok (.aload_n 0, 1) := dk_42 (dk_at dksX4_store_4 20 rfl rfl)
theorem dX4_store_113 : decode cX4_store 113 = .ok (.invokevirtual 140, 3) := dk_182 0 140 (dk_at dksX4_store_4 21 rfl rfl)
theorem dX4_store_116 : decode cX4_store 116 = .ok (.aload_n 0, 1) := dk_42 (dk_at dksX4_store_5 0 rfl rfl)
theorem dX4_store_117 : decode cX4_store 117 = .ok (.getfield 27, 3) := dk_180 0 27 (dk_at dksX4_store_5 1 rfl rfl)
theorem dX4_store_120 : decode cX4_store 120 = .ok (.aload_n 0, 1) := dk_42 (dk_at dksX4_store_5 4 rfl rfl)
theorem dX4_store_121 : decode cX4_store 121 = .ok (.getfield 253, 3) := dk_180 0 253 (dk_at dksX4_store_5 5 rfl rfl)
theorem dX4_store_124 : decode cX4_store 124 = .ok (.iaload, 1) := dk_46 (dk_at dksX4_store_5 8 rfl rfl)
theorem dX4_store_125 : decode cX4_store 125 = .ok (.ireturn, 1) := dk_172 (dk_at dksX4_store_5 9 rfl rfl)
abbrev cX4_goOn : ByteArray := prog_23_method_9_code
def yX4_goOn : MethodName := ⟨RX4, "goOn", "()V"⟩
def dkwX4_goOn_16 : List UInt8 := [167, 0, 4, 4, 181, 0, 195, 177]
abbrev dktX4_goOn_16 : List UInt8 := dkwX4_goOn_16 ++ []
def dkwX4_goOn_15 : List UInt8 := [153, 0, 7, 4, 167, 0, 4, 7, 181, 0, 195, 167, 0, 19, 42, 27, 184, 0, 216, 153, 0, 7, 8]
abbrev dktX4_goOn_15 : List UInt8 := dkwX4_goOn_15 ++ dktX4_goOn_16
def dkwX4_goOn_14 : List UInt8 := [180, 0, 185, 42, 180, 0, 188, 100, 7, 163, 0, 17, 42, 42, 180, 0, 185, 182, 0, 191, 184, 0, 198]
abbrev dktX4_goOn_14 : List UInt8 := dkwX4_goOn_14 ++ dktX4_goOn_15
def dkwX4_goOn_13 : List UInt8 := [96, 16, 48, 100, 181, 0, 213, 42, 89, 180, 0, 185, 4, 96, 181, 0, 185, 167, 255, 196, 42, 42]
abbrev dktX4_goOn_13 : List UInt8 := dkwX4_goOn_13 ++ dktX4_goOn_14
def dkwX4_goOn_12 : List UInt8 := [180, 0, 188, 100, 7, 162, 0, 26, 42, 16, 10, 42, 180, 0, 213, 104, 42, 42, 180, 0, 185, 182, 0, 191]
abbrev dktX4_goOn_12 : List UInt8 := dkwX4_goOn_12 ++ dktX4_goOn_13
def dkwX4_goOn_11 : List UInt8 := [181, 0, 185, 42, 42, 180, 0, 185, 182, 0, 191, 184, 0, 210, 153, 0, 52, 42, 180, 0, 185, 42]
abbrev dktX4_goOn_11 : List UInt8 := dkwX4_goOn_11 ++ dktX4_goOn_12
def dkwX4_goOn_10 : List UInt8 := [181, 0, 195, 167, 0, 141, 27, 184, 0, 210, 153, 0, 118, 42, 3, 181, 0, 213, 42, 42, 180, 0, 188]
abbrev dktX4_goOn_10 : List UInt8 := dkwX4_goOn_10 ++ dktX4_goOn_11
def dkwX4_goOn_9 : List UInt8 := [164, 0, 7, 4, 167, 0, 18, 42, 180, 0, 202, 184, 0, 206, 153, 0, 7, 6, 167, 0, 4, 5]
abbrev dktX4_goOn_9 : List UInt8 := dkwX4_goOn_9 ++ dktX4_goOn_10
def dkwX4_goOn_8 : List UInt8 := [133, 129, 181, 0, 202, 132, 2, 1, 167, 255, 216, 42, 42, 180, 0, 185, 42, 180, 0, 188, 100, 16, 8]
abbrev dktX4_goOn_8 : List UInt8 := dkwX4_goOn_8 ++ dktX4_goOn_9
def dkwX4_goOn_7 : List UInt8 := [28, 42, 180, 0, 188, 16, 8, 96, 162, 0, 27, 42, 42, 180, 0, 202, 16, 8, 121, 42, 28, 182, 0, 191]
abbrev dktX4_goOn_7 : List UInt8 := dkwX4_goOn_7 ++ dktX4_goOn_8
def dkwX4_goOn_6 : List UInt8 := [181, 0, 185, 167, 255, 232, 42, 9, 181, 0, 202, 42, 180, 0, 188, 61, 28, 42, 180, 0, 185, 162, 0, 38]
abbrev dktX4_goOn_6 : List UInt8 := dkwX4_goOn_6 ++ dktX4_goOn_7
def dkwX4_goOn_5 : List UInt8 := [153, 0, 123, 42, 42, 180, 0, 185, 182, 0, 191, 184, 0, 198, 153, 0, 16, 42, 89, 180, 0, 185, 4, 96]
abbrev dktX4_goOn_5 : List UInt8 := dkwX4_goOn_5 ++ dktX4_goOn_6
def dkwX4_goOn_4 : List UInt8 := [42, 42, 180, 0, 143, 181, 0, 188, 42, 42, 180, 0, 143, 181, 0, 185, 167, 1, 12, 27, 184, 0, 198]
abbrev dktX4_goOn_4 : List UInt8 := dkwX4_goOn_4 ++ dktX4_goOn_5
def dkwX4_goOn_3 : List UInt8 := [180, 0, 188, 4, 96, 181, 0, 185, 42, 180, 0, 188, 42, 180, 0, 143, 161, 0, 27, 42, 3, 181, 0, 195]
abbrev dktX4_goOn_3 : List UInt8 := dkwX4_goOn_3 ++ dktX4_goOn_4
def dkwX4_goOn_2 : List UInt8 := [180, 0, 188, 4, 96, 181, 0, 188, 167, 255, 209, 42, 42, 180, 0, 188, 182, 0, 191, 60, 42, 42]
abbrev dktX4_goOn_2 : List UInt8 := dkwX4_goOn_2 ++ dktX4_goOn_3
def dkwX4_goOn_1 : List UInt8 := [182, 0, 191, 16, 32, 159, 0, 16, 42, 42, 180, 0, 188, 182, 0, 191, 16, 10, 160, 0, 16, 42, 89]
abbrev dktX4_goOn_1 : List UInt8 := dkwX4_goOn_1 ++ dktX4_goOn_2
def dkwX4_goOn_0 : List UInt8 := [42, 42, 180, 0, 185, 181, 0, 188, 42, 180, 0, 188, 42, 180, 0, 143, 162, 0, 42, 42, 42, 180, 0, 188]
abbrev dktX4_goOn_0 : List UInt8 := dkwX4_goOn_0 ++ dktX4_goOn_1
theorem dksX4_goOn_0 : cX4_goOn.data.toList.drop 0 = dktX4_goOn_0 := by decide +kernel
theorem dksX4_goOn_1 : cX4_goOn.data.toList.drop 24 = dktX4_goOn_1 := dk_seg dksX4_goOn_0 24 rfl rfl
theorem dksX4_goOn_2 : cX4_goOn.data.toList.drop 47 = dktX4_goOn_2 := dk_seg dksX4_goOn_1 23 rfl rfl
theorem dksX4_goOn_3 : cX4_goOn.data.toList.drop 69 = dktX4_goOn_3 := dk_seg dksX4_goOn_2 22 rfl rfl
theorem dksX4_goOn_4 : cX4_goOn.data.toList.drop 93 = dktX4_goOn_4 := dk_seg dksX4_goOn_3 24 rfl rfl
theorem dksX4_goOn_5 : cX4_goOn.data.toList.drop 116 = dktX4_goOn_5 := dk_seg dksX4_goOn_4 23 rfl rfl
theorem dksX4_goOn_6 : cX4_goOn.data.toList.drop 140 = dktX4_goOn_6 := dk_seg dksX4_goOn_5 24 rfl rfl
theorem dksX4_goOn_7 : cX4_goOn.data.toList.drop 164 = dktX4_goOn_7 := dk_seg dksX4_goOn_6 24 rfl rfl
theorem dksX4_goOn_8 : cX4_goOn.data.toList.drop 188 = dktX4_goOn_8 := dk_seg dksX4_goOn_7 24 rfl rfl
theorem dksX4_goOn_9 : cX4_goOn.data.toList.drop 211 = dktX4_goOn_9 := dk_seg dksX4_goOn_8 23 rfl rfl
theorem dksX4_goOn_10 : cX4_goOn.data.toList.drop 233 = dktX4_goOn_10 := dk_seg dksX4_goOn_9 22 rfl rfl
theorem dksX4_goOn_11 : cX4_goOn.data.toList.drop 256 = dktX4_goOn_11 := dk_seg dksX4_goOn_10 23 rfl rfl
theorem dksX4_goOn_12 : cX4_goOn.data.toList.drop 278 = dktX4_goOn_12 := dk_seg dksX4_goOn_11 22 rfl rfl
theorem dksX4_goOn_13 : cX4_goOn.data.toList.drop 302 = dktX4_goOn_13 := dk_seg dksX4_goOn_12 24 rfl rfl
theorem dksX4_goOn_14 : cX4_goOn.data.toList.drop 324 = dktX4_goOn_14 := dk_seg dksX4_goOn_13 22 rfl rfl
theorem dksX4_goOn_15 : cX4_goOn.data.toList.drop 347 = dktX4_goOn_15 := dk_seg dksX4_goOn_14 23 rfl rfl
theorem dksX4_goOn_16 : cX4_goOn.data.toList.drop 370 = dktX4_goOn_16 := dk_seg dksX4_goOn_15 23 rfl rfl
theorem dX4_goOn_0 : decode cX4_goOn 0 = .ok (.aload_n 0, 1) := dk_42 (dk_at dksX4_goOn_0 0 rfl rfl)
theorem dX4_goOn_1 : decode cX4_goOn 1 = .ok (.aload_n 0, 1) := dk_42 (dk_at dksX4_goOn_0 1 rfl rfl)
theorem dX4_goOn_2 : decode cX4_goOn 2 = .ok (.getfield 185, 3) := dk_180 0 185 (dk_at dksX4_goOn_0 2 rfl rfl)
theorem dX4_goOn_5 : decode cX4_goOn 5 = .ok (.putfield 188, 3) := dk_181 0 188 (dk_at dksX4_goOn_0 5 rfl rfl)
theorem dX4_goOn_8 : decode cX4_goOn 8 = .ok (.aload_n 0, 1) := dk_42 (dk_at dksX4_goOn_0 8 rfl rfl)
theorem dX4_goOn_9 : decode cX4_goOn 9 = .ok (.getfield 188, 3) := dk_180 0 188 (dk_at dksX4_goOn_0 9 rfl rfl)
theorem dX4_goOn_12 : decode cX4_goOn 12 = .ok (.aload_n 0, 1) := dk_42 (dk_at dksX4_goOn_0 12 rfl rfl)
theorem dX4_goOn_13 : decode cX4_goOn 13 = .ok (.getfield 143, 3) := dk_180 0 143 (dk_at dksX4_goOn_0 13 rfl rfl)
theorem dX4_goOn_16 : decode cX4_goOn 16 = .ok (.if_icmp .ge 42, 3) := dk_162 0 42 (dk_at dksX4_goOn_0 16 rfl rfl)
theorem dX4_goOn_19 : decode cX4_goOn 19 = .ok (.aload_n 0, 1) := dk_42 (dk_at dksX4_goOn_0 19 rfl rfl)
theorem dX4_goOn_20 : decode cX4_goOn 20 = .ok (.aload_n 0, 1) := dk_42 (dk_at dksX4_goOn_0 20 rfl rfl)
theorem dX4_goOn_21 : decode cX4_goOn 21 = .ok (.getfield 188, 3) := dk_180 0 188 (dk_at dksX4_goOn_0 21 rfl rfl)
theorem dX4_goOn_24 : decode cX4_goOn 24 = .ok (.invokevirtual 191, 3) := dk_182 0 191 (dk_at dksX4_goOn_1 0 rfl rfl)
theorem dX4_goOn_27 : decode cX4_goOn 27 = .ok (.bipush 32, 2) := dk_16 32 (dk_at dksX4_goOn_1 3 rfl rfl)
theorem dX4_goOn_29 : decode cX4_goOn 29 = .ok (.if_icmp .eq 16, 3) := dk_159 0 16 (dk_at dksX4_goOn_1 5 rfl rfl)
theorem dX4_goOn_32 : decode cX4_goOn 32 = .ok (.aload_n 0, 1) := dk_42 (dk_at dksX4_goOn_1 8 rfl rfl)
theorem dX4_goOn_33 : decode cX4_goOn 33 = .ok (.aload_n 0, 1) := dk_42 (dk_at dksX4_goOn_1 9 rfl rfl)
theorem dX4_goOn_34 : decode cX4_goOn 34 = .ok (.getfield 188, 3) := dk_180 0 188 (dk_at dksX4_goOn_1 10 rfl rfl)
theorem dX4_goOn_37 : decode cX4_goOn 37 = .ok (.invokevirtual 191, 3) := dk_182 0 191 (dk_at dksX4_goOn_1 13 rfl rfl)
theorem dX4_goOn_40 : decode cX4_goOn 40 = .ok (.bipush 10, 2) := dk_16 10 (dk_at dksX4_goOn_1 16 rfl rfl)
theorem dX4_goOn_42 : decode cX4_goOn 42 = .ok (.if_icmp .ne 16, 3) := dk_160 0 16 (dk_at dksX4_goOn_1 18 rfl rfl)
theorem dX4_goOn_45 : decode cX4_goOn 45 = .ok (.aload_n 0, 1) := dk_42 (dk_at dksX4_goOn_1 21 rfl rfl)
theorem dX4_goOn_46 : decode cX4_goOn 46 = .ok (.dup, 1) := dk_89 (dk_at dksX4_goOn_1 22 rfl rfl)
theorem dX4_goOn_47 : decode cX4_goOn 47 = .ok (.getfield 188, 3) := dk_180 0 188 (dk_at dksX4_goOn_2 0 rfl rfl)
theorem dX4_goOn_50 : decode cX4_goOn 50 = .ok (.iconst 1, 1) := dk_4 (dk_at dksX4_goOn_2 3 rfl rfl)
theorem dX4_goOn_51 : decode cX4_goOn 51 = .ok (.iadd, 1) := dk_96 (dk_at dksX4_goOn_2 4 rfl rfl)
theorem dX4_goOn_52 : decode cX4_goOn 52 = .ok (.putfield 188, 3) := dk_181 0 188 (dk_at dksX4_goOn_2 5 rfl rfl)
theorem dX4_goOn_55 : decode cX4_goOn 55 = .ok (.goto (-47), 3) := dk_167 255 209 (dk_at dksX4_goOn_2 8 rfl rfl)
theorem dX4_goOn_58 : decode cX4_goOn 58 = .ok (.aload_n 0, 1) := dk_42 (dk_at dksX4_goOn_2 11 rfl rfl)
theorem dX4_goOn_59 : decode cX4_goOn 59 = .ok (.aload_n 0, 1) := dk_42 (dk_at dksX4_goOn_2 12 rfl rfl)
theorem dX4_goOn_60 : decode cX4_goOn 60 = .ok (.getfield 188, 3) := dk_180 0 188 (dk_at dksX4_goOn_2 13 rfl rfl)
theorem dX4_goOn_63 : decode cX4_goOn 63 = .ok (.invokevirtual 191, 3) := dk_182 0 191 (dk_at dksX4_goOn_2 16 rfl rfl)
theorem dX4_goOn_66 : decode cX4_goOn 66 = .ok (.istore_n 1, 1) := dk_60 (dk_at dksX4_goOn_2 19 rfl rfl)
theorem dX4_goOn_67 : decode cX4_goOn 67 = .ok (.aload_n 0, 1) := dk_42 (dk_at dksX4_goOn_2 20 rfl rfl)
theorem dX4_goOn_68 : decode cX4_goOn 68 = .ok (.aload_n 0, 1) := dk_42 (dk_at dksX4_goOn_2 21 rfl rfl)
theorem dX4_goOn_69 : decode cX4_goOn 69 = .ok (.getfield 188, 3) := dk_180 0 188 (dk_at dksX4_goOn_3 0 rfl rfl)
theorem dX4_goOn_72 : decode cX4_goOn 72 = .ok (.iconst 1, 1) := dk_4 (dk_at dksX4_goOn_3 3 rfl rfl)
theorem dX4_goOn_73 : decode cX4_goOn 73 = .ok (.iadd, 1) := dk_96 (dk_at dksX4_goOn_3 4 rfl rfl)
theorem dX4_goOn_74 : decode cX4_goOn 74 = .ok (.putfield 185, 3) := dk_181 0 185 (dk_at dksX4_goOn_3 5 rfl rfl)
theorem dX4_goOn_77 : decode cX4_goOn 77 = .ok (.aload_n 0, 1) := dk_42 (dk_at dksX4_goOn_3 8 rfl rfl)
theorem dX4_goOn_78 : decode cX4_goOn 78 = .ok (.getfield 188, 3) := dk_180 0 188 (dk_at dksX4_goOn_3 9 rfl rfl)
theorem dX4_goOn_81 : decode cX4_goOn 81 = .ok (.aload_n 0, 1) := dk_42 (dk_at dksX4_goOn_3 12 rfl rfl)
theorem dX4_goOn_82 : decode cX4_goOn 82 = .ok (.getfield 143, 3) := dk_180 0 143 (dk_at dksX4_goOn_3 13 rfl rfl)
theorem dX4_goOn_85 : decode cX4_goOn 85 = .ok (.if_icmp .lt 27, 3) := dk_161 0 27 (dk_at dksX4_goOn_3 16 rfl rfl)
theorem dX4_goOn_88 : decode cX4_goOn 88 = .ok (.aload_n 0, 1) := dk_42 (dk_at dksX4_goOn_3 19 rfl rfl)
theorem dX4_goOn_89 : decode cX4_goOn 89 = .ok (.iconst 0, 1) := dk_3 (dk_at dksX4_goOn_3 20 rfl rfl)
theorem dX4_goOn_90 : decode cX4_goOn 90 = .ok (.putfield 195, 3) := dk_181 0 195 (dk_at dksX4_goOn_3 21 rfl rfl)
theorem dX4_goOn_93 : decode cX4_goOn 93 = .ok (.aload_n 0, 1) := dk_42 (dk_at dksX4_goOn_4 0 rfl rfl)
theorem dX4_goOn_94 : decode cX4_goOn 94 = .ok (.aload_n 0, 1) := dk_42 (dk_at dksX4_goOn_4 1 rfl rfl)
theorem dX4_goOn_95 : decode cX4_goOn 95 = .ok (.getfield 143, 3) := dk_180 0 143 (dk_at dksX4_goOn_4 2 rfl rfl)
theorem dX4_goOn_98 : decode cX4_goOn 98 = .ok (.putfield 188, 3) := dk_181 0 188 (dk_at dksX4_goOn_4 5 rfl rfl)
theorem dX4_goOn_101 : decode cX4_goOn 101 = .ok (.aload_n 0, 1) := dk_42 (dk_at dksX4_goOn_4 8 rfl rfl)
theorem dX4_goOn_102 : decode cX4_goOn 102 = .ok (.aload_n 0, 1) := dk_42 (dk_at dksX4_goOn_4 9 rfl rfl)
theorem dX4_goOn_103 : decode cX4_goOn 103 = .ok (.getfield 143, 3) := dk_180 0 143 (dk_at dksX4_goOn_4 10 rfl rfl)
theorem dX4_goOn_106 : decode cX4_goOn 106 = .ok (.putfield 185, 3) := dk_181 0 185 (dk_at dksX4_goOn_4 13 rfl rfl)
theorem dX4_goOn_109 : decode cX4_goOn 109 = .ok (.goto 268, 3) := dk_167 1 12 (dk_at dksX4_goOn_4 16 rfl rfl)
theorem dX4_goOn_112 : decode cX4_goOn 112 = .ok (.iload_n 1, 1) := dk_27 (dk_at dksX4_goOn_4 19 rfl rfl)
theorem dX4_goOn_113 : decode cX4_goOn 113 = .ok (.invokestatic 198, 3) := dk_184 0 198 (dk_at dksX4_goOn_4 20 rfl rfl)
theorem dX4_goOn_116 : decode cX4_goOn 116 = .ok (.ifCond .eq 123, 3) := dk_153 0 123 (dk_at dksX4_goOn_5 0 rfl rfl)
theorem dX4_goOn_119 : decode cX4_goOn 119 = .ok (.aload_n 0, 1) := dk_42 (dk_at dksX4_goOn_5 3 rfl rfl)
theorem dX4_goOn_120 : decode cX4_goOn 120 = .ok (.aload_n 0, 1) := dk_42 (dk_at dksX4_goOn_5 4 rfl rfl)
theorem dX4_goOn_121 : decode cX4_goOn 121 = .ok (.getfield 185, 3) := dk_180 0 185 (dk_at dksX4_goOn_5 5 rfl rfl)
theorem dX4_goOn_124 : decode cX4_goOn 124 = .ok (.invokevirtual 191, 3) := dk_182 0 191 (dk_at dksX4_goOn_5 8 rfl rfl)
theorem dX4_goOn_127 : decode cX4_goOn 127 = .ok (.invokestatic 198, 3) := dk_184 0 198 (dk_at dksX4_goOn_5 11 rfl rfl)
theorem dX4_goOn_130 : decode cX4_goOn 130 = .ok (.ifCond .eq 16, 3) := dk_153 0 16 (dk_at dksX4_goOn_5 14 rfl rfl)
theorem dX4_goOn_133 : decode cX4_goOn 133 = .ok (.aload_n 0, 1) := dk_42 (dk_at dksX4_goOn_5 17 rfl rfl)
theorem dX4_goOn_134 : decode cX4_goOn 134 = .ok (.dup, 1) := dk_89 (dk_at dksX4_goOn_5 18 rfl rfl)
theorem dX4_goOn_135 : decode cX4_goOn 135 = .ok (.getfield 185, 3) := dk_180 0 185 (dk_at dksX4_goOn_5 19 rfl rfl)
theorem dX4_goOn_138 : decode cX4_goOn 138 = .ok (.iconst 1, 1) := dk_4 (dk_at dksX4_goOn_5 22 rfl rfl)
theorem dX4_goOn_139 : decode cX4_goOn 139 = .ok (.iadd, 1) := dk_96 (dk_at dksX4_goOn_5 23 rfl rfl)
theorem dX4_goOn_140 : decode cX4_goOn 140 = .ok (.putfield 185, 3) := dk_181 0 185 (dk_at dksX4_goOn_6 0 rfl rfl)
theorem dX4_goOn_143 : decode cX4_goOn 143 = .ok (.goto (-24), 3) := dk_167 255 232 (dk_at dksX4_goOn_6 3 rfl rfl)
theorem dX4_goOn_146 : decode cX4_goOn 146 = .ok (.aload_n 0, 1) := dk_42 (dk_at dksX4_goOn_6 6 rfl rfl)
theorem dX4_goOn_147 : decode cX4_goOn 147 = .ok (.lconst 0, 1) := dk_9 (dk_at dksX4_goOn_6 7 rfl rfl)
theorem dX4_goOn_148 : decode cX4_goOn 148 = .ok (.putfield 202, 3) := dk_181 0 202 (dk_at dksX4_goOn_6 8 rfl rfl)
theorem dX4_goOn_151 : decode cX4_goOn 151 = .ok (.aload_n 0, 1) := dk_42 (dk_at dksX4_goOn_6 11 rfl rfl)
theorem dX4_goOn_152 : decode cX4_goOn 152 = .ok (.getfield 188, 3) := dk_180 0 188 (dk_at dksX4_goOn_6 12 rfl rfl)
theorem dX4_goOn_155 : decode cX4_goOn 155 = .ok (.istore_n 2, 1) := dk_61 (dk_at dksX4_goOn_6 15 rfl rfl)
theorem dX4_goOn_156 : decode cX4_goOn 156 = .ok (.iload_n 2, 1) := dk_28 (dk_at dksX4_goOn_6 16 rfl rfl)
theorem dX4_goOn_157 : decode cX4_goOn 157 = .ok (.aload_n 0, 1) := dk_42 (dk_at dksX4_goOn_6 17 rfl rfl)
theorem dX4_goOn_158 : decode cX4_goOn 158 = .ok (.getfield 185, 3) := dk_180 0 185 (dk_at dksX4_goOn_6 18 rfl rfl)
theorem dX4_goOn_161 : decode cX4_goOn 161 = .ok (.if_icmp .ge 38, 3) := dk_162 0 38 (dk_at dksX4_goOn_6 21 rfl rfl)
theorem dX4_goOn_164 : decode cX4_goOn 164 = .ok (.iload_n 2, 1) := dk_28 (dk_at dksX4_goOn_7 0 rfl rfl)
theorem dX4_goOn_165 : decode cX4_goOn 165 = .ok (.aload_n 0, 1) := dk_42 (dk_at dksX4_goOn_7 1 rfl rfl)
theorem dX4_goOn_166 : decode cX4_goOn 166 = .ok (.getfield 188, 3) := dk_180 0 188 (dk_at dksX4_goOn_7 2 rfl rfl)
theorem dX4_goOn_169 : decode cX4_goOn 169 = .ok (.bipush 8, 2) := dk_16 8 (dk_at dksX4_goOn_7 5 rfl rfl)
theorem dX4_goOn_171 : decode cX4_goOn 171 = .ok (.iadd, 1) := dk_96 (dk_at dksX4_goOn_7 7 rfl rfl)
theorem dX4_goOn_172 : decode cX4_goOn 172 = .ok (.if_icmp .ge 27, 3) := dk_162 0 27 (dk_at dksX4_goOn_7 8 rfl rfl)
theorem dX4_goOn_175 : decode cX4_goOn 175 = .ok (.aload_n 0, 1) := dk_42 (dk_at dksX4_goOn_7 11 rfl rfl)
theorem dX4_goOn_176 : decode cX4_goOn 176 = .ok (.aload_n 0, 1) := dk_42 (dk_at dksX4_goOn_7 12 rfl rfl)
theorem dX4_goOn_177 : decode cX4_goOn 177 = .ok (.getfield 202, 3) := dk_180 0 202 (dk_at dksX4_goOn_7 13 rfl rfl)
theorem dX4_goOn_180 : decode cX4_goOn 180 = .ok (.bipush 8, 2) := dk_16 8 (dk_at dksX4_goOn_7 16 rfl rfl)
theorem dX4_goOn_182 : decode cX4_goOn 182 = .ok (.lshl, 1) := dk_121 (dk_at dksX4_goOn_7 18 rfl rfl)
theorem dX4_goOn_183 : decode cX4_goOn 183 = .ok (.aload_n 0, 1) := dk_42 (dk_at dksX4_goOn_7 19 rfl rfl)
theorem dX4_goOn_184 : decode cX4_goOn 184 = .ok (.iload_n 2, 1) := dk_28 (dk_at dksX4_goOn_7 20 rfl rfl)
theorem dX4_goOn_185 : decode cX4_goOn 185 = .ok (.invokevirtual 191, 3) := dk_182 0 191 (dk_at dksX4_goOn_7 21 rfl rfl)
theorem dX4_goOn_188 : decode cX4_goOn 188 = .ok (.i2l, 1) := dk_133 (dk_at dksX4_goOn_8 0 rfl rfl)
theorem dX4_goOn_189 : decode cX4_goOn 189 = .ok (.lor, 1) := dk_129 (dk_at dksX4_goOn_8 1 rfl rfl)
theorem dX4_goOn_190 : decode cX4_goOn 190 = .ok (.putfield 202, 3) := dk_181 0 202 (dk_at dksX4_goOn_8 2 rfl rfl)
theorem dX4_goOn_193 : decode cX4_goOn 193 = .ok (.iinc 2 1, 3) := dk_132 2 1 (dk_at dksX4_goOn_8 5 rfl rfl)
theorem dX4_goOn_196 : decode cX4_goOn 196 = .ok (.goto (-40), 3) := dk_167 255 216 (dk_at dksX4_goOn_8 8 rfl rfl)
theorem dX4_goOn_199 : decode cX4_goOn 199 = .ok (.aload_n 0, 1) := dk_42 (dk_at dksX4_goOn_8 11 rfl rfl)
theorem dX4_goOn_200 : decode cX4_goOn 200 = .ok (.aload_n 0, 1) := dk_42 (dk_at dksX4_goOn_8 12 rfl rfl)
theorem dX4_goOn_201 : decode cX4_goOn 201 = .ok (.getfield 185, 3) := dk_180 0 185 (dk_at dksX4_goOn_8 13 rfl rfl)
theorem dX4_goOn_204 : decode cX4_goOn 204 = .ok (.aload_n 0, 1) := dk_42 (dk_at dksX4_goOn_8 16 rfl rfl)
theorem dX4_goOn_205 : decode cX4_goOn 205 = .ok (.getfield 188, 3) := dk_180 0 188 (dk_at dksX4_goOn_8 17 rfl rfl)
theorem dX4_goOn_208 : decode cX4_goOn 208 = .ok (.isub, 1) := dk_100 (dk_at dksX4_goOn_8 20 rfl rfl)
theorem dX4_goOn_209 : decode cX4_goOn 209 = .ok (.bipush 8, 2) := dk_16 8 (dk_at dksX4_goOn_8 21 rfl rfl)
theorem dX4_goOn_211 : decode cX4_goOn 211 = .ok (.if_icmp .le 7, 3) := dk_164 0 7 (dk_at dksX4_goOn_9 0 rfl rfl)
theorem dX4_goOn_214 : decode cX4_goOn 214 = .ok (.iconst 1, 1) := dk_4 (dk_at dksX4_goOn_9 3 rfl rfl)
theorem dX4_goOn_215 : decode cX4_goOn 215 = .ok (.goto 18, 3) := dk_167 0 18 (dk_at dksX4_goOn_9 4 rfl rfl)
theorem dX4_goOn_218 : decode cX4_goOn 218 = .ok (.aload_n 0, 1) := dk_42 (dk_at dksX4_goOn_9 7 rfl rfl)
theorem dX4_goOn_219 : decode cX4_goOn 219 = .ok (.getfield 202, 3) := dk_180 0 202 (dk_at dksX4_goOn_9 8 rfl rfl)
theorem dX4_goOn_222 : decode cX4_goOn 222 = .ok (.invokestatic 206, 3) := dk_184 0 206 (dk_at dksX4_goOn_9 11 rfl rfl)
theorem dX4_goOn_225 : decode cX4_goOn 225 = .ok (.ifCond .eq 7, 3) := dk_153 0 7 (dk_at dksX4_goOn_9 14 rfl rfl)
theorem dX4_goOn_228 : decode cX4_goOn 228 = .ok (.iconst 3, 1) := dk_6 (dk_at dksX4_goOn_9 17 rfl rfl)
theorem dX4_goOn_229 : decode cX4_goOn 229 = .ok (.goto 4, 3) := dk_167 0 4 (dk_at dksX4_goOn_9 18 rfl rfl)
theorem dX4_goOn_232 : decode cX4_goOn 232 = .ok (.iconst 2, 1) := dk_5 (dk_at dksX4_goOn_9 21 rfl rfl)
theorem dX4_goOn_233 : decode cX4_goOn 233 = .ok (.putfield 195, 3) := dk_181 0 195 (dk_at dksX4_goOn_10 0 rfl rfl)
theorem dX4_goOn_236 : decode cX4_goOn 236 = .ok (.goto 141, 3) := dk_167 0 141 (dk_at dksX4_goOn_10 3 rfl rfl)
theorem dX4_goOn_239 : decode cX4_goOn 239 = .ok (.iload_n 1, 1) := dk_27 (dk_at dksX4_goOn_10 6 rfl rfl)
theorem dX4_goOn_240 : decode cX4_goOn 240 = .ok (.invokestatic 210, 3) := dk_184 0 210 (dk_at dksX4_goOn_10 7 rfl rfl)
theorem dX4_goOn_243 : decode cX4_goOn 243 = .ok (.ifCond .eq 118, 3) := dk_153 0 118 (dk_at dksX4_goOn_10 10 rfl rfl)
theorem dX4_goOn_246 : decode cX4_goOn 246 = .ok (.aload_n 0, 1) := dk_42 (dk_at dksX4_goOn_10 13 rfl rfl)
theorem dX4_goOn_247 : decode cX4_goOn 247 = .ok (.iconst 0, 1) := dk_3 (dk_at dksX4_goOn_10 14 rfl rfl)
theorem dX4_goOn_248 : decode cX4_goOn 248 = .ok (.putfield 213, 3) := dk_181 0 213 (dk_at dksX4_goOn_10 15 rfl rfl)
theorem dX4_goOn_251 : decode cX4_goOn 251 = .ok (.aload_n 0, 1) := dk_42 (dk_at dksX4_goOn_10 18 rfl rfl)
theorem dX4_goOn_252 : decode cX4_goOn 252 = .ok (.aload_n 0, 1) := dk_42 (dk_at dksX4_goOn_10 19 rfl rfl)
theorem dX4_goOn_253 : decode cX4_goOn 253 = .ok (.getfield 188, 3) := dk_180 0 188 (dk_at dksX4_goOn_10 20 rfl rfl)
theorem dX4_goOn_256 : decode cX4_goOn 256 = .ok (.putfield 185, 3) := dk_181 0 185 (dk_at dksX4_goOn_11 0 rfl rfl)
theorem dX4_goOn_259 : decode cX4_goOn 259 = .ok (.aload_n 0, 1) := dk_42 (dk_at dksX4_goOn_11 3 rfl rfl)
theorem dX4_goOn_260 : decode cX4_goOn 260 = .ok (.aload_n 0, 1) := dk_42 (dk_at dksX4_goOn_11 4 rfl rfl)
theorem dX4_goOn_261 : decode cX4_goOn 261 = .ok (.getfield 185, 3) := dk_180 0 185 (dk_at dksX4_goOn_11 5 rfl rfl)
theorem dX4_goOn_264 : decode cX4_goOn 264 = .ok (.invokevirtual 191, 3) := dk_182 0 191 (dk_at dksX4_goOn_11 8 rfl rfl)
theorem dX4_goOn_267 : decode cX4_goOn 267 = .ok (.invokestatic 210, 3) := dk_184 0 210 (dk_at dksX4_goOn_11 11 rfl rfl)
theorem dX4_goOn_270 : decode cX4_goOn 270 = .ok (.ifCond .eq 52, 3) := dk_153 0 52 (dk_at dksX4_goOn_11 14 rfl rfl)
theorem dX4_goOn_273 : decode cX4_goOn 273 = .ok (.aload_n 0, 1) := dk_42 (dk_at dksX4_goOn_11 17 rfl rfl)
theorem dX4_goOn_274 : decode cX4_goOn 274 = .ok (.getfield 185, 3) := dk_180 0 185 (dk_at dksX4_goOn_11 18 rfl rfl)
theorem dX4_goOn_277 : decode cX4_goOn 277 = .ok (.aload_n 0, 1) := dk_42 (dk_at dksX4_goOn_11 21 rfl rfl)
theorem dX4_goOn_278 : decode cX4_goOn 278 = .ok (.getfield 188, 3) := dk_180 0 188 (dk_at dksX4_goOn_12 0 rfl rfl)
theorem dX4_goOn_281 : decode cX4_goOn 281 = .ok (.isub, 1) := dk_100 (dk_at dksX4_goOn_12 3 rfl rfl)
theorem dX4_goOn_282 : decode cX4_goOn 282 = .ok (.iconst 4, 1) := dk_7 (dk_at dksX4_goOn_12 4 rfl rfl)
theorem dX4_goOn_283 : decode cX4_goOn 283 = .ok (.if_icmp .ge 26, 3) := dk_162 0 26 (dk_at dksX4_goOn_12 5 rfl rfl)
theorem dX4_goOn_286 : decode cX4_goOn 286 = .ok (.aload_n 0, 1) := dk_42 (dk_at dksX4_goOn_12 8 rfl rfl)
theorem dX4_goOn_287 : decode cX4_goOn 287 = .ok (.bipush 10, 2) := dk_16 10 (dk_at dksX4_goOn_12 9 rfl rfl)
theorem dX4_goOn_289 : decode cX4_goOn 289 = .ok (.aload_n 0, 1) := dk_42 (dk_at dksX4_goOn_12 11 rfl rfl)
theorem dX4_goOn_290 : decode cX4_goOn 290 = .ok (.getfield 213, 3) := dk_180 0 213 (dk_at dksX4_goOn_12 12 rfl rfl)
theorem dX4_goOn_293 : decode cX4_goOn 293 = .ok (.imul, 1) := dk_104 (dk_at dksX4_goOn_12 15 rfl rfl)
theorem dX4_goOn_294 : decode cX4_goOn 294 = .ok (.aload_n 0, 1) := dk_42 (dk_at dksX4_goOn_12 16 rfl rfl)
theorem dX4_goOn_295 : decode cX4_goOn 295 = .ok (.aload_n 0, 1) := dk_42 (dk_at dksX4_goOn_12 17 rfl rfl)
theorem dX4_goOn_296 : decode cX4_goOn 296 = .ok (.getfield 185, 3) := dk_180 0 185 (dk_at dksX4_goOn_12 18 rfl rfl)
theorem dX4_goOn_299 : decode cX4_goOn 299 = .ok (.invokevirtual 191, 3) := dk_182 0 191 (dk_at dksX4_goOn_12 21 rfl rfl)
theorem dX4_goOn_302 : decode cX4_goOn 302 = .ok (.iadd, 1) := dk_96 (dk_at dksX4_goOn_13 0 rfl rfl)
theorem dX4_goOn_303 : decode cX4_goOn 303 = .ok (.bipush 48, 2) := dk_16 48 (dk_at dksX4_goOn_13 1 rfl rfl)
theorem dX4_goOn_305 : decode cX4_goOn 305 = .ok (.isub, 1) := dk_100 (dk_at dksX4_goOn_13 3 rfl rfl)
theorem dX4_goOn_306 : decode cX4_goOn 306 = .ok (.putfield 213, 3) := dk_181 0 213 (dk_at dksX4_goOn_13 4 rfl rfl)
theorem dX4_goOn_309 : decode cX4_goOn 309 = .ok (.aload_n 0, 1) := dk_42 (dk_at dksX4_goOn_13 7 rfl rfl)
theorem dX4_goOn_310 : decode cX4_goOn 310 = .ok (.dup, 1) := dk_89 (dk_at dksX4_goOn_13 8 rfl rfl)
theorem dX4_goOn_311 : decode cX4_goOn 311 = .ok (.getfield 185, 3) := dk_180 0 185 (dk_at dksX4_goOn_13 9 rfl rfl)
theorem dX4_goOn_314 : decode cX4_goOn 314 = .ok (.iconst 1, 1) := dk_4 (dk_at dksX4_goOn_13 12 rfl rfl)
theorem dX4_goOn_315 : decode cX4_goOn 315 = .ok (.iadd, 1) := dk_96 (dk_at dksX4_goOn_13 13 rfl rfl)
theorem dX4_goOn_316 : decode cX4_goOn 316 = .ok (.putfield 185, 3) := dk_181 0 185 (dk_at dksX4_goOn_13 14 rfl rfl)
theorem dX4_goOn_319 : decode cX4_goOn 319 = .ok (.goto (-60), 3) := dk_167 255 196 (dk_at dksX4_goOn_13 17 rfl rfl)
theorem dX4_goOn_322 : decode cX4_goOn 322 = .ok (.aload_n 0, 1) := dk_42 (dk_at dksX4_goOn_13 20 rfl rfl)
theorem dX4_goOn_323 : decode cX4_goOn 323 = .ok (.aload_n 0, 1) := dk_42 (dk_at dksX4_goOn_13 21 rfl rfl)
theorem dX4_goOn_324 : decode cX4_goOn 324 = .ok (.getfield 185, 3) := dk_180 0 185 (dk_at dksX4_goOn_14 0 rfl rfl)
theorem dX4_goOn_327 : decode cX4_goOn 327 = .ok (.aload_n 0, 1) := dk_42 (dk_at dksX4_goOn_14 3 rfl rfl)
theorem dX4_goOn_328 : decode cX4_goOn 328 = .ok (.getfield 188, 3) := dk_180 0 188 (dk_at dksX4_goOn_14 4 rfl rfl)
theorem dX4_goOn_331 : decode cX4_goOn 331 = .ok (.isub, 1) := dk_100 (dk_at dksX4_goOn_14 7 rfl rfl)
theorem dX4_goOn_332 : decode cX4_goOn 332 = .ok (.iconst 4, 1) := dk_7 (dk_at dksX4_goOn_14 8 rfl rfl)
theorem dX4_goOn_333 : decode cX4_goOn 333 = .ok (.if_icmp .gt 17, 3) := dk_163 0 17 (dk_at dksX4_goOn_14 9 rfl rfl)
theorem dX4_goOn_336 : decode cX4_goOn 336 = .ok (.aload_n 0, 1) := dk_42 (dk_at dksX4_goOn_14 12 rfl rfl)
theorem dX4_goOn_337 : decode cX4_goOn 337 = .ok (.aload_n 0, 1) := dk_42 (dk_at dksX4_goOn_14 13 rfl rfl)
theorem dX4_goOn_338 : decode cX4_goOn 338 = .ok (.getfield 185, 3) := dk_180 0 185 (dk_at dksX4_goOn_14 14 rfl rfl)
theorem dX4_goOn_341 : decode cX4_goOn 341 = .ok (.invokevirtual 191, 3) := dk_182 0 191 (dk_at dksX4_goOn_14 17 rfl rfl)
theorem dX4_goOn_344 : decode cX4_goOn 344 = .ok (.invokestatic 198, 3) := dk_184 0 198 (dk_at dksX4_goOn_14 20 rfl rfl)
theorem dX4_goOn_347 : decode cX4_goOn 347 = .ok (.ifCond .eq 7, 3) := dk_153 0 7 (dk_at dksX4_goOn_15 0 rfl rfl)
theorem dX4_goOn_350 : decode cX4_goOn 350 = .ok (.iconst 1, 1) := dk_4 (dk_at dksX4_goOn_15 3 rfl rfl)
theorem dX4_goOn_351 : decode cX4_goOn 351 = .ok (.goto 4, 3) := dk_167 0 4 (dk_at dksX4_goOn_15 4 rfl rfl)
theorem dX4_goOn_354 : decode cX4_goOn 354 = .ok (.iconst 4, 1) := dk_7 (dk_at dksX4_goOn_15 7 rfl rfl)
theorem dX4_goOn_355 : decode cX4_goOn 355 = .ok (.putfield 195, 3) := dk_181 0 195 (dk_at dksX4_goOn_15 8 rfl rfl)
theorem dX4_goOn_358 : decode cX4_goOn 358 = .ok (.goto 19, 3) := dk_167 0 19 (dk_at dksX4_goOn_15 11 rfl rfl)
theorem dX4_goOn_361 : decode cX4_goOn 361 = .ok (.aload_n 0, 1) := dk_42 (dk_at dksX4_goOn_15 14 rfl rfl)
theorem dX4_goOn_362 : decode cX4_goOn 362 = .ok (.iload_n 1, 1) := dk_27 (dk_at dksX4_goOn_15 15 rfl rfl)
theorem dX4_goOn_363 : decode cX4_goOn 363 = .ok (.invokestatic 216, 3) := dk_184 0 216 (dk_at dksX4_goOn_15 16 rfl rfl)
theorem dX4_goOn_366 : decode cX4_goOn 366 = .ok (.ifCond .eq 7, 3) := dk_153 0 7 (dk_at dksX4_goOn_15 19 rfl rfl)
theorem dX4_goOn_369 : decode cX4_goOn 369 = .ok (.iconst 5, 1) := dk_8 (dk_at dksX4_goOn_15 22 rfl rfl)
theorem dX4_goOn_370 : decode cX4_goOn 370 = .ok (.goto 4, 3) := dk_167 0 4 (dk_at dksX4_goOn_16 0 rfl rfl)
theorem dX4_goOn_373 : decode cX4_goOn 373 = .ok (.iconst 1, 1) := dk_4 (dk_at dksX4_goOn_16 3 rfl rfl)
theorem dX4_goOn_374 : decode cX4_goOn 374 = .ok (.putfield 195, 3) := dk_181 0 195 (dk_at dksX4_goOn_16 4 rfl rfl)
theorem dX4_goOn_377 : decode cX4_goOn 377 = .ok (.return_, 1) := dk_177 (dk_at dksX4_goOn_16 7 rfl rfl)
abbrev cX4_sign : ByteArray := prog_23_method_2_code
def yX4_sign : MethodName := ⟨RX4, "sign", "(I)I"⟩
def dkwX4_sign_0 : List UInt8 := [27, 42, 180, 0, 143, 162, 0, 16, 42, 180, 0, 13, 27, 51, 17, 0, 255, 126, 167, 0, 4, 3, 172]
abbrev dktX4_sign_0 : List UInt8 := dkwX4_sign_0 ++ []
theorem dksX4_sign_0 : cX4_sign.data.toList.drop 0 = dktX4_sign_0 := by decide +kernel
theorem dX4_sign_0 : decode cX4_sign 0 = .ok (.iload_n 1, 1) := dk_27 (dk_at dksX4_sign_0 0 rfl rfl)
theorem dX4_sign_1 : decode cX4_sign 1 = .ok (.aload_n 0, 1) := dk_42 (dk_at dksX4_sign_0 1 rfl rfl)
theorem dX4_sign_2 : decode cX4_sign 2 = .ok (.getfield 143, 3) := dk_180 0 143 (dk_at dksX4_sign_0 2 rfl rfl)
theorem dX4_sign_5 : decode cX4_sign 5 = .ok (.if_icmp .ge 16, 3) := dk_162 0 16 (dk_at dksX4_sign_0 5 rfl rfl)
theorem dX4_sign_8 : decode cX4_sign 8 = .ok (.aload_n 0, 1) := dk_42 (dk_at dksX4_sign_0 8 rfl rfl)
theorem dX4_sign_9 : decode cX4_sign 9 = .ok (.getfield 13, 3) := dk_180 0 13 (dk_at dksX4_sign_0 9 rfl rfl)
theorem dX4_sign_12 : decode cX4_sign 12 = .ok (.iload_n 1, 1) := dk_27 (dk_at dksX4_sign_0 12 rfl rfl)
theorem dX4_sign_13 : decode cX4_sign 13 = .ok (.baload, 1) := dk_51 (dk_at dksX4_sign_0 13 rfl rfl)
theorem dX4_sign_14 : decode cX4_sign 14 = .ok (.sipush 255, 3) := dk_17 0 255 (dk_at dksX4_sign_0 14 rfl rfl)
theorem dX4_sign_17 : decode cX4_sign 17 = .ok (.iand, 1) := dk_126 (dk_at dksX4_sign_0 17 rfl rfl)
theorem dX4_sign_18 : decode cX4_sign 18 = .ok (.goto 4, 3) := dk_167 0 4 (dk_at dksX4_sign_0 18 rfl rfl)
theorem dX4_sign_21 : decode cX4_sign 21 = .ok (.iconst 0, 1) := dk_3 (dk_at dksX4_sign_0 21 rfl rfl)
theorem dX4_sign_22 : decode cX4_sign 22 = .ok (.ireturn, 1) := dk_172 (dk_at dksX4_sign_0 22 rfl rfl)
abbrev cX4_isLetter : ByteArray := prog_23_method_3_code
def yX4_isLetter : MethodName := ⟨RX4, "isLetter", "(I)Z"⟩
def dkwX4_isLetter_0 : List UInt8 := [26, 16, 97, 161, 0, 13, 26, 16, 122, 163, 0, 7, 4, 167, 0, 4, 3, 172]
abbrev dktX4_isLetter_0 : List UInt8 := dkwX4_isLetter_0 ++ []
theorem dksX4_isLetter_0 : cX4_isLetter.data.toList.drop 0 = dktX4_isLetter_0 := by decide +kernel
theorem dX4_isLetter_0 : decode cX4_isLetter 0 = .ok (.iload_n 0, 1) := dk_26 (dk_at dksX4_isLetter_0 0 rfl rfl)
theorem dX4_isLetter_1 : decode cX4_isLetter 1 = .ok (.bipush 97, 2) := dk_16 97 (dk_at dksX4_isLetter_0 1 rfl rfl)
theorem dX4_isLetter_3 : decode cX4_isLetter 3 = .ok (.if_icmp .lt 13, 3) := dk_161 0 13 (dk_at dksX4_isLetter_0 3 rfl rfl)
theorem dX4_isLetter_6 : decode cX4_isLetter 6 = .ok (.iload_n 0, 1) := dk_26 (dk_at dksX4_isLetter_0 6 rfl rfl)
theorem dX4_isLetter_7 : decode cX4_isLetter 7 = .ok (.bipush 122, 2) := dk_16 122 (dk_at dksX4_isLetter_0 7 rfl rfl)
theorem dX4_isLetter_9 : decode cX4_isLetter 9 = .ok (.if_icmp .gt 7, 3) := dk_163 0 7 (dk_at dksX4_isLetter_0 9 rfl rfl)
theorem dX4_isLetter_12 : decode cX4_isLetter 12 = .ok (.iconst 1, 1) := dk_4 (dk_at dksX4_isLetter_0 12 rfl rfl)
theorem dX4_isLetter_13 : decode cX4_isLetter 13 = .ok (.goto 4, 3) := dk_167 0 4 (dk_at dksX4_isLetter_0 13 rfl rfl)
theorem dX4_isLetter_16 : decode cX4_isLetter 16 = .ok (.iconst 0, 1) := dk_3 (dk_at dksX4_isLetter_0 16 rfl rfl)
theorem dX4_isLetter_17 : decode cX4_isLetter 17 = .ok (.ireturn, 1) := dk_172 (dk_at dksX4_isLetter_0 17 rfl rfl)
abbrev cX4_isKept : ByteArray := prog_23_method_7_code
def yX4_isKept : MethodName := ⟨RX4, "isKept", "(J)Z"⟩
def dkwX4_isKept_6 : List UInt8 := [153, 0, 11, 30, 20, 0, 183, 148, 154, 0, 7, 4, 167, 0, 4, 3, 172]
abbrev dktX4_isKept_6 : List UInt8 := dkwX4_isKept_6 ++ []
def dkwX4_isKept_5 : List UInt8 := [153, 0, 35, 30, 20, 0, 177, 148, 153, 0, 27, 30, 20, 0, 179, 148, 153, 0, 19, 30, 20, 0, 181, 148]
abbrev dktX4_isKept_5 : List UInt8 := dkwX4_isKept_5 ++ dktX4_isKept_6
def dkwX4_isKept_4 : List UInt8 := [153, 0, 59, 30, 20, 0, 171, 148, 153, 0, 51, 30, 20, 0, 173, 148, 153, 0, 43, 30, 20, 0, 175, 148]
abbrev dktX4_isKept_4 : List UInt8 := dkwX4_isKept_4 ++ dktX4_isKept_5
def dkwX4_isKept_3 : List UInt8 := [4, 167, 0, 4, 3, 61, 28, 154, 0, 75, 30, 20, 0, 167, 148, 153, 0, 67, 30, 20, 0, 169, 148]
abbrev dktX4_isKept_3 : List UInt8 := dkwX4_isKept_3 ++ dktX4_isKept_4
def dkwX4_isKept_2 : List UInt8 := [30, 20, 0, 161, 148, 153, 0, 19, 30, 20, 0, 163, 148, 153, 0, 11, 30, 20, 0, 165, 148, 154, 0, 7]
abbrev dktX4_isKept_2 : List UInt8 := dkwX4_isKept_2 ++ dktX4_isKept_3
def dkwX4_isKept_1 : List UInt8 := [30, 20, 0, 155, 148, 153, 0, 43, 30, 20, 0, 157, 148, 153, 0, 35, 30, 20, 0, 159, 148, 153, 0, 27]
abbrev dktX4_isKept_1 : List UInt8 := dkwX4_isKept_1 ++ dktX4_isKept_2
def dkwX4_isKept_0 : List UInt8 := [30, 20, 0, 149, 148, 153, 0, 67, 30, 20, 0, 151, 148, 153, 0, 59, 30, 20, 0, 153, 148, 153, 0, 51]
abbrev dktX4_isKept_0 : List UInt8 := dkwX4_isKept_0 ++ dktX4_isKept_1
theorem dksX4_isKept_0 : cX4_isKept.data.toList.drop 0 = dktX4_isKept_0 := by decide +kernel
theorem dksX4_isKept_1 : cX4_isKept.data.toList.drop 24 = dktX4_isKept_1 := dk_seg dksX4_isKept_0 24 rfl rfl
theorem dksX4_isKept_2 : cX4_isKept.data.toList.drop 48 = dktX4_isKept_2 := dk_seg dksX4_isKept_1 24 rfl rfl
theorem dksX4_isKept_3 : cX4_isKept.data.toList.drop 72 = dktX4_isKept_3 := dk_seg dksX4_isKept_2 24 rfl rfl
theorem dksX4_isKept_4 : cX4_isKept.data.toList.drop 95 = dktX4_isKept_4 := dk_seg dksX4_isKept_3 23 rfl rfl
theorem dksX4_isKept_5 : cX4_isKept.data.toList.drop 119 = dktX4_isKept_5 := dk_seg dksX4_isKept_4 24 rfl rfl
theorem dksX4_isKept_6 : cX4_isKept.data.toList.drop 143 = dktX4_isKept_6 := dk_seg dksX4_isKept_5 24 rfl rfl
theorem dX4_isKept_0 : decode cX4_isKept 0 = .ok (.lload_n 0, 1) := dk_30 (dk_at dksX4_isKept_0 0 rfl rfl)
theorem dX4_isKept_1 : decode cX4_isKept 1 = .ok (.ldc2_w 149, 3) := dk_20 0 149 (dk_at dksX4_isKept_0 1 rfl rfl)
theorem dX4_isKept_4 : decode cX4_isKept 4 = .ok (.lcmp, 1) := dk_148 (dk_at dksX4_isKept_0 4 rfl rfl)
theorem dX4_isKept_5 : decode cX4_isKept 5 = .ok (.ifCond .eq 67, 3) := dk_153 0 67 (dk_at dksX4_isKept_0 5 rfl rfl)
theorem dX4_isKept_8 : decode cX4_isKept 8 = .ok (.lload_n 0, 1) := dk_30 (dk_at dksX4_isKept_0 8 rfl rfl)
theorem dX4_isKept_9 : decode cX4_isKept 9 = .ok (.ldc2_w 151, 3) := dk_20 0 151 (dk_at dksX4_isKept_0 9 rfl rfl)
theorem dX4_isKept_12 : decode cX4_isKept 12 = .ok (.lcmp, 1) := dk_148 (dk_at dksX4_isKept_0 12 rfl rfl)
theorem dX4_isKept_13 : decode cX4_isKept 13 = .ok (.ifCond .eq 59, 3) := dk_153 0 59 (dk_at dksX4_isKept_0 13 rfl rfl)
theorem dX4_isKept_16 : decode cX4_isKept 16 = .ok (.lload_n 0, 1) := dk_30 (dk_at dksX4_isKept_0 16 rfl rfl)
theorem dX4_isKept_17 : decode cX4_isKept 17 = .ok (.ldc2_w 153, 3) := dk_20 0 153 (dk_at dksX4_isKept_0 17 rfl rfl)
theorem dX4_isKept_20 : decode cX4_isKept 20 = .ok (.lcmp, 1) := dk_148 (dk_at dksX4_isKept_0 20 rfl rfl)
theorem dX4_isKept_21 : decode cX4_isKept 21 = .ok (.ifCond .eq 51, 3) := dk_153 0 51 (dk_at dksX4_isKept_0 21 rfl rfl)
theorem dX4_isKept_24 : decode cX4_isKept 24 = .ok (.lload_n 0, 1) := dk_30 (dk_at dksX4_isKept_1 0 rfl rfl)
theorem dX4_isKept_25 : decode cX4_isKept 25 = .ok (.ldc2_w 155, 3) := dk_20 0 155 (dk_at dksX4_isKept_1 1 rfl rfl)
theorem dX4_isKept_28 : decode cX4_isKept 28 = .ok (.lcmp, 1) := dk_148 (dk_at dksX4_isKept_1 4 rfl rfl)
theorem dX4_isKept_29 : decode cX4_isKept 29 = .ok (.ifCond .eq 43, 3) := dk_153 0 43 (dk_at dksX4_isKept_1 5 rfl rfl)
theorem dX4_isKept_32 : decode cX4_isKept 32 = .ok (.lload_n 0, 1) := dk_30 (dk_at dksX4_isKept_1 8 rfl rfl)
theorem dX4_isKept_33 : decode cX4_isKept 33 = .ok (.ldc2_w 157, 3) := dk_20 0 157 (dk_at dksX4_isKept_1 9 rfl rfl)
theorem dX4_isKept_36 : decode cX4_isKept 36 = .ok (.lcmp, 1) := dk_148 (dk_at dksX4_isKept_1 12 rfl rfl)
theorem dX4_isKept_37 : decode cX4_isKept 37 = .ok (.ifCond .eq 35, 3) := dk_153 0 35 (dk_at dksX4_isKept_1 13 rfl rfl)
theorem dX4_isKept_40 : decode cX4_isKept 40 = .ok (.lload_n 0, 1) := dk_30 (dk_at dksX4_isKept_1 16 rfl rfl)
theorem dX4_isKept_41 : decode cX4_isKept 41 = .ok (.ldc2_w 159, 3) := dk_20 0 159 (dk_at dksX4_isKept_1 17 rfl rfl)
theorem dX4_isKept_44 : decode cX4_isKept 44 = .ok (.lcmp, 1) := dk_148 (dk_at dksX4_isKept_1 20 rfl rfl)
theorem dX4_isKept_45 : decode cX4_isKept 45 = .ok (.ifCond .eq 27, 3) := dk_153 0 27 (dk_at dksX4_isKept_1 21 rfl rfl)
theorem dX4_isKept_48 : decode cX4_isKept 48 = .ok (.lload_n 0, 1) := dk_30 (dk_at dksX4_isKept_2 0 rfl rfl)
theorem dX4_isKept_49 : decode cX4_isKept 49 = .ok (.ldc2_w 161, 3) := dk_20 0 161 (dk_at dksX4_isKept_2 1 rfl rfl)
theorem dX4_isKept_52 : decode cX4_isKept 52 = .ok (.lcmp, 1) := dk_148 (dk_at dksX4_isKept_2 4 rfl rfl)
theorem dX4_isKept_53 : decode cX4_isKept 53 = .ok (.ifCond .eq 19, 3) := dk_153 0 19 (dk_at dksX4_isKept_2 5 rfl rfl)
theorem dX4_isKept_56 : decode cX4_isKept 56 = .ok (.lload_n 0, 1) := dk_30 (dk_at dksX4_isKept_2 8 rfl rfl)
theorem dX4_isKept_57 : decode cX4_isKept 57 = .ok (.ldc2_w 163, 3) := dk_20 0 163 (dk_at dksX4_isKept_2 9 rfl rfl)
theorem dX4_isKept_60 : decode cX4_isKept 60 = .ok (.lcmp, 1) := dk_148 (dk_at dksX4_isKept_2 12 rfl rfl)
theorem dX4_isKept_61 : decode cX4_isKept 61 = .ok (.ifCond .eq 11, 3) := dk_153 0 11 (dk_at dksX4_isKept_2 13 rfl rfl)
theorem dX4_isKept_64 : decode cX4_isKept 64 = .ok (.lload_n 0, 1) := dk_30 (dk_at dksX4_isKept_2 16 rfl rfl)
theorem dX4_isKept_65 : decode cX4_isKept 65 = .ok (.ldc2_w 165, 3) := dk_20 0 165 (dk_at dksX4_isKept_2 17 rfl rfl)
theorem dX4_isKept_68 : decode cX4_isKept 68 = .ok (.lcmp, 1) := dk_148 (dk_at dksX4_isKept_2 20 rfl rfl)
theorem dX4_isKept_69 : decode cX4_isKept 69 = .ok (.ifCond .ne 7, 3) := dk_154 0 7 (dk_at dksX4_isKept_2 21 rfl rfl)
theorem dX4_isKept_72 : decode cX4_isKept 72 = .ok (.iconst 1, 1) := dk_4 (dk_at dksX4_isKept_3 0 rfl rfl)
theorem dX4_isKept_73 : decode cX4_isKept 73 = .ok (.goto 4, 3) := dk_167 0 4 (dk_at dksX4_isKept_3 1 rfl rfl)
theorem dX4_isKept_76 : decode cX4_isKept 76 = .ok (.iconst 0, 1) := dk_3 (dk_at dksX4_isKept_3 4 rfl rfl)
theorem dX4_isKept_77 : decode cX4_isKept 77 = .ok (.istore_n 2, 1) := dk_61 (dk_at dksX4_isKept_3 5 rfl rfl)
theorem dX4_isKept_78 : decode cX4_isKept 78 = .ok (.iload_n 2, 1) := dk_28 (dk_at dksX4_isKept_3 6 rfl rfl)
theorem dX4_isKept_79 : decode cX4_isKept 79 = .ok (.ifCond .ne 75, 3) := dk_154 0 75 (dk_at dksX4_isKept_3 7 rfl rfl)
theorem dX4_isKept_82 : decode cX4_isKept 82 = .ok (.lload_n 0, 1) := dk_30 (dk_at dksX4_isKept_3 10 rfl rfl)
theorem dX4_isKept_83 : decode cX4_isKept 83 = .ok (.ldc2_w 167, 3) := dk_20 0 167 (dk_at dksX4_isKept_3 11 rfl rfl)
theorem dX4_isKept_86 : decode cX4_isKept 86 = .ok (.lcmp, 1) := dk_148 (dk_at dksX4_isKept_3 14 rfl rfl)
theorem dX4_isKept_87 : decode cX4_isKept 87 = .ok (.ifCond .eq 67, 3) := dk_153 0 67 (dk_at dksX4_isKept_3 15 rfl rfl)
theorem dX4_isKept_90 : decode cX4_isKept 90 = .ok (.lload_n 0, 1) := dk_30 (dk_at dksX4_isKept_3 18 rfl rfl)
theorem dX4_isKept_91 : decode cX4_isKept 91 = .ok (.ldc2_w 169, 3) := dk_20 0 169 (dk_at dksX4_isKept_3 19 rfl rfl)
theorem dX4_isKept_94 : decode cX4_isKept 94 = .ok (.lcmp, 1) := dk_148 (dk_at dksX4_isKept_3 22 rfl rfl)
theorem dX4_isKept_95 : decode cX4_isKept 95 = .ok (.ifCond .eq 59, 3) := dk_153 0 59 (dk_at dksX4_isKept_4 0 rfl rfl)
theorem dX4_isKept_98 : decode cX4_isKept 98 = .ok (.lload_n 0, 1) := dk_30 (dk_at dksX4_isKept_4 3 rfl rfl)
theorem dX4_isKept_99 : decode cX4_isKept 99 = .ok (.ldc2_w 171, 3) := dk_20 0 171 (dk_at dksX4_isKept_4 4 rfl rfl)
theorem dX4_isKept_102 : decode cX4_isKept 102 = .ok (.lcmp, 1) := dk_148 (dk_at dksX4_isKept_4 7 rfl rfl)
theorem dX4_isKept_103 : decode cX4_isKept 103 = .ok (.ifCond .eq 51, 3) := dk_153 0 51 (dk_at dksX4_isKept_4 8 rfl rfl)
theorem dX4_isKept_106 : decode cX4_isKept 106 = .ok (.lload_n 0, 1) := dk_30 (dk_at dksX4_isKept_4 11 rfl rfl)
theorem dX4_isKept_107 : decode cX4_isKept 107 = .ok (.ldc2_w 173, 3) := dk_20 0 173 (dk_at dksX4_isKept_4 12 rfl rfl)
theorem dX4_isKept_110 : decode cX4_isKept 110 = .ok (.lcmp, 1) := dk_148 (dk_at dksX4_isKept_4 15 rfl rfl)
theorem dX4_isKept_111 : decode cX4_isKept 111 = .ok (.ifCond .eq 43, 3) := dk_153 0 43 (dk_at dksX4_isKept_4 16 rfl rfl)
theorem dX4_isKept_114 : decode cX4_isKept 114 = .ok (.lload_n 0, 1) := dk_30 (dk_at dksX4_isKept_4 19 rfl rfl)
theorem dX4_isKept_115 : decode cX4_isKept 115 = .ok (.ldc2_w 175, 3) := dk_20 0 175 (dk_at dksX4_isKept_4 20 rfl rfl)
theorem dX4_isKept_118 : decode cX4_isKept 118 = .ok (.lcmp, 1) := dk_148 (dk_at dksX4_isKept_4 23 rfl rfl)
theorem dX4_isKept_119 : decode cX4_isKept 119 = .ok (.ifCond .eq 35, 3) := dk_153 0 35 (dk_at dksX4_isKept_5 0 rfl rfl)
theorem dX4_isKept_122 : decode cX4_isKept 122 = .ok (.lload_n 0, 1) := dk_30 (dk_at dksX4_isKept_5 3 rfl rfl)
theorem dX4_isKept_123 : decode cX4_isKept 123 = .ok (.ldc2_w 177, 3) := dk_20 0 177 (dk_at dksX4_isKept_5 4 rfl rfl)
theorem dX4_isKept_126 : decode cX4_isKept 126 = .ok (.lcmp, 1) := dk_148 (dk_at dksX4_isKept_5 7 rfl rfl)
theorem dX4_isKept_127 : decode cX4_isKept 127 = .ok (.ifCond .eq 27, 3) := dk_153 0 27 (dk_at dksX4_isKept_5 8 rfl rfl)
theorem dX4_isKept_130 : decode cX4_isKept 130 = .ok (.lload_n 0, 1) := dk_30 (dk_at dksX4_isKept_5 11 rfl rfl)
theorem dX4_isKept_131 : decode cX4_isKept 131 = .ok (.ldc2_w 179, 3) := dk_20 0 179 (dk_at dksX4_isKept_5 12 rfl rfl)
theorem dX4_isKept_134 : decode cX4_isKept 134 = .ok (.lcmp, 1) := dk_148 (dk_at dksX4_isKept_5 15 rfl rfl)
theorem dX4_isKept_135 : decode cX4_isKept 135 = .ok (.ifCond .eq 19, 3) := dk_153 0 19 (dk_at dksX4_isKept_5 16 rfl rfl)
theorem dX4_isKept_138 : decode cX4_isKept 138 = .ok (.lload_n 0, 1) := dk_30 (dk_at dksX4_isKept_5 19 rfl rfl)
theorem dX4_isKept_139 : decode cX4_isKept 139 = .ok (.ldc2_w 181, 3) := dk_20 0 181 (dk_at dksX4_isKept_5 20 rfl rfl)
theorem dX4_isKept_142 : decode cX4_isKept 142 = .ok (.lcmp, 1) := dk_148 (dk_at dksX4_isKept_5 23 rfl rfl)
theorem dX4_isKept_143 : decode cX4_isKept 143 = .ok (.ifCond .eq 11, 3) := dk_153 0 11 (dk_at dksX4_isKept_6 0 rfl rfl)
theorem dX4_isKept_146 : decode cX4_isKept 146 = .ok (.lload_n 0, 1) := dk_30 (dk_at dksX4_isKept_6 3 rfl rfl)
theorem dX4_isKept_147 : decode cX4_isKept 147 = .ok (.ldc2_w 183, 3) := dk_20 0 183 (dk_at dksX4_isKept_6 4 rfl rfl)
theorem dX4_isKept_150 : decode cX4_isKept 150 = .ok (.lcmp, 1) := dk_148 (dk_at dksX4_isKept_6 7 rfl rfl)
theorem dX4_isKept_151 : decode cX4_isKept 151 = .ok (.ifCond .ne 7, 3) := dk_154 0 7 (dk_at dksX4_isKept_6 8 rfl rfl)
theorem dX4_isKept_154 : decode cX4_isKept 154 = .ok (.iconst 1, 1) := dk_4 (dk_at dksX4_isKept_6 11 rfl rfl)
theorem dX4_isKept_155 : decode cX4_isKept 155 = .ok (.goto 4, 3) := dk_167 0 4 (dk_at dksX4_isKept_6 12 rfl rfl)
theorem dX4_isKept_158 : decode cX4_isKept 158 = .ok (.iconst 0, 1) := dk_3 (dk_at dksX4_isKept_6 15 rfl rfl)
theorem dX4_isKept_159 : decode cX4_isKept 159 = .ok (.ireturn, 1) := dk_172 (dk_at dksX4_isKept_6 16 rfl rfl)
abbrev cX4_isDigit : ByteArray := prog_23_method_4_code
def yX4_isDigit : MethodName := ⟨RX4, "isDigit", "(I)Z"⟩
def dkwX4_isDigit_0 : List UInt8 := [26, 16, 48, 161, 0, 13, 26, 16, 57, 163, 0, 7, 4, 167, 0, 4, 3, 172]
abbrev dktX4_isDigit_0 : List UInt8 := dkwX4_isDigit_0 ++ []
theorem dksX4_isDigit_0 : cX4_isDigit.data.toList.drop 0 = dktX4_isDigit_0 := by decide +kernel
theorem dX4_isDigit_0 : decode cX4_isDigit 0 = .ok (.iload_n 0, 1) := dk_26 (dk_at dksX4_isDigit_0 0 rfl rfl)
theorem dX4_isDigit_1 : decode cX4_isDigit 1 = .ok (.bipush 48, 2) := dk_16 48 (dk_at dksX4_isDigit_0 1 rfl rfl)
theorem dX4_isDigit_3 : decode cX4_isDigit 3 = .ok (.if_icmp .lt 13, 3) := dk_161 0 13 (dk_at dksX4_isDigit_0 3 rfl rfl)
theorem dX4_isDigit_6 : decode cX4_isDigit 6 = .ok (.iload_n 0, 1) := dk_26 (dk_at dksX4_isDigit_0 6 rfl rfl)
theorem dX4_isDigit_7 : decode cX4_isDigit 7 = .ok (.bipush 57, 2) := dk_16 57 (dk_at dksX4_isDigit_0 7 rfl rfl)
theorem dX4_isDigit_9 : decode cX4_isDigit 9 = .ok (.if_icmp .gt 7, 3) := dk_163 0 7 (dk_at dksX4_isDigit_0 9 rfl rfl)
theorem dX4_isDigit_12 : decode cX4_isDigit 12 = .ok (.iconst 1, 1) := dk_4 (dk_at dksX4_isDigit_0 12 rfl rfl)
theorem dX4_isDigit_13 : decode cX4_isDigit 13 = .ok (.goto 4, 3) := dk_167 0 4 (dk_at dksX4_isDigit_0 13 rfl rfl)
theorem dX4_isDigit_16 : decode cX4_isDigit 16 = .ok (.iconst 0, 1) := dk_3 (dk_at dksX4_isDigit_0 16 rfl rfl)
theorem dX4_isDigit_17 : decode cX4_isDigit 17 = .ok (.ireturn, 1) := dk_172 (dk_at dksX4_isDigit_0 17 rfl rfl)
abbrev cX4_isSign : ByteArray := prog_23_method_8_code
def yX4_isSign : MethodName := ⟨RX4, "isSign", "(I)Z"⟩
def dkwX4_isSign_2 : List UInt8 := [26, 16, 42, 159, 0, 15, 26, 16, 47, 159, 0, 9, 26, 16, 37, 160, 0, 7, 4, 167, 0, 4, 3, 172]
abbrev dktX4_isSign_2 : List UInt8 := dkwX4_isSign_2 ++ []
def dkwX4_isSign_1 : List UInt8 := [26, 16, 62, 159, 0, 39, 26, 16, 61, 159, 0, 33, 26, 16, 43, 159, 0, 27, 26, 16, 45, 159, 0, 21]
abbrev dktX4_isSign_1 : List UInt8 := dkwX4_isSign_1 ++ dktX4_isSign_2
def dkwX4_isSign_0 : List UInt8 := [26, 16, 59, 159, 0, 63, 26, 16, 40, 159, 0, 57, 26, 16, 41, 159, 0, 51, 26, 16, 60, 159, 0, 45]
abbrev dktX4_isSign_0 : List UInt8 := dkwX4_isSign_0 ++ dktX4_isSign_1
theorem dksX4_isSign_0 : cX4_isSign.data.toList.drop 0 = dktX4_isSign_0 := by decide +kernel
theorem dksX4_isSign_1 : cX4_isSign.data.toList.drop 24 = dktX4_isSign_1 := dk_seg dksX4_isSign_0 24 rfl rfl
theorem dksX4_isSign_2 : cX4_isSign.data.toList.drop 48 = dktX4_isSign_2 := dk_seg dksX4_isSign_1 24 rfl rfl
theorem dX4_isSign_0 : decode cX4_isSign 0 = .ok (.iload_n 0, 1) := dk_26 (dk_at dksX4_isSign_0 0 rfl rfl)
theorem dX4_isSign_1 : decode cX4_isSign 1 = .ok (.bipush 59, 2) := dk_16 59 (dk_at dksX4_isSign_0 1 rfl rfl)
theorem dX4_isSign_3 : decode cX4_isSign 3 = .ok (.if_icmp .eq 63, 3) := dk_159 0 63 (dk_at dksX4_isSign_0 3 rfl rfl)
theorem dX4_isSign_6 : decode cX4_isSign 6 = .ok (.iload_n 0, 1) := dk_26 (dk_at dksX4_isSign_0 6 rfl rfl)
theorem dX4_isSign_7 : decode cX4_isSign 7 = .ok (.bipush 40, 2) := dk_16 40 (dk_at dksX4_isSign_0 7 rfl rfl)
theorem dX4_isSign_9 : decode cX4_isSign 9 = .ok (.if_icmp .eq 57, 3) := dk_159 0 57 (dk_at dksX4_isSign_0 9 rfl rfl)
theorem dX4_isSign_12 : decode cX4_isSign 12 = .ok (.iload_n 0, 1) := dk_26 (dk_at dksX4_isSign_0 12 rfl rfl)
theorem dX4_isSign_13 : decode cX4_isSign 13 = .ok (.bipush 41, 2) := dk_16 41 (dk_at dksX4_isSign_0 13 rfl rfl)
theorem dX4_isSign_15 : decode cX4_isSign 15 = .ok (.if_icmp .eq 51, 3) := dk_159 0 51 (dk_at dksX4_isSign_0 15 rfl rfl)
theorem dX4_isSign_18 : decode cX4_isSign 18 = .ok (.iload_n 0, 1) := dk_26 (dk_at dksX4_isSign_0 18 rfl rfl)
theorem dX4_isSign_19 : decode cX4_isSign 19 = .ok (.bipush 60, 2) := dk_16 60 (dk_at dksX4_isSign_0 19 rfl rfl)
theorem dX4_isSign_21 : decode cX4_isSign 21 = .ok (.if_icmp .eq 45, 3) := dk_159 0 45 (dk_at dksX4_isSign_0 21 rfl rfl)
theorem dX4_isSign_24 : decode cX4_isSign 24 = .ok (.iload_n 0, 1) := dk_26 (dk_at dksX4_isSign_1 0 rfl rfl)
theorem dX4_isSign_25 : decode cX4_isSign 25 = .ok (.bipush 62, 2) := dk_16 62 (dk_at dksX4_isSign_1 1 rfl rfl)
theorem dX4_isSign_27 : decode cX4_isSign 27 = .ok (.if_icmp .eq 39, 3) := dk_159 0 39 (dk_at dksX4_isSign_1 3 rfl rfl)
theorem dX4_isSign_30 : decode cX4_isSign 30 = .ok (.iload_n 0, 1) := dk_26 (dk_at dksX4_isSign_1 6 rfl rfl)
theorem dX4_isSign_31 : decode cX4_isSign 31 = .ok (.bipush 61, 2) := dk_16 61 (dk_at dksX4_isSign_1 7 rfl rfl)
theorem dX4_isSign_33 : decode cX4_isSign 33 = .ok (.if_icmp .eq 33, 3) := dk_159 0 33 (dk_at dksX4_isSign_1 9 rfl rfl)
theorem dX4_isSign_36 : decode cX4_isSign 36 = .ok (.iload_n 0, 1) := dk_26 (dk_at dksX4_isSign_1 12 rfl rfl)
theorem dX4_isSign_37 : decode cX4_isSign 37 = .ok (.bipush 43, 2) := dk_16 43 (dk_at dksX4_isSign_1 13 rfl rfl)
theorem dX4_isSign_39 : decode cX4_isSign 39 = .ok (.if_icmp .eq 27, 3) := dk_159 0 27 (dk_at dksX4_isSign_1 15 rfl rfl)
theorem dX4_isSign_42 : decode cX4_isSign 42 = .ok (.iload_n 0, 1) := dk_26 (dk_at dksX4_isSign_1 18 rfl rfl)
theorem dX4_isSign_43 : decode cX4_isSign 43 = .ok (.bipush 45, 2) := dk_16 45 (dk_at dksX4_isSign_1 19 rfl rfl)
theorem dX4_isSign_45 : decode cX4_isSign 45 = .ok (.if_icmp .eq 21, 3) := dk_159 0 21 (dk_at dksX4_isSign_1 21 rfl rfl)
theorem dX4_isSign_48 : decode cX4_isSign 48 = .ok (.iload_n 0, 1) := dk_26 (dk_at dksX4_isSign_2 0 rfl rfl)
theorem dX4_isSign_49 : decode cX4_isSign 49 = .ok (.bipush 42, 2) := dk_16 42 (dk_at dksX4_isSign_2 1 rfl rfl)
theorem dX4_isSign_51 : decode cX4_isSign 51 = .ok (.if_icmp .eq 15, 3) := dk_159 0 15 (dk_at dksX4_isSign_2 3 rfl rfl)
theorem dX4_isSign_54 : decode cX4_isSign 54 = .ok (.iload_n 0, 1) := dk_26 (dk_at dksX4_isSign_2 6 rfl rfl)
theorem dX4_isSign_55 : decode cX4_isSign 55 = .ok (.bipush 47, 2) := dk_16 47 (dk_at dksX4_isSign_2 7 rfl rfl)
theorem dX4_isSign_57 : decode cX4_isSign 57 = .ok (.if_icmp .eq 9, 3) := dk_159 0 9 (dk_at dksX4_isSign_2 9 rfl rfl)
theorem dX4_isSign_60 : decode cX4_isSign 60 = .ok (.iload_n 0, 1) := dk_26 (dk_at dksX4_isSign_2 12 rfl rfl)
theorem dX4_isSign_61 : decode cX4_isSign 61 = .ok (.bipush 37, 2) := dk_16 37 (dk_at dksX4_isSign_2 13 rfl rfl)
theorem dX4_isSign_63 : decode cX4_isSign 63 = .ok (.if_icmp .ne 7, 3) := dk_160 0 7 (dk_at dksX4_isSign_2 15 rfl rfl)
theorem dX4_isSign_66 : decode cX4_isSign 66 = .ok (.iconst 1, 1) := dk_4 (dk_at dksX4_isSign_2 18 rfl rfl)
theorem dX4_isSign_67 : decode cX4_isSign 67 = .ok (.goto 4, 3) := dk_167 0 4 (dk_at dksX4_isSign_2 19 rfl rfl)
theorem dX4_isSign_70 : decode cX4_isSign 70 = .ok (.iconst 0, 1) := dk_3 (dk_at dksX4_isSign_2 22 rfl rfl)
theorem dX4_isSign_71 : decode cX4_isSign 71 = .ok (.ireturn, 1) := dk_172 (dk_at dksX4_isSign_2 23 rfl rfl)
abbrev cX4_isGood : ByteArray := prog_23_method_6_code
def yX4_isGood : MethodName := ⟨RX4, "isGood", "()Z"⟩
def dkwX4_isGood_0 : List UInt8 := [42, 180, 0, 146, 154, 0, 7, 4, 167, 0, 4, 3, 172]
abbrev dktX4_isGood_0 : List UInt8 := dkwX4_isGood_0 ++ []
theorem dksX4_isGood_0 : cX4_isGood.data.toList.drop 0 = dktX4_isGood_0 := by decide +kernel
theorem dX4_isGood_0 : decode cX4_isGood 0 = .ok (.aload_n 0, 1) := dk_42 (dk_at dksX4_isGood_0 0 rfl rfl)
theorem dX4_isGood_1 : decode cX4_isGood 1 = .ok (.getfield 146, 3) := dk_180 0 146 (dk_at dksX4_isGood_0 1 rfl rfl)
theorem dX4_isGood_4 : decode cX4_isGood 4 = .ok (.ifCond .ne 7, 3) := dk_154 0 7 (dk_at dksX4_isGood_0 4 rfl rfl)
theorem dX4_isGood_7 : decode cX4_isGood 7 = .ok (.iconst 1, 1) := dk_4 (dk_at dksX4_isGood_0 7 rfl rfl)
theorem dX4_isGood_8 : decode cX4_isGood 8 = .ok (.goto 4, 3) := dk_167 0 4 (dk_at dksX4_isGood_0 8 rfl rfl)
theorem dX4_isGood_11 : decode cX4_isGood 11 = .ok (.iconst 0, 1) := dk_3 (dk_at dksX4_isGood_0 11 rfl rfl)
theorem dX4_isGood_12 : decode cX4_isGood 12 = .ok (.ireturn, 1) := dk_172 (dk_at dksX4_isGood_0 12 rfl rfl)
abbrev cX4_readLine : ByteArray := prog_23_method_19_code
def yX4_readLine : MethodName := ⟨RX4, "readLine", "()V"⟩
def dkwX4_readLine_12 : List UInt8 := [17, 3, 231, 182, 0, 240, 79, 42, 42, 16, 59, 182, 1, 31, 182, 0, 236, 177]
abbrev dktX4_readLine_12 : List UInt8 := dkwX4_readLine_12 ++ []
def dkwX4_readLine_11 : List UInt8 := [42, 180, 0, 39, 42, 180, 0, 244, 92, 46, 7, 128, 79, 42, 180, 0, 36, 42, 180, 0, 244, 42, 3]
abbrev dktX4_readLine_11 : List UInt8 := dkwX4_readLine_11 ++ dktX4_readLine_12
def dkwX4_readLine_10 : List UInt8 := [42, 180, 0, 33, 42, 180, 0, 244, 42, 3, 16, 100, 182, 0, 240, 79, 31, 20, 0, 169, 148, 154, 0, 33]
abbrev dktX4_readLine_10 : List UInt8 := dkwX4_readLine_10 ++ dktX4_readLine_11
def dkwX4_readLine_9 : List UInt8 := [182, 1, 28, 31, 20, 0, 167, 148, 154, 0, 32, 42, 180, 0, 39, 42, 180, 0, 244, 92, 46, 5, 128, 79]
abbrev dktX4_readLine_9 : List UInt8 := dkwX4_readLine_9 ++ dktX4_readLine_10
def dkwX4_readLine_8 : List UInt8 := [4, 96, 79, 31, 20, 0, 155, 148, 154, 0, 7, 42, 182, 1, 25, 31, 20, 0, 165, 148, 154, 0, 7, 42]
abbrev dktX4_readLine_8 : List UInt8 := dkwX4_readLine_8 ++ dktX4_readLine_9
def dkwX4_readLine_7 : List UInt8 := [180, 0, 244, 46, 96, 42, 42, 182, 1, 22, 182, 1, 14, 80, 42, 180, 0, 24, 42, 180, 0, 244, 92, 46]
abbrev dktX4_readLine_7 : List UInt8 := dkwX4_readLine_7 ++ dktX4_readLine_8
def dkwX4_readLine_6 : List UInt8 := [20, 0, 153, 148, 154, 0, 45, 42, 180, 0, 67, 8, 42, 180, 0, 244, 104, 42, 180, 0, 24, 42]
abbrev dktX4_readLine_6 : List UInt8 := dkwX4_readLine_6 ++ dktX4_readLine_7
def dkwX4_readLine_5 : List UInt8 := [16, 9, 182, 1, 18, 167, 0, 4, 3, 79, 42, 180, 0, 20, 42, 180, 0, 244, 92, 46, 4, 96, 79, 31]
abbrev dktX4_readLine_5 : List UInt8 := dkwX4_readLine_5 ++ dktX4_readLine_6
def dkwX4_readLine_4 : List UInt8 := [96, 42, 182, 0, 223, 153, 0, 26, 42, 20, 0, 151, 182, 0, 233, 153, 0, 16, 42, 20, 0, 151, 3]
abbrev dktX4_readLine_4 : List UInt8 := dkwX4_readLine_4 ++ dktX4_readLine_5
def dkwX4_readLine_3 : List UInt8 := [182, 1, 14, 80, 42, 180, 0, 42, 16, 6, 42, 180, 0, 244, 104, 42, 180, 0, 20, 42, 180, 0, 244, 46]
abbrev dktX4_readLine_3 : List UInt8 := dkwX4_readLine_3 ++ dktX4_readLine_4
def dkwX4_readLine_2 : List UInt8 := [16, 6, 42, 180, 0, 244, 104, 42, 180, 0, 20, 42, 180, 0, 244, 46, 96, 42, 42, 182, 1, 10]
abbrev dktX4_readLine_2 : List UInt8 := dkwX4_readLine_2 ++ dktX4_readLine_3
def dkwX4_readLine_1 : List UInt8 := [42, 182, 0, 223, 154, 0, 4, 177, 42, 182, 0, 227, 31, 20, 0, 149, 148, 154, 0, 99, 42, 180, 0, 63]
abbrev dktX4_readLine_1 : List UInt8 := dkwX4_readLine_1 ++ dktX4_readLine_2
def dkwX4_readLine_0 : List UInt8 := [42, 180, 0, 202, 64, 42, 180, 0, 195, 6, 160, 0, 10, 42, 182, 1, 7, 153, 0, 7, 42, 182, 0, 230]
abbrev dktX4_readLine_0 : List UInt8 := dkwX4_readLine_0 ++ dktX4_readLine_1
theorem dksX4_readLine_0 : cX4_readLine.data.toList.drop 0 = dktX4_readLine_0 := by decide +kernel
theorem dksX4_readLine_1 : cX4_readLine.data.toList.drop 24 = dktX4_readLine_1 := dk_seg dksX4_readLine_0 24 rfl rfl
theorem dksX4_readLine_2 : cX4_readLine.data.toList.drop 48 = dktX4_readLine_2 := dk_seg dksX4_readLine_1 24 rfl rfl
theorem dksX4_readLine_3 : cX4_readLine.data.toList.drop 70 = dktX4_readLine_3 := dk_seg dksX4_readLine_2 22 rfl rfl
theorem dksX4_readLine_4 : cX4_readLine.data.toList.drop 94 = dktX4_readLine_4 := dk_seg dksX4_readLine_3 24 rfl rfl
theorem dksX4_readLine_5 : cX4_readLine.data.toList.drop 117 = dktX4_readLine_5 := dk_seg dksX4_readLine_4 23 rfl rfl
theorem dksX4_readLine_6 : cX4_readLine.data.toList.drop 141 = dktX4_readLine_6 := dk_seg dksX4_readLine_5 24 rfl rfl
theorem dksX4_readLine_7 : cX4_readLine.data.toList.drop 163 = dktX4_readLine_7 := dk_seg dksX4_readLine_6 22 rfl rfl
theorem dksX4_readLine_8 : cX4_readLine.data.toList.drop 187 = dktX4_readLine_8 := dk_seg dksX4_readLine_7 24 rfl rfl
theorem dksX4_readLine_9 : cX4_readLine.data.toList.drop 211 = dktX4_readLine_9 := dk_seg dksX4_readLine_8 24 rfl rfl
theorem dksX4_readLine_10 : cX4_readLine.data.toList.drop 235 = dktX4_readLine_10 := dk_seg dksX4_readLine_9 24 rfl rfl
theorem dksX4_readLine_11 : cX4_readLine.data.toList.drop 259 = dktX4_readLine_11 := dk_seg dksX4_readLine_10 24 rfl rfl
theorem dksX4_readLine_12 : cX4_readLine.data.toList.drop 282 = dktX4_readLine_12 := dk_seg dksX4_readLine_11 23 rfl rfl
theorem dX4_readLine_0 : decode cX4_readLine 0 = .ok (.aload_n 0, 1) := dk_42 (dk_at dksX4_readLine_0 0 rfl rfl)
theorem dX4_readLine_1 : decode cX4_readLine 1 = .ok (.getfield 202, 3) := dk_180 0 202 (dk_at dksX4_readLine_0 1 rfl rfl)
theorem dX4_readLine_4 : decode cX4_readLine 4 = .ok (.lstore_n 1, 1) := dk_64 (dk_at dksX4_readLine_0 4 rfl rfl)
theorem dX4_readLine_5 : decode cX4_readLine 5 = .ok (.aload_n 0, 1) := dk_42 (dk_at dksX4_readLine_0 5 rfl rfl)
theorem dX4_readLine_6 : decode cX4_readLine 6 = .ok (.getfield 195, 3) := dk_180 0 195 (dk_at dksX4_readLine_0 6 rfl rfl)
theorem dX4_readLine_9 : decode cX4_readLine 9 = .ok (.iconst 3, 1) := dk_6 (dk_at dksX4_readLine_0 9 rfl rfl)
theorem dX4_readLine_10 : decode cX4_readLine 10 = .ok (.if_icmp .ne 10, 3) := dk_160 0 10 (dk_at dksX4_readLine_0 10 rfl rfl)
theorem dX4_readLine_13 : decode cX4_readLine 13 = .ok (.aload_n 0, 1) := dk_42 (dk_at dksX4_readLine_0 13 rfl rfl)
theorem dX4_readLine_14 : decode cX4_readLine 14 = .ok (.invokevirtual 263, 3) := dk_182 1 7 (dk_at dksX4_readLine_0 14 rfl rfl)
theorem dX4_readLine_17 : decode cX4_readLine 17 = .ok (.ifCond .eq 7, 3) := dk_153 0 7 (dk_at dksX4_readLine_0 17 rfl rfl)
theorem dX4_readLine_20 : decode cX4_readLine 20 = .ok (.aload_n 0, 1) := dk_42 (dk_at dksX4_readLine_0 20 rfl rfl)
theorem dX4_readLine_21 : decode cX4_readLine 21 = .ok (.invokevirtual 230, 3) := dk_182 0 230 (dk_at dksX4_readLine_0 21 rfl rfl)
theorem dX4_readLine_24 : decode cX4_readLine 24 = .ok (.aload_n 0, 1) := dk_42 (dk_at dksX4_readLine_1 0 rfl rfl)
theorem dX4_readLine_25 : decode cX4_readLine 25 = .ok (.invokevirtual 223, 3) := dk_182 0 223 (dk_at dksX4_readLine_1 1 rfl rfl)
theorem dX4_readLine_28 : decode cX4_readLine 28 = .ok (.ifCond .ne 4, 3) := dk_154 0 4 (dk_at dksX4_readLine_1 4 rfl rfl)
theorem dX4_readLine_31 : decode cX4_readLine 31 = .ok (.return_, 1) := dk_177 (dk_at dksX4_readLine_1 7 rfl rfl)
theorem dX4_readLine_32 : decode cX4_readLine 32 = .ok (.aload_n 0, 1) := dk_42 (dk_at dksX4_readLine_1 8 rfl rfl)
theorem dX4_readLine_33 : decode cX4_readLine 33 = .ok (.invokevirtual 227, 3) := dk_182 0 227 (dk_at dksX4_readLine_1 9 rfl rfl)
theorem dX4_readLine_36 : decode cX4_readLine 36 = .ok (.lload_n 1, 1) := dk_31 (dk_at dksX4_readLine_1 12 rfl rfl)
theorem dX4_readLine_37 : decode cX4_readLine 37 = .ok (.ldc2_w 149, 3) := dk_20 0 149 (dk_at dksX4_readLine_1 13 rfl rfl)
theorem dX4_readLine_40 : decode cX4_readLine 40 = .ok (.lcmp, 1) := dk_148 (dk_at dksX4_readLine_1 16 rfl rfl)
theorem dX4_readLine_41 : decode cX4_readLine 41 = .ok (.ifCond .ne 99, 3) := dk_154 0 99 (dk_at dksX4_readLine_1 17 rfl rfl)
theorem dX4_readLine_44 : decode cX4_readLine 44 = .ok (.aload_n 0, 1) := dk_42 (dk_at dksX4_readLine_1 20 rfl rfl)
theorem dX4_readLine_45 : decode cX4_readLine 45 = .ok (.getfield 63, 3) := dk_180 0 63 (dk_at dksX4_readLine_1 21 rfl rfl)
theorem dX4_readLine_48 : decode cX4_readLine 48 = .ok (.bipush 6, 2) := dk_16 6 (dk_at dksX4_readLine_2 0 rfl rfl)
theorem dX4_readLine_50 : decode cX4_readLine 50 = .ok (.aload_n 0, 1) := dk_42 (dk_at dksX4_readLine_2 2 rfl rfl)
theorem dX4_readLine_51 : decode cX4_readLine 51 = .ok (.getfield 244, 3) := dk_180 0 244 (dk_at dksX4_readLine_2 3 rfl rfl)
theorem dX4_readLine_54 : decode cX4_readLine 54 = .ok (.imul, 1) := dk_104 (dk_at dksX4_readLine_2 6 rfl rfl)
theorem dX4_readLine_55 : decode cX4_readLine 55 = .ok (.aload_n 0, 1) := dk_42 (dk_at dksX4_readLine_2 7 rfl rfl)
theorem dX4_readLine_56 : decode cX4_readLine 56 = .ok (.getfield 20, 3) := dk_180 0 20 (dk_at dksX4_readLine_2 8 rfl rfl)
theorem dX4_readLine_59 : decode cX4_readLine 59 = .ok (.aload_n 0, 1) := dk_42 (dk_at dksX4_readLine_2 11 rfl rfl)
theorem dX4_readLine_60 : decode cX4_readLine 60 = .ok (.getfield 244, 3) := dk_180 0 244 (dk_at dksX4_readLine_2 12 rfl rfl)
theorem dX4_readLine_63 : decode cX4_readLine 63 = .ok (.iaload, 1) := dk_46 (dk_at dksX4_readLine_2 15 rfl rfl)
theorem dX4_readLine_64 : decode cX4_readLine 64 = .ok (.iadd, 1) := dk_96 (dk_at dksX4_readLine_2 16 rfl rfl)
theorem dX4_readLine_65 : decode cX4_readLine 65 = .ok (.aload_n 0, 1) := dk_42 (dk_at dksX4_readLine_2 17 rfl rfl)
theorem dX4_readLine_66 : decode cX4_readLine 66 = .ok (.aload_n 0, 1) := dk_42 (dk_at dksX4_readLine_2 18 rfl rfl)
theorem dX4_readLine_67 : decode cX4_readLine 67 = .ok (.invokevirtual 266, 3) := dk_182 1 10 (dk_at dksX4_readLine_2 19 rfl rfl)
theorem dX4_readLine_70 : decode cX4_readLine 70 = .ok (.invokevirtual 270, 3) := dk_182 1 14 (dk_at dksX4_readLine_3 0 rfl rfl)
theorem dX4_readLine_73 : decode cX4_readLine 73 = .ok (.lastore, 1) := dk_80 (dk_at dksX4_readLine_3 3 rfl rfl)
theorem dX4_readLine_74 : decode cX4_readLine 74 = .ok (.aload_n 0, 1) := dk_42 (dk_at dksX4_readLine_3 4 rfl rfl)
theorem dX4_readLine_75 : decode cX4_readLine 75 = .ok (.getfield 42, 3) := dk_180 0 42 (dk_at dksX4_readLine_3 5 rfl rfl)
theorem dX4_readLine_78 : decode cX4_readLine 78 = .ok (.bipush 6, 2) := dk_16 6 (dk_at dksX4_readLine_3 8 rfl rfl)
theorem dX4_readLine_80 : decode cX4_readLine 80 = .ok (.aload_n 0, 1) := dk_42 (dk_at dksX4_readLine_3 10 rfl rfl)
theorem dX4_readLine_81 : decode cX4_readLine 81 = .ok (.getfield 244, 3) := dk_180 0 244 (dk_at dksX4_readLine_3 11 rfl rfl)
theorem dX4_readLine_84 : decode cX4_readLine 84 = .ok (.imul, 1) := dk_104 (dk_at dksX4_readLine_3 14 rfl rfl)
theorem dX4_readLine_85 : decode cX4_readLine 85 = .ok (.aload_n 0, 1) := dk_42 (dk_at dksX4_readLine_3 15 rfl rfl)
theorem dX4_readLine_86 : decode cX4_readLine 86 = .ok (.getfield 20, 3) := dk_180 0 20 (dk_at dksX4_readLine_3 16 rfl rfl)
theorem dX4_readLine_89 : decode cX4_readLine 89 = .ok (.aload_n 0, 1) := dk_42 (dk_at dksX4_readLine_3 19 rfl rfl)
theorem dX4_readLine_90 : decode cX4_readLine 90 = .ok (.getfield 244, 3) := dk_180 0 244 (dk_at dksX4_readLine_3 20 rfl rfl)
theorem dX4_readLine_93 : decode cX4_readLine 93 = .ok (.iaload, 1) := dk_46 (dk_at dksX4_readLine_3 23 rfl rfl)
theorem dX4_readLine_94 : decode cX4_readLine 94 = .ok (.iadd, 1) := dk_96 (dk_at dksX4_readLine_4 0 rfl rfl)
theorem dX4_readLine_95 : decode cX4_readLine 95 = .ok (.aload_n 0, 1) := dk_42 (dk_at dksX4_readLine_4 1 rfl rfl)
theorem dX4_readLine_96 : decode cX4_readLine 96 = .ok (.invokevirtual 223, 3) := dk_182 0 223 (dk_at dksX4_readLine_4 2 rfl rfl)
theorem dX4_readLine_99 : decode cX4_readLine 99 = .ok (.ifCond .eq 26, 3) := dk_153 0 26 (dk_at dksX4_readLine_4 5 rfl rfl)
theorem dX4_readLine_102 : decode cX4_readLine 102 = .ok (.aload_n 0, 1) := dk_42 (dk_at dksX4_readLine_4 8 rfl rfl)
theorem dX4_readLine_103 : decode cX4_readLine 103 = .ok (.ldc2_w 151, 3) := dk_20 0 151 (dk_at dksX4_readLine_4 9 rfl rfl)
theorem dX4_readLine_106 : decode cX4_readLine 106 = .ok (.invokevirtual 233, 3) := dk_182 0 233 (dk_at dksX4_readLine_4 12 rfl rfl)
theorem dX4_readLine_109 : decode cX4_readLine 109 = .ok (.ifCond .eq 16, 3) := dk_153 0 16 (dk_at dksX4_readLine_4 15 rfl rfl)
theorem dX4_readLine_112 : decode cX4_readLine 112 = .ok (.aload_n 0, 1) := dk_42 (dk_at dksX4_readLine_4 18 rfl rfl)
theorem dX4_readLine_113 : decode cX4_readLine 113 = .ok (.ldc2_w 151, 3) := dk_20 0 151 (dk_at dksX4_readLine_4 19 rfl rfl)
theorem dX4_readLine_116 : decode cX4_readLine 116 = .ok (.iconst 0, 1) := dk_3 (dk_at dksX4_readLine_4 22 rfl rfl)
theorem dX4_readLine_117 : decode cX4_readLine 117 = .ok (.bipush 9, 2) := dk_16 9 (dk_at dksX4_readLine_5 0 rfl rfl)
theorem dX4_readLine_119 : decode cX4_readLine 119 = .ok (.invokevirtual 274, 3) := dk_182 1 18 (dk_at dksX4_readLine_5 2 rfl rfl)
theorem dX4_readLine_122 : decode cX4_readLine 122 = .ok (.goto 4, 3) := dk_167 0 4 (dk_at dksX4_readLine_5 5 rfl rfl)
theorem dX4_readLine_125 : decode cX4_readLine 125 = .ok (.iconst 0, 1) := dk_3 (dk_at dksX4_readLine_5 8 rfl rfl)
theorem dX4_readLine_126 : decode cX4_readLine 126 = .ok (.iastore, 1) := dk_79 (dk_at dksX4_readLine_5 9 rfl rfl)
theorem dX4_readLine_127 : decode cX4_readLine 127 = .ok (.aload_n 0, 1) := dk_42 (dk_at dksX4_readLine_5 10 rfl rfl)
theorem dX4_readLine_128 : decode cX4_readLine 128 = .ok (.getfield 20, 3) := dk_180 0 20 (dk_at dksX4_readLine_5 11 rfl rfl)
theorem dX4_readLine_131 : decode cX4_readLine 131 = .ok (.aload_n 0, 1) := dk_42 (dk_at dksX4_readLine_5 14 rfl rfl)
theorem dX4_readLine_132 : decode cX4_readLine 132 = .ok (.getfield 244, 3) := dk_180 0 244 (dk_at dksX4_readLine_5 15 rfl rfl)
theorem dX4_readLine_135 : decode cX4_readLine 135 = .ok (.dup2, 1) := dk_92 (dk_at dksX4_readLine_5 18 rfl rfl)
theorem dX4_readLine_136 : decode cX4_readLine 136 = .ok (.iaload, 1) := dk_46 (dk_at dksX4_readLine_5 19 rfl rfl)
theorem dX4_readLine_137 : decode cX4_readLine 137 = .ok (.iconst 1, 1) := dk_4 (dk_at dksX4_readLine_5 20 rfl rfl)
theorem dX4_readLine_138 : decode cX4_readLine 138 = .ok (.iadd, 1) := dk_96 (dk_at dksX4_readLine_5 21 rfl rfl)
theorem dX4_readLine_139 : decode cX4_readLine 139 = .ok (.iastore, 1) := dk_79 (dk_at dksX4_readLine_5 22 rfl rfl)
theorem dX4_readLine_140 : decode cX4_readLine 140 = .ok (.lload_n 1, 1) := dk_31 (dk_at dksX4_readLine_5 23 rfl rfl)
theorem dX4_readLine_141 : decode cX4_readLine 141 = .ok (.ldc2_w 153, 3) := dk_20 0 153 (dk_at dksX4_readLine_6 0 rfl rfl)
theorem dX4_readLine_144 : decode cX4_readLine 144 = .ok (.lcmp, 1) := dk_148 (dk_at dksX4_readLine_6 3 rfl rfl)
theorem dX4_readLine_145 : decode cX4_readLine 145 = .ok (.ifCond .ne 45, 3) := dk_154 0 45 (dk_at dksX4_readLine_6 4 rfl rfl)
theorem dX4_readLine_148 : decode cX4_readLine 148 = .ok (.aload_n 0, 1) := dk_42 (dk_at dksX4_readLine_6 7 rfl rfl)
theorem dX4_readLine_149 : decode cX4_readLine 149 = .ok (.getfield 67, 3) := dk_180 0 67 (dk_at dksX4_readLine_6 8 rfl rfl)
theorem dX4_readLine_152 : decode cX4_readLine 152 = .ok (.iconst 5, 1) := dk_8 (dk_at dksX4_readLine_6 11 rfl rfl)
theorem dX4_readLine_153 : decode cX4_readLine 153 = .ok (.aload_n 0, 1) := dk_42 (dk_at dksX4_readLine_6 12 rfl rfl)
theorem dX4_readLine_154 : decode cX4_readLine 154 = .ok (.getfield 244, 3) := dk_180 0 244 (dk_at dksX4_readLine_6 13 rfl rfl)
theorem dX4_readLine_157 : decode cX4_readLine 157 = .ok (.imul, 1) := dk_104 (dk_at dksX4_readLine_6 16 rfl rfl)
theorem dX4_readLine_158 : decode cX4_readLine 158 = .ok (.aload_n 0, 1) := dk_42 (dk_at dksX4_readLine_6 17 rfl rfl)
theorem dX4_readLine_159 : decode cX4_readLine 159 = .ok (.getfield 24, 3) := dk_180 0 24 (dk_at dksX4_readLine_6 18 rfl rfl)
theorem dX4_readLine_162 : decode cX4_readLine 162 = .ok (.aload_n 0, 1) := dk_42 (dk_at dksX4_readLine_6 21 rfl rfl)
theorem dX4_readLine_163 : decode cX4_readLine 163 = .ok (.getfield 244, 3) := dk_180 0 244 (dk_at dksX4_readLine_7 0 rfl rfl)
theorem dX4_readLine_166 : decode cX4_readLine 166 = .ok (.iaload, 1) := dk_46 (dk_at dksX4_readLine_7 3 rfl rfl)
theorem dX4_readLine_167 : decode cX4_readLine 167 = .ok (.iadd, 1) := dk_96 (dk_at dksX4_readLine_7 4 rfl rfl)
theorem dX4_readLine_168 : decode cX4_readLine 168 = .ok (.aload_n 0, 1) := dk_42 (dk_at dksX4_readLine_7 5 rfl rfl)
theorem dX4_readLine_169 : decode cX4_readLine 169 = .ok (.aload_n 0, 1) := dk_42 (dk_at dksX4_readLine_7 6 rfl rfl)
theorem dX4_readLine_170 : decode cX4_readLine 170 = .ok (.invokevirtual 278, 3) := dk_182 1 22 (dk_at dksX4_readLine_7 7 rfl rfl)
theorem dX4_readLine_173 : decode cX4_readLine 173 = .ok (.invokevirtual 270, 3) := dk_182 1 14 (dk_at dksX4_readLine_7 10 rfl rfl)
theorem dX4_readLine_176 : decode cX4_readLine 176 = .ok (.lastore, 1) := dk_80 (dk_at dksX4_readLine_7 13 rfl rfl)
theorem dX4_readLine_177 : decode cX4_readLine 177 = .ok (.aload_n 0, 1) := dk_42 (dk_at dksX4_readLine_7 14 rfl rfl)
theorem dX4_readLine_178 : decode cX4_readLine 178 = .ok (.getfield 24, 3) := dk_180 0 24 (dk_at dksX4_readLine_7 15 rfl rfl)
theorem dX4_readLine_181 : decode cX4_readLine 181 = .ok (.aload_n 0, 1) := dk_42 (dk_at dksX4_readLine_7 18 rfl rfl)
theorem dX4_readLine_182 : decode cX4_readLine 182 = .ok (.getfield 244, 3) := dk_180 0 244 (dk_at dksX4_readLine_7 19 rfl rfl)
theorem dX4_readLine_185 : decode cX4_readLine 185 = .ok (.dup2, 1) := dk_92 (dk_at dksX4_readLine_7 22 rfl rfl)
theorem dX4_readLine_186 : decode cX4_readLine 186 = .ok (.iaload, 1) := dk_46 (dk_at dksX4_readLine_7 23 rfl rfl)
theorem dX4_readLine_187 : decode cX4_readLine 187 = .ok (.iconst 1, 1) := dk_4 (dk_at dksX4_readLine_8 0 rfl rfl)
theorem dX4_readLine_188 : decode cX4_readLine 188 = .ok (.iadd, 1) := dk_96 (dk_at dksX4_readLine_8 1 rfl rfl)
theorem dX4_readLine_189 : decode cX4_readLine 189 = .ok (.iastore, 1) := dk_79 (dk_at dksX4_readLine_8 2 rfl rfl)
theorem dX4_readLine_190 : decode cX4_readLine 190 = .ok (.lload_n 1, 1) := dk_31 (dk_at dksX4_readLine_8 3 rfl rfl)
theorem dX4_readLine_191 : decode cX4_readLine 191 = .ok (.ldc2_w 155, 3) := dk_20 0 155 (dk_at dksX4_readLine_8 4 rfl rfl)
theorem dX4_readLine_194 : decode cX4_readLine 194 = .ok (.lcmp, 1) := dk_148 (dk_at dksX4_readLine_8 7 rfl rfl)
theorem dX4_readLine_195 : decode cX4_readLine 195 = .ok (.ifCond .ne 7, 3) := dk_154 0 7 (dk_at dksX4_readLine_8 8 rfl rfl)
theorem dX4_readLine_198 : decode cX4_readLine 198 = .ok (.aload_n 0, 1) := dk_42 (dk_at dksX4_readLine_8 11 rfl rfl)
theorem dX4_readLine_199 : decode cX4_readLine 199 = .ok (.invokevirtual 281, 3) := dk_182 1 25 (dk_at dksX4_readLine_8 12 rfl rfl)
theorem dX4_readLine_202 : decode cX4_readLine 202 = .ok (.lload_n 1, 1) := dk_31 (dk_at dksX4_readLine_8 15 rfl rfl)
theorem dX4_readLine_203 : decode cX4_readLine 203 = .ok (.ldc2_w 165, 3) := dk_20 0 165 (dk_at dksX4_readLine_8 16 rfl rfl)
theorem dX4_readLine_206 : decode cX4_readLine 206 = .ok (.lcmp, 1) := dk_148 (dk_at dksX4_readLine_8 19 rfl rfl)
theorem dX4_readLine_207 : decode cX4_readLine 207 = .ok (.ifCond .ne 7, 3) := dk_154 0 7 (dk_at dksX4_readLine_8 20 rfl rfl)
theorem dX4_readLine_210 : decode cX4_readLine 210 = .ok (.aload_n 0, 1) := dk_42 (dk_at dksX4_readLine_8 23 rfl rfl)
theorem dX4_readLine_211 : decode cX4_readLine 211 = .ok (.invokevirtual 284, 3) := dk_182 1 28 (dk_at dksX4_readLine_9 0 rfl rfl)
theorem dX4_readLine_214 : decode cX4_readLine 214 = .ok (.lload_n 1, 1) := dk_31 (dk_at dksX4_readLine_9 3 rfl rfl)
theorem dX4_readLine_215 : decode cX4_readLine 215 = .ok (.ldc2_w 167, 3) := dk_20 0 167 (dk_at dksX4_readLine_9 4 rfl rfl)
theorem dX4_readLine_218 : decode cX4_readLine 218 = .ok (.lcmp, 1) := dk_148 (dk_at dksX4_readLine_9 7 rfl rfl)
theorem dX4_readLine_219 : decode cX4_readLine 219 = .ok (.ifCond .ne 32, 3) := dk_154 0 32 (dk_at dksX4_readLine_9 8 rfl rfl)
theorem dX4_readLine_222 : decode cX4_readLine 222 = .ok (.aload_n 0, 1) := dk_42 (dk_at dksX4_readLine_9 11 rfl rfl)
theorem dX4_readLine_223 : decode cX4_readLine 223 = .ok (.getfield 39, 3) := dk_180 0 39 (dk_at dksX4_readLine_9 12 rfl rfl)
theorem dX4_readLine_226 : decode cX4_readLine 226 = .ok (.aload_n 0, 1) := dk_42 (dk_at dksX4_readLine_9 15 rfl rfl)
theorem dX4_readLine_227 : decode cX4_readLine 227 = .ok (.getfield 244, 3) := dk_180 0 244 (dk_at dksX4_readLine_9 16 rfl rfl)
theorem dX4_readLine_230 : decode cX4_readLine 230 = .ok (.dup2, 1) := dk_92 (dk_at dksX4_readLine_9 19 rfl rfl)
theorem dX4_readLine_231 : decode cX4_readLine 231 = .ok (.iaload, 1) := dk_46 (dk_at dksX4_readLine_9 20 rfl rfl)
theorem dX4_readLine_232 : decode cX4_readLine 232 = .ok (.iconst 2, 1) := dk_5 (dk_at dksX4_readLine_9 21 rfl rfl)
theorem dX4_readLine_233 : decode cX4_readLine 233 = .ok (.ior, 1) := dk_128 (dk_at dksX4_readLine_9 22 rfl rfl)
theorem dX4_readLine_234 : decode cX4_readLine 234 = .ok (.iastore, 1) := dk_79 (dk_at dksX4_readLine_9 23 rfl rfl)
theorem dX4_readLine_235 : decode cX4_readLine 235 = .ok (.aload_n 0, 1) := dk_42 (dk_at dksX4_readLine_10 0 rfl rfl)
theorem dX4_readLine_236 : decode cX4_readLine 236 = .ok (.getfield 33, 3) := dk_180 0 33 (dk_at dksX4_readLine_10 1 rfl rfl)
theorem dX4_readLine_239 : decode cX4_readLine 239 = .ok (.aload_n 0, 1) := dk_42 (dk_at dksX4_readLine_10 4 rfl rfl)
theorem dX4_readLine_240 : decode cX4_readLine 240 = .ok (.getfield 244, 3) := dk_180 0 244 (dk_at dksX4_readLine_10 5 rfl rfl)
theorem dX4_readLine_243 : decode cX4_readLine 243 = .ok (.aload_n 0, 1) := dk_42 (dk_at dksX4_readLine_10 8 rfl rfl)
theorem dX4_readLine_244 : decode cX4_readLine 244 = .ok (.iconst 0, 1) := dk_3 (dk_at dksX4_readLine_10 9 rfl rfl)
theorem dX4_readLine_245 : decode cX4_readLine 245 = .ok (.bipush 100, 2) := dk_16 100 (dk_at dksX4_readLine_10 10 rfl rfl)
theorem dX4_readLine_247 : decode cX4_readLine 247 = .ok (.invokevirtual 240, 3) := dk_182 0 240 (dk_at dksX4_readLine_10 12 rfl rfl)
theorem dX4_readLine_250 : decode cX4_readLine 250 = .ok (.iastore, 1) := dk_79 (dk_at dksX4_readLine_10 15 rfl rfl)
theorem dX4_readLine_251 : decode cX4_readLine 251 = .ok (.lload_n 1, 1) := dk_31 (dk_at dksX4_readLine_10 16 rfl rfl)
theorem dX4_readLine_252 : decode cX4_readLine 252 = .ok (.ldc2_w 169, 3) := dk_20 0 169 (dk_at dksX4_readLine_10 17 rfl rfl)
theorem dX4_readLine_255 : decode cX4_readLine 255 = .ok (.lcmp, 1) := dk_148 (dk_at dksX4_readLine_10 20 rfl rfl)
theorem dX4_readLine_256 : decode cX4_readLine 256 = .ok (.ifCond .ne 33, 3) := dk_154 0 33 (dk_at dksX4_readLine_10 21 rfl rfl)
theorem dX4_readLine_259 : decode cX4_readLine 259 = .ok (.aload_n 0, 1) := dk_42 (dk_at dksX4_readLine_11 0 rfl rfl)
theorem dX4_readLine_260 : decode cX4_readLine 260 = .ok (.getfield 39, 3) := dk_180 0 39 (dk_at dksX4_readLine_11 1 rfl rfl)
theorem dX4_readLine_263 : decode cX4_readLine 263 = .ok (.aload_n 0, 1) := dk_42 (dk_at dksX4_readLine_11 4 rfl rfl)
theorem dX4_readLine_264 : decode cX4_readLine 264 = .ok (.getfield 244, 3) := dk_180 0 244 (dk_at dksX4_readLine_11 5 rfl rfl)
theorem dX4_readLine_267 : decode cX4_readLine 267 = .ok (.dup2, 1) := dk_92 (dk_at dksX4_readLine_11 8 rfl rfl)
theorem dX4_readLine_268 : decode cX4_readLine 268 = .ok (.iaload, 1) := dk_46 (dk_at dksX4_readLine_11 9 rfl rfl)
theorem dX4_readLine_269 : decode cX4_readLine 269 = .ok (.iconst 4, 1) := dk_7 (dk_at dksX4_readLine_11 10 rfl rfl)
theorem dX4_readLine_270 : decode cX4_readLine 270 = .ok (.ior, 1) := dk_128 (dk_at dksX4_readLine_11 11 rfl rfl)
theorem dX4_readLine_271 : decode cX4_readLine 271 = .ok (.iastore, 1) := dk_79 (dk_at dksX4_readLine_11 12 rfl rfl)
theorem dX4_readLine_272 : decode cX4_readLine 272 = .ok (.aload_n 0, 1) := dk_42 (dk_at dksX4_readLine_11 13 rfl rfl)
theorem dX4_readLine_273 : decode cX4_readLine 273 = .ok (.getfield 36, 3) := dk_180 0 36 (dk_at dksX4_readLine_11 14 rfl rfl)
theorem dX4_readLine_276 : decode cX4_readLine 276 = .ok (.aload_n 0, 1) := dk_42 (dk_at dksX4_readLine_11 17 rfl rfl)
theorem dX4_readLine_277 : decode cX4_readLine 277 = .ok (.getfield 244, 3) := dk_180 0 244 (dk_at dksX4_readLine_11 18 rfl rfl)
theorem dX4_readLine_280 : decode cX4_readLine 280 = .ok (.aload_n 0, 1) := dk_42 (dk_at dksX4_readLine_11 21 rfl rfl)
theorem dX4_readLine_281 : decode cX4_readLine 281 = .ok (.iconst 0, 1) := dk_3 (dk_at dksX4_readLine_11 22 rfl rfl)
theorem dX4_readLine_282 : decode cX4_readLine 282 = .ok (.sipush 999, 3) := dk_17 3 231 (dk_at dksX4_readLine_12 0 rfl rfl)
theorem dX4_readLine_285 : decode cX4_readLine 285 = .ok (.invokevirtual 240, 3) := dk_182 0 240 (dk_at dksX4_readLine_12 3 rfl rfl)
theorem dX4_readLine_288 : decode cX4_readLine 288 = .ok (.iastore, 1) := dk_79 (dk_at dksX4_readLine_12 6 rfl rfl)
theorem dX4_readLine_289 : decode cX4_readLine 289 = .ok (.aload_n 0, 1) := dk_42 (dk_at dksX4_readLine_12 7 rfl rfl)
theorem dX4_readLine_290 : decode cX4_readLine 290 = .ok (.aload_n 0, 1) := dk_42 (dk_at dksX4_readLine_12 8 rfl rfl)
theorem dX4_readLine_291 : decode cX4_readLine 291 = .ok (.bipush 59, 2) := dk_16 59 (dk_at dksX4_readLine_12 9 rfl rfl)
theorem dX4_readLine_293 : decode cX4_readLine 293 = .ok (.invokevirtual 287, 3) := dk_182 1 31 (dk_at dksX4_readLine_12 11 rfl rfl)
theorem dX4_readLine_296 : decode cX4_readLine 296 = .ok (.invokevirtual 236, 3) := dk_182 0 236 (dk_at dksX4_readLine_12 14 rfl rfl)
theorem dX4_readLine_299 : decode cX4_readLine 299 = .ok (.return_, 1) := dk_177 (dk_at dksX4_readLine_12 17 rfl rfl)
abbrev cX4_isFull : ByteArray := prog_23_method_18_code
def yX4_isFull : MethodName := ⟨RX4, "isFull", "()Z"⟩
def dkwX4_isFull_7 : List UInt8 := [167, 0, 4, 3, 172]
abbrev dktX4_isFull_7 : List UInt8 := dkwX4_isFull_7 ++ []
def dkwX4_isFull_6 : List UInt8 := [182, 0, 233, 153, 0, 19, 42, 180, 0, 39, 42, 180, 0, 244, 46, 5, 184, 1, 3, 153, 0, 7, 4]
abbrev dktX4_isFull_6 : List UInt8 := dkwX4_isFull_6 ++ dktX4_isFull_7
def dkwX4_isFull_5 : List UInt8 := [182, 0, 233, 153, 0, 17, 42, 180, 0, 39, 42, 180, 0, 244, 46, 4, 184, 1, 3, 172, 42, 20, 0, 169]
abbrev dktX4_isFull_5 : List UInt8 := dkwX4_isFull_5 ++ dktX4_isFull_6
def dkwX4_isFull_4 : List UInt8 := [182, 0, 233, 153, 0, 17, 42, 180, 0, 39, 42, 180, 0, 244, 46, 3, 184, 1, 3, 172, 42, 20, 0, 167]
abbrev dktX4_isFull_4 : List UInt8 := dkwX4_isFull_4 ++ dktX4_isFull_5
def dkwX4_isFull_3 : List UInt8 := [180, 0, 27, 42, 180, 0, 244, 46, 16, 10, 160, 0, 7, 4, 167, 0, 4, 3, 172, 42, 20, 0, 165]
abbrev dktX4_isFull_3 : List UInt8 := dkwX4_isFull_3 ++ dktX4_isFull_4
def dkwX4_isFull_2 : List UInt8 := [46, 8, 160, 0, 7, 4, 167, 0, 4, 3, 172, 42, 20, 0, 155, 182, 0, 233, 153, 0, 23, 42]
abbrev dktX4_isFull_2 : List UInt8 := dkwX4_isFull_2 ++ dktX4_isFull_3
def dkwX4_isFull_1 : List UInt8 := [4, 167, 0, 4, 3, 172, 42, 20, 0, 153, 182, 0, 233, 153, 0, 22, 42, 180, 0, 24, 42, 180, 0, 244]
abbrev dktX4_isFull_1 : List UInt8 := dkwX4_isFull_1 ++ dktX4_isFull_2
def dkwX4_isFull_0 : List UInt8 := [42, 20, 0, 149, 182, 0, 233, 153, 0, 23, 42, 180, 0, 20, 42, 180, 0, 244, 46, 16, 6, 160, 0, 7]
abbrev dktX4_isFull_0 : List UInt8 := dkwX4_isFull_0 ++ dktX4_isFull_1
theorem dksX4_isFull_0 : cX4_isFull.data.toList.drop 0 = dktX4_isFull_0 := by decide +kernel
theorem dksX4_isFull_1 : cX4_isFull.data.toList.drop 24 = dktX4_isFull_1 := dk_seg dksX4_isFull_0 24 rfl rfl
theorem dksX4_isFull_2 : cX4_isFull.data.toList.drop 48 = dktX4_isFull_2 := dk_seg dksX4_isFull_1 24 rfl rfl
theorem dksX4_isFull_3 : cX4_isFull.data.toList.drop 70 = dktX4_isFull_3 := dk_seg dksX4_isFull_2 22 rfl rfl
theorem dksX4_isFull_4 : cX4_isFull.data.toList.drop 93 = dktX4_isFull_4 := dk_seg dksX4_isFull_3 23 rfl rfl
theorem dksX4_isFull_5 : cX4_isFull.data.toList.drop 117 = dktX4_isFull_5 := dk_seg dksX4_isFull_4 24 rfl rfl
theorem dksX4_isFull_6 : cX4_isFull.data.toList.drop 141 = dktX4_isFull_6 := dk_seg dksX4_isFull_5 24 rfl rfl
theorem dksX4_isFull_7 : cX4_isFull.data.toList.drop 164 = dktX4_isFull_7 := dk_seg dksX4_isFull_6 23 rfl rfl
theorem dX4_isFull_0 : decode cX4_isFull 0 = .ok (.aload_n 0, 1) := dk_42 (dk_at dksX4_isFull_0 0 rfl rfl)
theorem dX4_isFull_1 : decode cX4_isFull 1 = .ok (.ldc2_w 149, 3) := dk_20 0 149 (dk_at dksX4_isFull_0 1 rfl rfl)
theorem dX4_isFull_4 : decode cX4_isFull 4 = .ok (.invokevirtual 233, 3) := dk_182 0 233 (dk_at dksX4_isFull_0 4 rfl rfl)
theorem dX4_isFull_7 : decode cX4_isFull 7 = .ok (.ifCond .eq 23, 3) := dk_153 0 23 (dk_at dksX4_isFull_0 7 rfl rfl)
theorem dX4_isFull_10 : decode cX4_isFull 10 = .ok (.aload_n 0, 1) := dk_42 (dk_at dksX4_isFull_0 10 rfl rfl)
theorem dX4_isFull_11 : decode cX4_isFull 11 = .ok (.getfield 20, 3) := dk_180 0 20 (dk_at dksX4_isFull_0 11 rfl rfl)
theorem dX4_isFull_14 : decode cX4_isFull 14 = .ok (.aload_n 0, 1) := dk_42 (dk_at dksX4_isFull_0 14 rfl rfl)
theorem dX4_isFull_15 : decode cX4_isFull 15 = .ok (.getfield 244, 3) := dk_180 0 244 (dk_at dksX4_isFull_0 15 rfl rfl)
theorem dX4_isFull_18 : decode cX4_isFull 18 = .ok (.iaload, 1) := dk_46 (dk_at dksX4_isFull_0 18 rfl rfl)
theorem dX4_isFull_19 : decode cX4_isFull 19 = .ok (.bipush 6, 2) := dk_16 6 (dk_at dksX4_isFull_0 19 rfl rfl)
theorem dX4_isFull_21 : decode cX4_isFull 21 = .ok (.if_icmp .ne 7, 3) := dk_160 0 7 (dk_at dksX4_isFull_0 21 rfl rfl)
theorem dX4_isFull_24 : decode cX4_isFull 24 = .ok (.iconst 1, 1) := dk_4 (dk_at dksX4_isFull_1 0 rfl rfl)
theorem dX4_isFull_25 : decode cX4_isFull 25 = .ok (.goto 4, 3) := dk_167 0 4 (dk_at dksX4_isFull_1 1 rfl rfl)
theorem dX4_isFull_28 : decode cX4_isFull 28 = .ok (.iconst 0, 1) := dk_3 (dk_at dksX4_isFull_1 4 rfl rfl)
theorem dX4_isFull_29 : decode cX4_isFull 29 = .ok (.ireturn, 1) := dk_172 (dk_at dksX4_isFull_1 5 rfl rfl)
theorem dX4_isFull_30 : decode cX4_isFull 30 = .ok (.aload_n 0, 1) := dk_42 (dk_at dksX4_isFull_1 6 rfl rfl)
theorem dX4_isFull_31 : decode cX4_isFull 31 = .ok (.ldc2_w 153, 3) := dk_20 0 153 (dk_at dksX4_isFull_1 7 rfl rfl)
theorem dX4_isFull_34 : decode cX4_isFull 34 = .ok (.invokevirtual 233, 3) := dk_182 0 233 (dk_at dksX4_isFull_1 10 rfl rfl)
theorem dX4_isFull_37 : decode cX4_isFull 37 = .ok (.ifCond .eq 22, 3) := dk_153 0 22 (dk_at dksX4_isFull_1 13 rfl rfl)
theorem dX4_isFull_40 : decode cX4_isFull 40 = .ok (.aload_n 0, 1) := dk_42 (dk_at dksX4_isFull_1 16 rfl rfl)
theorem dX4_isFull_41 : decode cX4_isFull 41 = .ok (.getfield 24, 3) := dk_180 0 24 (dk_at dksX4_isFull_1 17 rfl rfl)
theorem dX4_isFull_44 : decode cX4_isFull 44 = .ok (.aload_n 0, 1) := dk_42 (dk_at dksX4_isFull_1 20 rfl rfl)
theorem dX4_isFull_45 : decode cX4_isFull 45 = .ok (.getfield 244, 3) := dk_180 0 244 (dk_at dksX4_isFull_1 21 rfl rfl)
theorem dX4_isFull_48 : decode cX4_isFull 48 = .ok (.iaload, 1) := dk_46 (dk_at dksX4_isFull_2 0 rfl rfl)
theorem dX4_isFull_49 : decode cX4_isFull 49 = .ok (.iconst 5, 1) := dk_8 (dk_at dksX4_isFull_2 1 rfl rfl)
theorem dX4_isFull_50 : decode cX4_isFull 50 = .ok (.if_icmp .ne 7, 3) := dk_160 0 7 (dk_at dksX4_isFull_2 2 rfl rfl)
theorem dX4_isFull_53 : decode cX4_isFull 53 = .ok (.iconst 1, 1) := dk_4 (dk_at dksX4_isFull_2 5 rfl rfl)
theorem dX4_isFull_54 : decode cX4_isFull 54 = .ok (.goto 4, 3) := dk_167 0 4 (dk_at dksX4_isFull_2 6 rfl rfl)
theorem dX4_isFull_57 : decode cX4_isFull 57 = .ok (.iconst 0, 1) := dk_3 (dk_at dksX4_isFull_2 9 rfl rfl)
theorem dX4_isFull_58 : decode cX4_isFull 58 = .ok (.ireturn, 1) := dk_172 (dk_at dksX4_isFull_2 10 rfl rfl)
theorem dX4_isFull_59 : decode cX4_isFull 59 = .ok (.aload_n 0, 1) := dk_42 (dk_at dksX4_isFull_2 11 rfl rfl)
theorem dX4_isFull_60 : decode cX4_isFull 60 = .ok (.ldc2_w 155, 3) := dk_20 0 155 (dk_at dksX4_isFull_2 12 rfl rfl)
theorem dX4_isFull_63 : decode cX4_isFull 63 = .ok (.invokevirtual 233, 3) := dk_182 0 233 (dk_at dksX4_isFull_2 15 rfl rfl)
theorem dX4_isFull_66 : decode cX4_isFull 66 = .ok (.ifCond .eq 23, 3) := dk_153 0 23 (dk_at dksX4_isFull_2 18 rfl rfl)
theorem dX4_isFull_69 : decode cX4_isFull 69 = .ok (.aload_n 0, 1) := dk_42 (dk_at dksX4_isFull_2 21 rfl rfl)
theorem dX4_isFull_70 : decode cX4_isFull 70 = .ok (.getfield 27, 3) := dk_180 0 27 (dk_at dksX4_isFull_3 0 rfl rfl)
theorem dX4_isFull_73 : decode cX4_isFull 73 = .ok (.aload_n 0, 1) := dk_42 (dk_at dksX4_isFull_3 3 rfl rfl)
theorem dX4_isFull_74 : decode cX4_isFull 74 = .ok (.getfield 244, 3) := dk_180 0 244 (dk_at dksX4_isFull_3 4 rfl rfl)
theorem dX4_isFull_77 : decode cX4_isFull 77 = .ok (.iaload, 1) := dk_46 (dk_at dksX4_isFull_3 7 rfl rfl)
theorem dX4_isFull_78 : decode cX4_isFull 78 = .ok (.bipush 10, 2) := dk_16 10 (dk_at dksX4_isFull_3 8 rfl rfl)
theorem dX4_isFull_80 : decode cX4_isFull 80 = .ok (.if_icmp .ne 7, 3) := dk_160 0 7 (dk_at dksX4_isFull_3 10 rfl rfl)
theorem dX4_isFull_83 : decode cX4_isFull 83 = .ok (.iconst 1, 1) := dk_4 (dk_at dksX4_isFull_3 13 rfl rfl)
theorem dX4_isFull_84 : decode cX4_isFull 84 = .ok (.goto 4, 3) := dk_167 0 4 (dk_at dksX4_isFull_3 14 rfl rfl)
theorem dX4_isFull_87 : decode cX4_isFull 87 = .ok (.iconst 0, 1) := dk_3 (dk_at dksX4_isFull_3 17 rfl rfl)
theorem dX4_isFull_88 : decode cX4_isFull 88 = .ok (.ireturn, 1) := dk_172 (dk_at dksX4_isFull_3 18 rfl rfl)
theorem dX4_isFull_89 : decode cX4_isFull 89 = .ok (.aload_n 0, 1) := dk_42 (dk_at dksX4_isFull_3 19 rfl rfl)
theorem dX4_isFull_90 : decode cX4_isFull 90 = .ok (.ldc2_w 165, 3) := dk_20 0 165 (dk_at dksX4_isFull_3 20 rfl rfl)
theorem dX4_isFull_93 : decode cX4_isFull 93 = .ok (.invokevirtual 233, 3) := dk_182 0 233 (dk_at dksX4_isFull_4 0 rfl rfl)
theorem dX4_isFull_96 : decode cX4_isFull 96 = .ok (.ifCond .eq 17, 3) := dk_153 0 17 (dk_at dksX4_isFull_4 3 rfl rfl)
theorem dX4_isFull_99 : decode cX4_isFull 99 = .ok (.aload_n 0, 1) := dk_42 (dk_at dksX4_isFull_4 6 rfl rfl)
theorem dX4_isFull_100 : decode cX4_isFull 100 = .ok (.getfield 39, 3) := dk_180 0 39 (dk_at dksX4_isFull_4 7 rfl rfl)
theorem dX4_isFull_103 : decode cX4_isFull 103 = .ok (.aload_n 0, 1) := dk_42 (dk_at dksX4_isFull_4 10 rfl rfl)
theorem dX4_isFull_104 : decode cX4_isFull 104 = .ok (.getfield 244, 3) := dk_180 0 244 (dk_at dksX4_isFull_4 11 rfl rfl)
theorem dX4_isFull_107 : decode cX4_isFull 107 = .ok (.iaload, 1) := dk_46 (dk_at dksX4_isFull_4 14 rfl rfl)
theorem dX4_isFull_108 : decode cX4_isFull 108 = .ok (.iconst 0, 1) := dk_3 (dk_at dksX4_isFull_4 15 rfl rfl)
theorem dX4_isFull_109 : decode cX4_isFull 109 = .ok (.invokestatic 259, 3) := dk_184 1 3 (dk_at dksX4_isFull_4 16 rfl rfl)
theorem dX4_isFull_112 : decode cX4_isFull 112 = .ok (.ireturn, 1) := dk_172 (dk_at dksX4_isFull_4 19 rfl rfl)
theorem dX4_isFull_113 : decode cX4_isFull 113 = .ok (.aload_n 0, 1) := dk_42 (dk_at dksX4_isFull_4 20 rfl rfl)
theorem dX4_isFull_114 : decode cX4_isFull 114 = .ok (.ldc2_w 167, 3) := dk_20 0 167 (dk_at dksX4_isFull_4 21 rfl rfl)
theorem dX4_isFull_117 : decode cX4_isFull 117 = .ok (.invokevirtual 233, 3) := dk_182 0 233 (dk_at dksX4_isFull_5 0 rfl rfl)
theorem dX4_isFull_120 : decode cX4_isFull 120 = .ok (.ifCond .eq 17, 3) := dk_153 0 17 (dk_at dksX4_isFull_5 3 rfl rfl)
theorem dX4_isFull_123 : decode cX4_isFull 123 = .ok (.aload_n 0, 1) := dk_42 (dk_at dksX4_isFull_5 6 rfl rfl)
theorem dX4_isFull_124 : decode cX4_isFull 124 = .ok (.getfield 39, 3) := dk_180 0 39 (dk_at dksX4_isFull_5 7 rfl rfl)
theorem dX4_isFull_127 : decode cX4_isFull 127 = .ok (.aload_n 0, 1) := dk_42 (dk_at dksX4_isFull_5 10 rfl rfl)
theorem dX4_isFull_128 : decode cX4_isFull 128 = .ok (.getfield 244, 3) := dk_180 0 244 (dk_at dksX4_isFull_5 11 rfl rfl)
theorem dX4_isFull_131 : decode cX4_isFull 131 = .ok (.iaload, 1) := dk_46 (dk_at dksX4_isFull_5 14 rfl rfl)
theorem dX4_isFull_132 : decode cX4_isFull 132 = .ok (.iconst 1, 1) := dk_4 (dk_at dksX4_isFull_5 15 rfl rfl)
theorem dX4_isFull_133 : decode cX4_isFull 133 = .ok (.invokestatic 259, 3) := dk_184 1 3 (dk_at dksX4_isFull_5 16 rfl rfl)
theorem dX4_isFull_136 : decode cX4_isFull 136 = .ok (.ireturn, 1) := dk_172 (dk_at dksX4_isFull_5 19 rfl rfl)
theorem dX4_isFull_137 : decode cX4_isFull 137 = .ok (.aload_n 0, 1) := dk_42 (dk_at dksX4_isFull_5 20 rfl rfl)
theorem dX4_isFull_138 : decode cX4_isFull 138 = .ok (.ldc2_w 169, 3) := dk_20 0 169 (dk_at dksX4_isFull_5 21 rfl rfl)
theorem dX4_isFull_141 : decode cX4_isFull 141 = .ok (.invokevirtual 233, 3) := dk_182 0 233 (dk_at dksX4_isFull_6 0 rfl rfl)
theorem dX4_isFull_144 : decode cX4_isFull 144 = .ok (.ifCond .eq 19, 3) := dk_153 0 19 (dk_at dksX4_isFull_6 3 rfl rfl)
theorem dX4_isFull_147 : decode cX4_isFull 147 = .ok (.aload_n 0, 1) := dk_42 (dk_at dksX4_isFull_6 6 rfl rfl)
theorem dX4_isFull_148 : decode cX4_isFull 148 = .ok (.getfield 39, 3) := dk_180 0 39 (dk_at dksX4_isFull_6 7 rfl rfl)
theorem dX4_isFull_151 : decode cX4_isFull 151 = .ok (.aload_n 0, 1) := dk_42 (dk_at dksX4_isFull_6 10 rfl rfl)
theorem dX4_isFull_152 : decode cX4_isFull 152 = .ok (.getfield 244, 3) := dk_180 0 244 (dk_at dksX4_isFull_6 11 rfl rfl)
theorem dX4_isFull_155 : decode cX4_isFull 155 = .ok (.iaload, 1) := dk_46 (dk_at dksX4_isFull_6 14 rfl rfl)
theorem dX4_isFull_156 : decode cX4_isFull 156 = .ok (.iconst 2, 1) := dk_5 (dk_at dksX4_isFull_6 15 rfl rfl)
theorem dX4_isFull_157 : decode cX4_isFull 157 = .ok (.invokestatic 259, 3) := dk_184 1 3 (dk_at dksX4_isFull_6 16 rfl rfl)
theorem dX4_isFull_160 : decode cX4_isFull 160 = .ok (.ifCond .eq 7, 3) := dk_153 0 7 (dk_at dksX4_isFull_6 19 rfl rfl)
theorem dX4_isFull_163 : decode cX4_isFull 163 = .ok (.iconst 1, 1) := dk_4 (dk_at dksX4_isFull_6 22 rfl rfl)
theorem dX4_isFull_164 : decode cX4_isFull 164 = .ok (.goto 4, 3) := dk_167 0 4 (dk_at dksX4_isFull_7 0 rfl rfl)
theorem dX4_isFull_167 : decode cX4_isFull 167 = .ok (.iconst 0, 1) := dk_3 (dk_at dksX4_isFull_7 3 rfl rfl)
theorem dX4_isFull_168 : decode cX4_isFull 168 = .ok (.ireturn, 1) := dk_172 (dk_at dksX4_isFull_7 4 rfl rfl)
abbrev cX4_isWord : ByteArray := prog_23_method_11_code
def yX4_isWord : MethodName := ⟨RX4, "isWord", "(J)Z"⟩
def dkwX4_isWord_0 : List UInt8 := [42, 180, 0, 195, 6, 160, 0, 16, 42, 180, 0, 202, 31, 148, 154, 0, 7, 4, 167, 0, 4, 3, 172]
abbrev dktX4_isWord_0 : List UInt8 := dkwX4_isWord_0 ++ []
theorem dksX4_isWord_0 : cX4_isWord.data.toList.drop 0 = dktX4_isWord_0 := by decide +kernel
theorem dX4_isWord_0 : decode cX4_isWord 0 = .ok (.aload_n 0, 1) := dk_42 (dk_at dksX4_isWord_0 0 rfl rfl)
theorem dX4_isWord_1 : decode cX4_isWord 1 = .ok (.getfield 195, 3) := dk_180 0 195 (dk_at dksX4_isWord_0 1 rfl rfl)
theorem dX4_isWord_4 : decode cX4_isWord 4 = .ok (.iconst 3, 1) := dk_6 (dk_at dksX4_isWord_0 4 rfl rfl)
theorem dX4_isWord_5 : decode cX4_isWord 5 = .ok (.if_icmp .ne 16, 3) := dk_160 0 16 (dk_at dksX4_isWord_0 5 rfl rfl)
theorem dX4_isWord_8 : decode cX4_isWord 8 = .ok (.aload_n 0, 1) := dk_42 (dk_at dksX4_isWord_0 8 rfl rfl)
theorem dX4_isWord_9 : decode cX4_isWord 9 = .ok (.getfield 202, 3) := dk_180 0 202 (dk_at dksX4_isWord_0 9 rfl rfl)
theorem dX4_isWord_12 : decode cX4_isWord 12 = .ok (.lload_n 1, 1) := dk_31 (dk_at dksX4_isWord_0 12 rfl rfl)
theorem dX4_isWord_13 : decode cX4_isWord 13 = .ok (.lcmp, 1) := dk_148 (dk_at dksX4_isWord_0 13 rfl rfl)
theorem dX4_isWord_14 : decode cX4_isWord 14 = .ok (.ifCond .ne 7, 3) := dk_154 0 7 (dk_at dksX4_isWord_0 14 rfl rfl)
theorem dX4_isWord_17 : decode cX4_isWord 17 = .ok (.iconst 1, 1) := dk_4 (dk_at dksX4_isWord_0 17 rfl rfl)
theorem dX4_isWord_18 : decode cX4_isWord 18 = .ok (.goto 4, 3) := dk_167 0 4 (dk_at dksX4_isWord_0 18 rfl rfl)
theorem dX4_isWord_21 : decode cX4_isWord 21 = .ok (.iconst 0, 1) := dk_3 (dk_at dksX4_isWord_0 21 rfl rfl)
theorem dX4_isWord_22 : decode cX4_isWord 22 = .ok (.ireturn, 1) := dk_172 (dk_at dksX4_isWord_0 22 rfl rfl)
abbrev cX4_bit : ByteArray := prog_23_method_40_code
def yX4_bit : MethodName := ⟨RX4, "bit", "(II)Z"⟩
def dkwX4_bit_0 : List UInt8 := [26, 27, 122, 4, 126, 4, 160, 0, 7, 4, 167, 0, 4, 3, 172]
abbrev dktX4_bit_0 : List UInt8 := dkwX4_bit_0 ++ []
theorem dksX4_bit_0 : cX4_bit.data.toList.drop 0 = dktX4_bit_0 := by decide +kernel
theorem dX4_bit_0 : decode cX4_bit 0 = .ok (.iload_n 0, 1) := dk_26 (dk_at dksX4_bit_0 0 rfl rfl)
theorem dX4_bit_1 : decode cX4_bit 1 = .ok (.iload_n 1, 1) := dk_27 (dk_at dksX4_bit_0 1 rfl rfl)
theorem dX4_bit_2 : decode cX4_bit 2 = .ok (.ishr, 1) := dk_122 (dk_at dksX4_bit_0 2 rfl rfl)
theorem dX4_bit_3 : decode cX4_bit 3 = .ok (.iconst 1, 1) := dk_4 (dk_at dksX4_bit_0 3 rfl rfl)
theorem dX4_bit_4 : decode cX4_bit 4 = .ok (.iand, 1) := dk_126 (dk_at dksX4_bit_0 4 rfl rfl)
theorem dX4_bit_5 : decode cX4_bit 5 = .ok (.iconst 1, 1) := dk_4 (dk_at dksX4_bit_0 5 rfl rfl)
theorem dX4_bit_6 : decode cX4_bit 6 = .ok (.if_icmp .ne 7, 3) := dk_160 0 7 (dk_at dksX4_bit_0 6 rfl rfl)
theorem dX4_bit_9 : decode cX4_bit 9 = .ok (.iconst 1, 1) := dk_4 (dk_at dksX4_bit_0 9 rfl rfl)
theorem dX4_bit_10 : decode cX4_bit 10 = .ok (.goto 4, 3) := dk_167 0 4 (dk_at dksX4_bit_0 10 rfl rfl)
theorem dX4_bit_13 : decode cX4_bit 13 = .ok (.iconst 0, 1) := dk_3 (dk_at dksX4_bit_0 13 rfl rfl)
theorem dX4_bit_14 : decode cX4_bit 14 = .ok (.ireturn, 1) := dk_172 (dk_at dksX4_bit_0 14 rfl rfl)
abbrev cX4_misplaced : ByteArray := prog_23_method_12_code
def yX4_misplaced : MethodName := ⟨RX4, "misplaced", "()V"⟩
def dkwX4_misplaced_0 : List UInt8 := [42, 42, 180, 0, 195, 4, 160, 0, 7, 4, 167, 0, 4, 5, 42, 180, 0, 188, 182, 0, 219, 177]
abbrev dktX4_misplaced_0 : List UInt8 := dkwX4_misplaced_0 ++ []
theorem dksX4_misplaced_0 : cX4_misplaced.data.toList.drop 0 = dktX4_misplaced_0 := by decide +kernel
theorem dX4_misplaced_0 : decode cX4_misplaced 0 = .ok (.aload_n 0, 1) := dk_42 (dk_at dksX4_misplaced_0 0 rfl rfl)
theorem dX4_misplaced_1 : decode cX4_misplaced 1 = .ok (.aload_n 0, 1) := dk_42 (dk_at dksX4_misplaced_0 1 rfl rfl)
theorem dX4_misplaced_2 : decode cX4_misplaced 2 = .ok (.getfield 195, 3) := dk_180 0 195 (dk_at dksX4_misplaced_0 2 rfl rfl)
theorem dX4_misplaced_5 : decode cX4_misplaced 5 = .ok (.iconst 1, 1) := dk_4 (dk_at dksX4_misplaced_0 5 rfl rfl)
theorem dX4_misplaced_6 : decode cX4_misplaced 6 = .ok (.if_icmp .ne 7, 3) := dk_160 0 7 (dk_at dksX4_misplaced_0 6 rfl rfl)
theorem dX4_misplaced_9 : decode cX4_misplaced 9 = .ok (.iconst 1, 1) := dk_4 (dk_at dksX4_misplaced_0 9 rfl rfl)
theorem dX4_misplaced_10 : decode cX4_misplaced 10 = .ok (.goto 4, 3) := dk_167 0 4 (dk_at dksX4_misplaced_0 10 rfl rfl)
theorem dX4_misplaced_13 : decode cX4_misplaced 13 = .ok (.iconst 2, 1) := dk_5 (dk_at dksX4_misplaced_0 13 rfl rfl)
theorem dX4_misplaced_14 : decode cX4_misplaced 14 = .ok (.aload_n 0, 1) := dk_42 (dk_at dksX4_misplaced_0 14 rfl rfl)
theorem dX4_misplaced_15 : decode cX4_misplaced 15 = .ok (.getfield 188, 3) := dk_180 0 188 (dk_at dksX4_misplaced_0 15 rfl rfl)
theorem dX4_misplaced_18 : decode cX4_misplaced 18 = .ok (.invokevirtual 219, 3) := dk_182 0 219 (dk_at dksX4_misplaced_0 18 rfl rfl)
theorem dX4_misplaced_21 : decode cX4_misplaced 21 = .ok (.return_, 1) := dk_177 (dk_at dksX4_misplaced_0 21 rfl rfl)
abbrev cX4_fails : ByteArray := prog_23_method_5_code
def yX4_fails : MethodName := ⟨RX4, "fails", "(II)V"⟩
def dkwX4_fails_0 : List UInt8 := [42, 180, 0, 146, 158, 0, 4, 177, 42, 27, 181, 0, 146, 42, 28, 181, 0, 16, 177]
abbrev dktX4_fails_0 : List UInt8 := dkwX4_fails_0 ++ []
theorem dksX4_fails_0 : cX4_fails.data.toList.drop 0 = dktX4_fails_0 := by decide +kernel
theorem dX4_fails_0 : decode cX4_fails 0 = .ok (.aload_n 0, 1) := dk_42 (dk_at dksX4_fails_0 0 rfl rfl)
theorem dX4_fails_1 : decode cX4_fails 1 = .ok (.getfield 146, 3) := dk_180 0 146 (dk_at dksX4_fails_0 1 rfl rfl)
theorem dX4_fails_4 : decode cX4_fails 4 = .ok (.ifCond .le 4, 3) := dk_158 0 4 (dk_at dksX4_fails_0 4 rfl rfl)
theorem dX4_fails_7 : decode cX4_fails 7 = .ok (.return_, 1) := dk_177 (dk_at dksX4_fails_0 7 rfl rfl)
theorem dX4_fails_8 : decode cX4_fails 8 = .ok (.aload_n 0, 1) := dk_42 (dk_at dksX4_fails_0 8 rfl rfl)
theorem dX4_fails_9 : decode cX4_fails 9 = .ok (.iload_n 1, 1) := dk_27 (dk_at dksX4_fails_0 9 rfl rfl)
theorem dX4_fails_10 : decode cX4_fails 10 = .ok (.putfield 146, 3) := dk_181 0 146 (dk_at dksX4_fails_0 10 rfl rfl)
theorem dX4_fails_13 : decode cX4_fails 13 = .ok (.aload_n 0, 1) := dk_42 (dk_at dksX4_fails_0 13 rfl rfl)
theorem dX4_fails_14 : decode cX4_fails 14 = .ok (.iload_n 2, 1) := dk_28 (dk_at dksX4_fails_0 14 rfl rfl)
theorem dX4_fails_15 : decode cX4_fails 15 = .ok (.putfield 16, 3) := dk_181 0 16 (dk_at dksX4_fails_0 15 rfl rfl)
theorem dX4_fails_18 : decode cX4_fails 18 = .ok (.return_, 1) := dk_177 (dk_at dksX4_fails_0 18 rfl rfl)
abbrev cX4_personHere : ByteArray := prog_23_method_21_code
def yX4_personHere : MethodName := ⟨RX4, "personHere", "()I"⟩
def dkwX4_personHere_1 : List UInt8 := [172]
abbrev dktX4_personHere_1 : List UInt8 := dkwX4_personHere_1 ++ []
def dkwX4_personHere_0 : List UInt8 := [42, 42, 180, 0, 63, 16, 6, 42, 180, 0, 244, 104, 42, 180, 0, 20, 42, 180, 0, 244, 46, 182, 1, 34]
abbrev dktX4_personHere_0 : List UInt8 := dkwX4_personHere_0 ++ dktX4_personHere_1
theorem dksX4_personHere_0 : cX4_personHere.data.toList.drop 0 = dktX4_personHere_0 := by decide +kernel
theorem dksX4_personHere_1 : cX4_personHere.data.toList.drop 24 = dktX4_personHere_1 := dk_seg dksX4_personHere_0 24 rfl rfl
theorem dX4_personHere_0 : decode cX4_personHere 0 = .ok (.aload_n 0, 1) := dk_42 (dk_at dksX4_personHere_0 0 rfl rfl)
theorem dX4_personHere_1 : decode cX4_personHere 1 = .ok (.aload_n 0, 1) := dk_42 (dk_at dksX4_personHere_0 1 rfl rfl)
theorem dX4_personHere_2 : decode cX4_personHere 2 = .ok (.getfield 63, 3) := dk_180 0 63 (dk_at dksX4_personHere_0 2 rfl rfl)
theorem dX4_personHere_5 : decode cX4_personHere 5 = .ok (.bipush 6, 2) := dk_16 6 (dk_at dksX4_personHere_0 5 rfl rfl)
theorem dX4_personHere_7 : decode cX4_personHere 7 = .ok (.aload_n 0, 1) := dk_42 (dk_at dksX4_personHere_0 7 rfl rfl)
theorem dX4_personHere_8 : decode cX4_personHere 8 = .ok (.getfield 244, 3) := dk_180 0 244 (dk_at dksX4_personHere_0 8 rfl rfl)
theorem dX4_personHere_11 : decode cX4_personHere 11 = .ok (.imul, 1) := dk_104 (dk_at dksX4_personHere_0 11 rfl rfl)
theorem dX4_personHere_12 : decode cX4_personHere 12 = .ok (.aload_n 0, 1) := dk_42 (dk_at dksX4_personHere_0 12 rfl rfl)
theorem dX4_personHere_13 : decode cX4_personHere 13 = .ok (.getfield 20, 3) := dk_180 0 20 (dk_at dksX4_personHere_0 13 rfl rfl)
theorem dX4_personHere_16 : decode cX4_personHere 16 = .ok (.aload_n 0, 1) := dk_42 (dk_at dksX4_personHere_0 16 rfl rfl)
theorem dX4_personHere_17 : decode cX4_personHere 17 = .ok (.getfield 244, 3) := dk_180 0 244 (dk_at dksX4_personHere_0 17 rfl rfl)
theorem dX4_personHere_20 : decode cX4_personHere 20 = .ok (.iaload, 1) := dk_46 (dk_at dksX4_personHere_0 20 rfl rfl)
theorem dX4_personHere_21 : decode cX4_personHere 21 = .ok (.invokevirtual 290, 3) := dk_182 1 34 (dk_at dksX4_personHere_0 21 rfl rfl)
theorem dX4_personHere_24 : decode cX4_personHere 24 = .ok (.ireturn, 1) := dk_172 (dk_at dksX4_personHere_1 0 rfl rfl)
abbrev cX4_here : ByteArray := prog_23_method_20_code
def yX4_here : MethodName := ⟨RX4, "here", "([JII)I"⟩
def dkwX4_here_1 : List UInt8 := [180, 0, 202, 148, 154, 0, 6, 21, 4, 172, 132, 4, 1, 167, 255, 222, 2, 172]
abbrev dktX4_here_1 : List UInt8 := dkwX4_here_1 ++ []
def dkwX4_here_0 : List UInt8 := [3, 54, 4, 21, 4, 29, 162, 0, 34, 42, 180, 0, 195, 5, 160, 0, 20, 43, 28, 21, 4, 96, 47, 42]
abbrev dktX4_here_0 : List UInt8 := dkwX4_here_0 ++ dktX4_here_1
theorem dksX4_here_0 : cX4_here.data.toList.drop 0 = dktX4_here_0 := by decide +kernel
theorem dksX4_here_1 : cX4_here.data.toList.drop 24 = dktX4_here_1 := dk_seg dksX4_here_0 24 rfl rfl
theorem dX4_here_0 : decode cX4_here 0 = .ok (.iconst 0, 1) := dk_3 (dk_at dksX4_here_0 0 rfl rfl)
theorem dX4_here_1 : decode cX4_here 1 = .ok (.istore 4, 2) := dk_54 4 (dk_at dksX4_here_0 1 rfl rfl)
theorem dX4_here_3 : decode cX4_here 3 = .ok (.iload 4, 2) := dk_21 4 (dk_at dksX4_here_0 3 rfl rfl)
theorem dX4_here_5 : decode cX4_here 5 = .ok (.iload_n 3, 1) := dk_29 (dk_at dksX4_here_0 5 rfl rfl)
theorem dX4_here_6 : decode cX4_here 6 = .ok (.if_icmp .ge 34, 3) := dk_162 0 34 (dk_at dksX4_here_0 6 rfl rfl)
theorem dX4_here_9 : decode cX4_here 9 = .ok (.aload_n 0, 1) := dk_42 (dk_at dksX4_here_0 9 rfl rfl)
theorem dX4_here_10 : decode cX4_here 10 = .ok (.getfield 195, 3) := dk_180 0 195 (dk_at dksX4_here_0 10 rfl rfl)
theorem dX4_here_13 : decode cX4_here 13 = .ok (.iconst 2, 1) := dk_5 (dk_at dksX4_here_0 13 rfl rfl)
theorem dX4_here_14 : decode cX4_here 14 = .ok (.if_icmp .ne 20, 3) := dk_160 0 20 (dk_at dksX4_here_0 14 rfl rfl)
theorem dX4_here_17 : decode cX4_here 17 = .ok (.aload_n 1, 1) := dk_43 (dk_at dksX4_here_0 17 rfl rfl)
theorem dX4_here_18 : decode cX4_here 18 = .ok (.iload_n 2, 1) := dk_28 (dk_at dksX4_here_0 18 rfl rfl)
theorem dX4_here_19 : decode cX4_here 19 = .ok (.iload 4, 2) := dk_21 4 (dk_at dksX4_here_0 19 rfl rfl)
theorem dX4_here_21 : decode cX4_here 21 = .ok (.iadd, 1) := dk_96 (dk_at dksX4_here_0 21 rfl rfl)
theorem dX4_here_22 : decode cX4_here 22 = .ok (.laload, 1) := dk_47 (dk_at dksX4_here_0 22 rfl rfl)
theorem dX4_here_23 : decode cX4_here 23 = .ok (.aload_n 0, 1) := dk_42 (dk_at dksX4_here_0 23 rfl rfl)
theorem dX4_here_24 : decode cX4_here 24 = .ok (.getfield 202, 3) := dk_180 0 202 (dk_at dksX4_here_1 0 rfl rfl)
theorem dX4_here_27 : decode cX4_here 27 = .ok (.lcmp, 1) := dk_148 (dk_at dksX4_here_1 3 rfl rfl)
theorem dX4_here_28 : decode cX4_here 28 = .ok (.ifCond .ne 6, 3) := dk_154 0 6 (dk_at dksX4_here_1 4 rfl rfl)
theorem dX4_here_31 : decode cX4_here 31 = .ok (.iload 4, 2) := dk_21 4 (dk_at dksX4_here_1 7 rfl rfl)
theorem dX4_here_33 : decode cX4_here 33 = .ok (.ireturn, 1) := dk_172 (dk_at dksX4_here_1 9 rfl rfl)
theorem dX4_here_34 : decode cX4_here 34 = .ok (.iinc 4 1, 3) := dk_132 4 1 (dk_at dksX4_here_1 10 rfl rfl)
theorem dX4_here_37 : decode cX4_here 37 = .ok (.goto (-34), 3) := dk_167 255 222 (dk_at dksX4_here_1 13 rfl rfl)
theorem dX4_here_40 : decode cX4_here 40 = .ok (.iconst (-1), 1) := dk_2 (dk_at dksX4_here_1 16 rfl rfl)
theorem dX4_here_41 : decode cX4_here 41 = .ok (.ireturn, 1) := dk_172 (dk_at dksX4_here_1 17 rfl rfl)
abbrev cX4_fresh : ByteArray := prog_23_method_23_code
def yX4_fresh : MethodName := ⟨RX4, "fresh", "(I)J"⟩
def dkwX4_fresh_2 : List UInt8 := [153, 0, 7, 42, 182, 0, 227, 32, 173]
abbrev dktX4_fresh_2 : List UInt8 := dkwX4_fresh_2 ++ []
def dkwX4_fresh_1 : List UInt8 := [27, 155, 0, 12, 42, 6, 42, 180, 0, 188, 182, 0, 219, 42, 180, 0, 202, 65, 42, 182, 0, 223]
abbrev dktX4_fresh_1 : List UInt8 := dkwX4_fresh_1 ++ dktX4_fresh_2
def dkwX4_fresh_0 : List UInt8 := [42, 182, 0, 223, 154, 0, 5, 9, 173, 42, 180, 0, 195, 5, 159, 0, 10, 42, 182, 0, 230, 167, 0, 16]
abbrev dktX4_fresh_0 : List UInt8 := dkwX4_fresh_0 ++ dktX4_fresh_1
theorem dksX4_fresh_0 : cX4_fresh.data.toList.drop 0 = dktX4_fresh_0 := by decide +kernel
theorem dksX4_fresh_1 : cX4_fresh.data.toList.drop 24 = dktX4_fresh_1 := dk_seg dksX4_fresh_0 24 rfl rfl
theorem dksX4_fresh_2 : cX4_fresh.data.toList.drop 46 = dktX4_fresh_2 := dk_seg dksX4_fresh_1 22 rfl rfl
theorem dX4_fresh_0 : decode cX4_fresh 0 = .ok (.aload_n 0, 1) := dk_42 (dk_at dksX4_fresh_0 0 rfl rfl)
theorem dX4_fresh_1 : decode cX4_fresh 1 = .ok (.invokevirtual 223, 3) := dk_182 0 223 (dk_at dksX4_fresh_0 1 rfl rfl)
theorem dX4_fresh_4 : decode cX4_fresh 4 = .ok (.ifCond .ne 5, 3) := dk_154 0 5 (dk_at dksX4_fresh_0 4 rfl rfl)
theorem dX4_fresh_7 : decode cX4_fresh 7 = .ok (.lconst 0, 1) := dk_9 (dk_at dksX4_fresh_0 7 rfl rfl)
theorem dX4_fresh_8 : decode cX4_fresh 8 = .ok (.lreturn, 1) := dk_173 (dk_at dksX4_fresh_0 8 rfl rfl)
theorem dX4_fresh_9 : decode cX4_fresh 9 = .ok (.aload_n 0, 1) := dk_42 (dk_at dksX4_fresh_0 9 rfl rfl)
theorem dX4_fresh_10 : decode cX4_fresh 10 = .ok (.getfield 195, 3) := dk_180 0 195 (dk_at dksX4_fresh_0 10 rfl rfl)
theorem dX4_fresh_13 : decode cX4_fresh 13 = .ok (.iconst 2, 1) := dk_5 (dk_at dksX4_fresh_0 13 rfl rfl)
theorem dX4_fresh_14 : decode cX4_fresh 14 = .ok (.if_icmp .eq 10, 3) := dk_159 0 10 (dk_at dksX4_fresh_0 14 rfl rfl)
theorem dX4_fresh_17 : decode cX4_fresh 17 = .ok (.aload_n 0, 1) := dk_42 (dk_at dksX4_fresh_0 17 rfl rfl)
theorem dX4_fresh_18 : decode cX4_fresh 18 = .ok (.invokevirtual 230, 3) := dk_182 0 230 (dk_at dksX4_fresh_0 18 rfl rfl)
theorem dX4_fresh_21 : decode cX4_fresh 21 = .ok (.goto 16, 3) := dk_167 0 16 (dk_at dksX4_fresh_0 21 rfl rfl)
theorem dX4_fresh_24 : decode cX4_fresh 24 = .ok (.iload_n 1, 1) := dk_27 (dk_at dksX4_fresh_1 0 rfl rfl)
theorem dX4_fresh_25 : decode cX4_fresh 25 = .ok (.ifCond .lt 12, 3) := dk_155 0 12 (dk_at dksX4_fresh_1 1 rfl rfl)
theorem dX4_fresh_28 : decode cX4_fresh 28 = .ok (.aload_n 0, 1) := dk_42 (dk_at dksX4_fresh_1 4 rfl rfl)
theorem dX4_fresh_29 : decode cX4_fresh 29 = .ok (.iconst 3, 1) := dk_6 (dk_at dksX4_fresh_1 5 rfl rfl)
theorem dX4_fresh_30 : decode cX4_fresh 30 = .ok (.aload_n 0, 1) := dk_42 (dk_at dksX4_fresh_1 6 rfl rfl)
theorem dX4_fresh_31 : decode cX4_fresh 31 = .ok (.getfield 188, 3) := dk_180 0 188 (dk_at dksX4_fresh_1 7 rfl rfl)
theorem dX4_fresh_34 : decode cX4_fresh 34 = .ok (.invokevirtual 219, 3) := dk_182 0 219 (dk_at dksX4_fresh_1 10 rfl rfl)
theorem dX4_fresh_37 : decode cX4_fresh 37 = .ok (.aload_n 0, 1) := dk_42 (dk_at dksX4_fresh_1 13 rfl rfl)
theorem dX4_fresh_38 : decode cX4_fresh 38 = .ok (.getfield 202, 3) := dk_180 0 202 (dk_at dksX4_fresh_1 14 rfl rfl)
theorem dX4_fresh_41 : decode cX4_fresh 41 = .ok (.lstore_n 2, 1) := dk_65 (dk_at dksX4_fresh_1 17 rfl rfl)
theorem dX4_fresh_42 : decode cX4_fresh 42 = .ok (.aload_n 0, 1) := dk_42 (dk_at dksX4_fresh_1 18 rfl rfl)
theorem dX4_fresh_43 : decode cX4_fresh 43 = .ok (.invokevirtual 223, 3) := dk_182 0 223 (dk_at dksX4_fresh_1 19 rfl rfl)
theorem dX4_fresh_46 : decode cX4_fresh 46 = .ok (.ifCond .eq 7, 3) := dk_153 0 7 (dk_at dksX4_fresh_2 0 rfl rfl)
theorem dX4_fresh_49 : decode cX4_fresh 49 = .ok (.aload_n 0, 1) := dk_42 (dk_at dksX4_fresh_2 3 rfl rfl)
theorem dX4_fresh_50 : decode cX4_fresh 50 = .ok (.invokevirtual 227, 3) := dk_182 0 227 (dk_at dksX4_fresh_2 4 rfl rfl)
theorem dX4_fresh_53 : decode cX4_fresh 53 = .ok (.lload_n 2, 1) := dk_32 (dk_at dksX4_fresh_2 7 rfl rfl)
theorem dX4_fresh_54 : decode cX4_fresh 54 = .ok (.lreturn, 1) := dk_173 (dk_at dksX4_fresh_2 8 rfl rfl)
abbrev cX4_afterWord : ByteArray := prog_23_method_15_code
def yX4_afterWord : MethodName := ⟨RX4, "afterWord", "(JII)I"⟩
def dkwX4_afterWord_0 : List UInt8 := [42, 42, 31, 182, 0, 233, 182, 0, 236, 42, 29, 21, 4, 182, 0, 240, 172]
abbrev dktX4_afterWord_0 : List UInt8 := dkwX4_afterWord_0 ++ []
theorem dksX4_afterWord_0 : cX4_afterWord.data.toList.drop 0 = dktX4_afterWord_0 := by decide +kernel
theorem dX4_afterWord_0 : decode cX4_afterWord 0 = .ok (.aload_n 0, 1) := dk_42 (dk_at dksX4_afterWord_0 0 rfl rfl)
theorem dX4_afterWord_1 : decode cX4_afterWord 1 = .ok (.aload_n 0, 1) := dk_42 (dk_at dksX4_afterWord_0 1 rfl rfl)
theorem dX4_afterWord_2 : decode cX4_afterWord 2 = .ok (.lload_n 1, 1) := dk_31 (dk_at dksX4_afterWord_0 2 rfl rfl)
theorem dX4_afterWord_3 : decode cX4_afterWord 3 = .ok (.invokevirtual 233, 3) := dk_182 0 233 (dk_at dksX4_afterWord_0 3 rfl rfl)
theorem dX4_afterWord_6 : decode cX4_afterWord 6 = .ok (.invokevirtual 236, 3) := dk_182 0 236 (dk_at dksX4_afterWord_0 6 rfl rfl)
theorem dX4_afterWord_9 : decode cX4_afterWord 9 = .ok (.aload_n 0, 1) := dk_42 (dk_at dksX4_afterWord_0 9 rfl rfl)
theorem dX4_afterWord_10 : decode cX4_afterWord 10 = .ok (.iload_n 3, 1) := dk_29 (dk_at dksX4_afterWord_0 10 rfl rfl)
theorem dX4_afterWord_11 : decode cX4_afterWord 11 = .ok (.iload 4, 2) := dk_21 4 (dk_at dksX4_afterWord_0 11 rfl rfl)
theorem dX4_afterWord_13 : decode cX4_afterWord 13 = .ok (.invokevirtual 240, 3) := dk_182 0 240 (dk_at dksX4_afterWord_0 13 rfl rfl)
theorem dX4_afterWord_16 : decode cX4_afterWord 16 = .ok (.ireturn, 1) := dk_172 (dk_at dksX4_afterWord_0 16 rfl rfl)
abbrev cX4_must : ByteArray := prog_23_method_13_code
def yX4_must : MethodName := ⟨RX4, "must", "(Z)V"⟩
def dkwX4_must_0 : List UInt8 := [42, 182, 0, 223, 154, 0, 4, 177, 27, 153, 0, 10, 42, 182, 0, 227, 167, 0, 7, 42, 182, 0, 230, 177]
abbrev dktX4_must_0 : List UInt8 := dkwX4_must_0 ++ []
theorem dksX4_must_0 : cX4_must.data.toList.drop 0 = dktX4_must_0 := by decide +kernel
theorem dX4_must_0 : decode cX4_must 0 = .ok (.aload_n 0, 1) := dk_42 (dk_at dksX4_must_0 0 rfl rfl)
theorem dX4_must_1 : decode cX4_must 1 = .ok (.invokevirtual 223, 3) := dk_182 0 223 (dk_at dksX4_must_0 1 rfl rfl)
theorem dX4_must_4 : decode cX4_must 4 = .ok (.ifCond .ne 4, 3) := dk_154 0 4 (dk_at dksX4_must_0 4 rfl rfl)
theorem dX4_must_7 : decode cX4_must 7 = .ok (.return_, 1) := dk_177 (dk_at dksX4_must_0 7 rfl rfl)
theorem dX4_must_8 : decode cX4_must 8 = .ok (.iload_n 1, 1) := dk_27 (dk_at dksX4_must_0 8 rfl rfl)
theorem dX4_must_9 : decode cX4_must 9 = .ok (.ifCond .eq 10, 3) := dk_153 0 10 (dk_at dksX4_must_0 9 rfl rfl)
theorem dX4_must_12 : decode cX4_must 12 = .ok (.aload_n 0, 1) := dk_42 (dk_at dksX4_must_0 12 rfl rfl)
theorem dX4_must_13 : decode cX4_must 13 = .ok (.invokevirtual 227, 3) := dk_182 0 227 (dk_at dksX4_must_0 13 rfl rfl)
theorem dX4_must_16 : decode cX4_must 16 = .ok (.goto 7, 3) := dk_167 0 7 (dk_at dksX4_must_0 16 rfl rfl)
theorem dX4_must_19 : decode cX4_must 19 = .ok (.aload_n 0, 1) := dk_42 (dk_at dksX4_must_0 19 rfl rfl)
theorem dX4_must_20 : decode cX4_must 20 = .ok (.invokevirtual 230, 3) := dk_182 0 230 (dk_at dksX4_must_0 20 rfl rfl)
theorem dX4_must_23 : decode cX4_must 23 = .ok (.return_, 1) := dk_177 (dk_at dksX4_must_0 23 rfl rfl)
abbrev cX4_numeral : ByteArray := prog_23_method_14_code
def yX4_numeral : MethodName := ⟨RX4, "numeral", "(II)I"⟩
def dkwX4_numeral_3 : List UInt8 := [182, 0, 223, 153, 0, 7, 29, 167, 0, 4, 27, 172]
abbrev dktX4_numeral_3 : List UInt8 := dkwX4_numeral_3 ++ []
def dkwX4_numeral_2 : List UInt8 := [42, 180, 0, 188, 182, 0, 219, 42, 180, 0, 213, 62, 42, 182, 0, 223, 153, 0, 7, 42, 182, 0, 227, 42]
abbrev dktX4_numeral_2 : List UInt8 := dkwX4_numeral_2 ++ dktX4_numeral_3
def dkwX4_numeral_1 : List UInt8 := [182, 0, 223, 153, 0, 28, 42, 180, 0, 213, 27, 161, 0, 11, 42, 180, 0, 213, 28, 164, 0, 12, 42, 7]
abbrev dktX4_numeral_1 : List UInt8 := dkwX4_numeral_1 ++ dktX4_numeral_2
def dkwX4_numeral_0 : List UInt8 := [42, 182, 0, 223, 154, 0, 5, 27, 172, 42, 180, 0, 195, 7, 159, 0, 7, 42, 182, 0, 230, 42]
abbrev dktX4_numeral_0 : List UInt8 := dkwX4_numeral_0 ++ dktX4_numeral_1
theorem dksX4_numeral_0 : cX4_numeral.data.toList.drop 0 = dktX4_numeral_0 := by decide +kernel
theorem dksX4_numeral_1 : cX4_numeral.data.toList.drop 22 = dktX4_numeral_1 := dk_seg dksX4_numeral_0 22 rfl rfl
theorem dksX4_numeral_2 : cX4_numeral.data.toList.drop 46 = dktX4_numeral_2 := dk_seg dksX4_numeral_1 24 rfl rfl
theorem dksX4_numeral_3 : cX4_numeral.data.toList.drop 70 = dktX4_numeral_3 := dk_seg dksX4_numeral_2 24 rfl rfl
theorem dX4_numeral_0 : decode cX4_numeral 0 = .ok (.aload_n 0, 1) := dk_42 (dk_at dksX4_numeral_0 0 rfl rfl)
theorem dX4_numeral_1 : decode cX4_numeral 1 = .ok (.invokevirtual 223, 3) := dk_182 0 223 (dk_at dksX4_numeral_0 1 rfl rfl)
theorem dX4_numeral_4 : decode cX4_numeral 4 = .ok (.ifCond .ne 5, 3) := dk_154 0 5 (dk_at dksX4_numeral_0 4 rfl rfl)
theorem dX4_numeral_7 : decode cX4_numeral 7 = .ok (.iload_n 1, 1) := dk_27 (dk_at dksX4_numeral_0 7 rfl rfl)
theorem dX4_numeral_8 : decode cX4_numeral 8 = .ok (.ireturn, 1) := dk_172 (dk_at dksX4_numeral_0 8 rfl rfl)
theorem dX4_numeral_9 : decode cX4_numeral 9 = .ok (.aload_n 0, 1) := dk_42 (dk_at dksX4_numeral_0 9 rfl rfl)
theorem dX4_numeral_10 : decode cX4_numeral 10 = .ok (.getfield 195, 3) := dk_180 0 195 (dk_at dksX4_numeral_0 10 rfl rfl)
theorem dX4_numeral_13 : decode cX4_numeral 13 = .ok (.iconst 4, 1) := dk_7 (dk_at dksX4_numeral_0 13 rfl rfl)
theorem dX4_numeral_14 : decode cX4_numeral 14 = .ok (.if_icmp .eq 7, 3) := dk_159 0 7 (dk_at dksX4_numeral_0 14 rfl rfl)
theorem dX4_numeral_17 : decode cX4_numeral 17 = .ok (.aload_n 0, 1) := dk_42 (dk_at dksX4_numeral_0 17 rfl rfl)
theorem dX4_numeral_18 : decode cX4_numeral 18 = .ok (.invokevirtual 230, 3) := dk_182 0 230 (dk_at dksX4_numeral_0 18 rfl rfl)
theorem dX4_numeral_21 : decode cX4_numeral 21 = .ok (.aload_n 0, 1) := dk_42 (dk_at dksX4_numeral_0 21 rfl rfl)
theorem dX4_numeral_22 : decode cX4_numeral 22 = .ok (.invokevirtual 223, 3) := dk_182 0 223 (dk_at dksX4_numeral_1 0 rfl rfl)
theorem dX4_numeral_25 : decode cX4_numeral 25 = .ok (.ifCond .eq 28, 3) := dk_153 0 28 (dk_at dksX4_numeral_1 3 rfl rfl)
theorem dX4_numeral_28 : decode cX4_numeral 28 = .ok (.aload_n 0, 1) := dk_42 (dk_at dksX4_numeral_1 6 rfl rfl)
theorem dX4_numeral_29 : decode cX4_numeral 29 = .ok (.getfield 213, 3) := dk_180 0 213 (dk_at dksX4_numeral_1 7 rfl rfl)
theorem dX4_numeral_32 : decode cX4_numeral 32 = .ok (.iload_n 1, 1) := dk_27 (dk_at dksX4_numeral_1 10 rfl rfl)
theorem dX4_numeral_33 : decode cX4_numeral 33 = .ok (.if_icmp .lt 11, 3) := dk_161 0 11 (dk_at dksX4_numeral_1 11 rfl rfl)
theorem dX4_numeral_36 : decode cX4_numeral 36 = .ok (.aload_n 0, 1) := dk_42 (dk_at dksX4_numeral_1 14 rfl rfl)
theorem dX4_numeral_37 : decode cX4_numeral 37 = .ok (.getfield 213, 3) := dk_180 0 213 (dk_at dksX4_numeral_1 15 rfl rfl)
theorem dX4_numeral_40 : decode cX4_numeral 40 = .ok (.iload_n 2, 1) := dk_28 (dk_at dksX4_numeral_1 18 rfl rfl)
theorem dX4_numeral_41 : decode cX4_numeral 41 = .ok (.if_icmp .le 12, 3) := dk_164 0 12 (dk_at dksX4_numeral_1 19 rfl rfl)
theorem dX4_numeral_44 : decode cX4_numeral 44 = .ok (.aload_n 0, 1) := dk_42 (dk_at dksX4_numeral_1 22 rfl rfl)
theorem dX4_numeral_45 : decode cX4_numeral 45 = .ok (.iconst 4, 1) := dk_7 (dk_at dksX4_numeral_1 23 rfl rfl)
theorem dX4_numeral_46 : decode cX4_numeral 46 = .ok (.aload_n 0, 1) := dk_42 (dk_at dksX4_numeral_2 0 rfl rfl)
theorem dX4_numeral_47 : decode cX4_numeral 47 = .ok (.getfield 188, 3) := dk_180 0 188 (dk_at dksX4_numeral_2 1 rfl rfl)
theorem dX4_numeral_50 : decode cX4_numeral 50 = .ok (.invokevirtual 219, 3) := dk_182 0 219 (dk_at dksX4_numeral_2 4 rfl rfl)
theorem dX4_numeral_53 : decode cX4_numeral 53 = .ok (.aload_n 0, 1) := dk_42 (dk_at dksX4_numeral_2 7 rfl rfl)
theorem dX4_numeral_54 : decode cX4_numeral 54 = .ok (.getfield 213, 3) := dk_180 0 213 (dk_at dksX4_numeral_2 8 rfl rfl)
theorem dX4_numeral_57 : decode cX4_numeral 57 = .ok (.istore_n 3, 1) := dk_62 (dk_at dksX4_numeral_2 11 rfl rfl)
theorem dX4_numeral_58 : decode cX4_numeral 58 = .ok (.aload_n 0, 1) := dk_42 (dk_at dksX4_numeral_2 12 rfl rfl)
theorem dX4_numeral_59 : decode cX4_numeral 59 = .ok (.invokevirtual 223, 3) := dk_182 0 223 (dk_at dksX4_numeral_2 13 rfl rfl)
theorem dX4_numeral_62 : decode cX4_numeral 62 = .ok (.ifCond .eq 7, 3) := dk_153 0 7 (dk_at dksX4_numeral_2 16 rfl rfl)
theorem dX4_numeral_65 : decode cX4_numeral 65 = .ok (.aload_n 0, 1) := dk_42 (dk_at dksX4_numeral_2 19 rfl rfl)
theorem dX4_numeral_66 : decode cX4_numeral 66 = .ok (.invokevirtual 227, 3) := dk_182 0 227 (dk_at dksX4_numeral_2 20 rfl rfl)
theorem dX4_numeral_69 : decode cX4_numeral 69 = .ok (.aload_n 0, 1) := dk_42 (dk_at dksX4_numeral_2 23 rfl rfl)
theorem dX4_numeral_70 : decode cX4_numeral 70 = .ok (.invokevirtual 223, 3) := dk_182 0 223 (dk_at dksX4_numeral_3 0 rfl rfl)
theorem dX4_numeral_73 : decode cX4_numeral 73 = .ok (.ifCond .eq 7, 3) := dk_153 0 7 (dk_at dksX4_numeral_3 3 rfl rfl)
theorem dX4_numeral_76 : decode cX4_numeral 76 = .ok (.iload_n 3, 1) := dk_29 (dk_at dksX4_numeral_3 6 rfl rfl)
theorem dX4_numeral_77 : decode cX4_numeral 77 = .ok (.goto 4, 3) := dk_167 0 4 (dk_at dksX4_numeral_3 7 rfl rfl)
theorem dX4_numeral_80 : decode cX4_numeral 80 = .ok (.iload_n 1, 1) := dk_27 (dk_at dksX4_numeral_3 10 rfl rfl)
theorem dX4_numeral_81 : decode cX4_numeral 81 = .ok (.ireturn, 1) := dk_172 (dk_at dksX4_numeral_3 11 rfl rfl)
abbrev cX4_sackHere : ByteArray := prog_23_method_22_code
def yX4_sackHere : MethodName := ⟨RX4, "sackHere", "()I"⟩
def dkwX4_sackHere_0 : List UInt8 := [42, 42, 180, 0, 67, 8, 42, 180, 0, 244, 104, 42, 180, 0, 24, 42, 180, 0, 244, 46, 182, 1, 34, 172]
abbrev dktX4_sackHere_0 : List UInt8 := dkwX4_sackHere_0 ++ []
theorem dksX4_sackHere_0 : cX4_sackHere.data.toList.drop 0 = dktX4_sackHere_0 := by decide +kernel
theorem dX4_sackHere_0 : decode cX4_sackHere 0 = .ok (.aload_n 0, 1) := dk_42 (dk_at dksX4_sackHere_0 0 rfl rfl)
theorem dX4_sackHere_1 : decode cX4_sackHere 1 = .ok (.aload_n 0, 1) := dk_42 (dk_at dksX4_sackHere_0 1 rfl rfl)
theorem dX4_sackHere_2 : decode cX4_sackHere 2 = .ok (.getfield 67, 3) := dk_180 0 67 (dk_at dksX4_sackHere_0 2 rfl rfl)
theorem dX4_sackHere_5 : decode cX4_sackHere 5 = .ok (.iconst 5, 1) := dk_8 (dk_at dksX4_sackHere_0 5 rfl rfl)
theorem dX4_sackHere_6 : decode cX4_sackHere 6 = .ok (.aload_n 0, 1) := dk_42 (dk_at dksX4_sackHere_0 6 rfl rfl)
theorem dX4_sackHere_7 : decode cX4_sackHere 7 = .ok (.getfield 244, 3) := dk_180 0 244 (dk_at dksX4_sackHere_0 7 rfl rfl)
theorem dX4_sackHere_10 : decode cX4_sackHere 10 = .ok (.imul, 1) := dk_104 (dk_at dksX4_sackHere_0 10 rfl rfl)
theorem dX4_sackHere_11 : decode cX4_sackHere 11 = .ok (.aload_n 0, 1) := dk_42 (dk_at dksX4_sackHere_0 11 rfl rfl)
theorem dX4_sackHere_12 : decode cX4_sackHere 12 = .ok (.getfield 24, 3) := dk_180 0 24 (dk_at dksX4_sackHere_0 12 rfl rfl)
theorem dX4_sackHere_15 : decode cX4_sackHere 15 = .ok (.aload_n 0, 1) := dk_42 (dk_at dksX4_sackHere_0 15 rfl rfl)
theorem dX4_sackHere_16 : decode cX4_sackHere 16 = .ok (.getfield 244, 3) := dk_180 0 244 (dk_at dksX4_sackHere_0 16 rfl rfl)
theorem dX4_sackHere_19 : decode cX4_sackHere 19 = .ok (.iaload, 1) := dk_46 (dk_at dksX4_sackHere_0 19 rfl rfl)
theorem dX4_sackHere_20 : decode cX4_sackHere 20 = .ok (.invokevirtual 290, 3) := dk_182 1 34 (dk_at dksX4_sackHere_0 20 rfl rfl)
theorem dX4_sackHere_23 : decode cX4_sackHere 23 = .ok (.ireturn, 1) := dk_172 (dk_at dksX4_sackHere_0 23 rfl rfl)
abbrev cX4_readThing : ByteArray := prog_23_method_25_code
def yX4_readThing : MethodName := ⟨RX4, "readThing", "()V"⟩
def dkwX4_readThing_8 : List UInt8 := [182, 1, 38, 79, 42, 180, 0, 27, 42, 180, 0, 244, 92, 46, 4, 96, 79, 177]
abbrev dktX4_readThing_8 : List UInt8 := dkwX4_readThing_8 ++ []
def dkwX4_readThing_7 : List UInt8 := [42, 20, 0, 163, 182, 0, 233, 153, 0, 21, 42, 182, 0, 227, 42, 180, 0, 54, 27, 42, 42, 182, 1, 22]
abbrev dktX4_readThing_7 : List UInt8 := dkwX4_readThing_7 ++ dktX4_readThing_8
def dkwX4_readThing_6 : List UInt8 := [20, 0, 161, 4, 16, 9, 182, 1, 18, 79, 42, 180, 0, 54, 27, 2, 79, 42, 182, 0, 223, 153, 0, 31]
abbrev dktX4_readThing_6 : List UInt8 := dkwX4_readThing_6 ++ dktX4_readThing_7
def dkwX4_readThing_5 : List UInt8 := [182, 0, 219, 42, 180, 0, 48, 27, 42, 42, 182, 1, 10, 182, 1, 38, 79, 42, 180, 0, 51, 27, 42]
abbrev dktX4_readThing_5 : List UInt8 := dkwX4_readThing_5 ++ dktX4_readThing_6
def dkwX4_readThing_4 : List UInt8 := [153, 0, 25, 42, 182, 1, 10, 42, 180, 0, 45, 27, 46, 160, 0, 12, 42, 6, 42, 180, 0, 188]
abbrev dktX4_readThing_4 : List UInt8 := dkwX4_readThing_4 ++ dktX4_readThing_5
def dkwX4_readThing_3 : List UInt8 := [182, 1, 10, 182, 1, 38, 79, 42, 42, 20, 0, 159, 182, 0, 233, 182, 0, 236, 42, 182, 0, 223]
abbrev dktX4_readThing_3 : List UInt8 := dkwX4_readThing_3 ++ dktX4_readThing_4
def dkwX4_readThing_2 : List UInt8 := [182, 1, 14, 80, 42, 42, 20, 0, 157, 182, 0, 233, 182, 0, 236, 42, 180, 0, 45, 27, 42, 42]
abbrev dktX4_readThing_2 : List UInt8 := dkwX4_readThing_2 ++ dktX4_readThing_3
def dkwX4_readThing_1 : List UInt8 := [42, 42, 180, 0, 70, 16, 10, 42, 180, 0, 244, 104, 42, 180, 0, 27, 42, 180, 0, 244, 46, 182, 1, 34]
abbrev dktX4_readThing_1 : List UInt8 := dkwX4_readThing_1 ++ dktX4_readThing_2
def dkwX4_readThing_0 : List UInt8 := [16, 10, 42, 180, 0, 244, 104, 42, 180, 0, 27, 42, 180, 0, 244, 46, 96, 60, 42, 180, 0, 70, 27, 42]
abbrev dktX4_readThing_0 : List UInt8 := dkwX4_readThing_0 ++ dktX4_readThing_1
theorem dksX4_readThing_0 : cX4_readThing.data.toList.drop 0 = dktX4_readThing_0 := by decide +kernel
theorem dksX4_readThing_1 : cX4_readThing.data.toList.drop 24 = dktX4_readThing_1 := dk_seg dksX4_readThing_0 24 rfl rfl
theorem dksX4_readThing_2 : cX4_readThing.data.toList.drop 48 = dktX4_readThing_2 := dk_seg dksX4_readThing_1 24 rfl rfl
theorem dksX4_readThing_3 : cX4_readThing.data.toList.drop 70 = dktX4_readThing_3 := dk_seg dksX4_readThing_2 22 rfl rfl
theorem dksX4_readThing_4 : cX4_readThing.data.toList.drop 92 = dktX4_readThing_4 := dk_seg dksX4_readThing_3 22 rfl rfl
theorem dksX4_readThing_5 : cX4_readThing.data.toList.drop 114 = dktX4_readThing_5 := dk_seg dksX4_readThing_4 22 rfl rfl
theorem dksX4_readThing_6 : cX4_readThing.data.toList.drop 137 = dktX4_readThing_6 := dk_seg dksX4_readThing_5 23 rfl rfl
theorem dksX4_readThing_7 : cX4_readThing.data.toList.drop 161 = dktX4_readThing_7 := dk_seg dksX4_readThing_6 24 rfl rfl
theorem dksX4_readThing_8 : cX4_readThing.data.toList.drop 185 = dktX4_readThing_8 := dk_seg dksX4_readThing_7 24 rfl rfl
theorem dX4_readThing_0 : decode cX4_readThing 0 = .ok (.bipush 10, 2) := dk_16 10 (dk_at dksX4_readThing_0 0 rfl rfl)
theorem dX4_readThing_2 : decode cX4_readThing 2 = .ok (.aload_n 0, 1) := dk_42 (dk_at dksX4_readThing_0 2 rfl rfl)
theorem dX4_readThing_3 : decode cX4_readThing 3 = .ok (.getfield 244, 3) := dk_180 0 244 (dk_at dksX4_readThing_0 3 rfl rfl)
theorem dX4_readThing_6 : decode cX4_readThing 6 = .ok (.imul, 1) := dk_104 (dk_at dksX4_readThing_0 6 rfl rfl)
theorem dX4_readThing_7 : decode cX4_readThing 7 = .ok (.aload_n 0, 1) := dk_42 (dk_at dksX4_readThing_0 7 rfl rfl)
theorem dX4_readThing_8 : decode cX4_readThing 8 = .ok (.getfield 27, 3) := dk_180 0 27 (dk_at dksX4_readThing_0 8 rfl rfl)
theorem dX4_readThing_11 : decode cX4_readThing 11 = .ok (.aload_n 0, 1) := dk_42 (dk_at dksX4_readThing_0 11 rfl rfl)
theorem dX4_readThing_12 : decode cX4_readThing 12 = .ok (.getfield 244, 3) := dk_180 0 244 (dk_at dksX4_readThing_0 12 rfl rfl)
theorem dX4_readThing_15 : decode cX4_readThing 15 = .ok (.iaload, 1) := dk_46 (dk_at dksX4_readThing_0 15 rfl rfl)
theorem dX4_readThing_16 : decode cX4_readThing 16 = .ok (.iadd, 1) := dk_96 (dk_at dksX4_readThing_0 16 rfl rfl)
theorem dX4_readThing_17 : decode cX4_readThing 17 = .ok (.istore_n 1, 1) := dk_60 (dk_at dksX4_readThing_0 17 rfl rfl)
theorem dX4_readThing_18 : decode cX4_readThing 18 = .ok (.aload_n 0, 1) := dk_42 (dk_at dksX4_readThing_0 18 rfl rfl)
theorem dX4_readThing_19 : decode cX4_readThing 19 = .ok (.getfield 70, 3) := dk_180 0 70 (dk_at dksX4_readThing_0 19 rfl rfl)
theorem dX4_readThing_22 : decode cX4_readThing 22 = .ok (.iload_n 1, 1) := dk_27 (dk_at dksX4_readThing_0 22 rfl rfl)
theorem dX4_readThing_23 : decode cX4_readThing 23 = .ok (.aload_n 0, 1) := dk_42 (dk_at dksX4_readThing_0 23 rfl rfl)
theorem dX4_readThing_24 : decode cX4_readThing 24 = .ok (.aload_n 0, 1) := dk_42 (dk_at dksX4_readThing_1 0 rfl rfl)
theorem dX4_readThing_25 : decode cX4_readThing 25 = .ok (.aload_n 0, 1) := dk_42 (dk_at dksX4_readThing_1 1 rfl rfl)
theorem dX4_readThing_26 : decode cX4_readThing 26 = .ok (.getfield 70, 3) := dk_180 0 70 (dk_at dksX4_readThing_1 2 rfl rfl)
theorem dX4_readThing_29 : decode cX4_readThing 29 = .ok (.bipush 10, 2) := dk_16 10 (dk_at dksX4_readThing_1 5 rfl rfl)
theorem dX4_readThing_31 : decode cX4_readThing 31 = .ok (.aload_n 0, 1) := dk_42 (dk_at dksX4_readThing_1 7 rfl rfl)
theorem dX4_readThing_32 : decode cX4_readThing 32 = .ok (.getfield 244, 3) := dk_180 0 244 (dk_at dksX4_readThing_1 8 rfl rfl)
theorem dX4_readThing_35 : decode cX4_readThing 35 = .ok (.imul, 1) := dk_104 (dk_at dksX4_readThing_1 11 rfl rfl)
theorem dX4_readThing_36 : decode cX4_readThing 36 = .ok (.aload_n 0, 1) := dk_42 (dk_at dksX4_readThing_1 12 rfl rfl)
theorem dX4_readThing_37 : decode cX4_readThing 37 = .ok (.getfield 27, 3) := dk_180 0 27 (dk_at dksX4_readThing_1 13 rfl rfl)
theorem dX4_readThing_40 : decode cX4_readThing 40 = .ok (.aload_n 0, 1) := dk_42 (dk_at dksX4_readThing_1 16 rfl rfl)
theorem dX4_readThing_41 : decode cX4_readThing 41 = .ok (.getfield 244, 3) := dk_180 0 244 (dk_at dksX4_readThing_1 17 rfl rfl)
theorem dX4_readThing_44 : decode cX4_readThing 44 = .ok (.iaload, 1) := dk_46 (dk_at dksX4_readThing_1 20 rfl rfl)
theorem dX4_readThing_45 : decode cX4_readThing 45 = .ok (.invokevirtual 290, 3) := dk_182 1 34 (dk_at dksX4_readThing_1 21 rfl rfl)
theorem dX4_readThing_48 : decode cX4_readThing 48 = .ok (.invokevirtual 270, 3) := dk_182 1 14 (dk_at dksX4_readThing_2 0 rfl rfl)
theorem dX4_readThing_51 : decode cX4_readThing 51 = .ok (.lastore, 1) := dk_80 (dk_at dksX4_readThing_2 3 rfl rfl)
theorem dX4_readThing_52 : decode cX4_readThing 52 = .ok (.aload_n 0, 1) := dk_42 (dk_at dksX4_readThing_2 4 rfl rfl)
theorem dX4_readThing_53 : decode cX4_readThing 53 = .ok (.aload_n 0, 1) := dk_42 (dk_at dksX4_readThing_2 5 rfl rfl)
theorem dX4_readThing_54 : decode cX4_readThing 54 = .ok (.ldc2_w 157, 3) := dk_20 0 157 (dk_at dksX4_readThing_2 6 rfl rfl)
theorem dX4_readThing_57 : decode cX4_readThing 57 = .ok (.invokevirtual 233, 3) := dk_182 0 233 (dk_at dksX4_readThing_2 9 rfl rfl)
theorem dX4_readThing_60 : decode cX4_readThing 60 = .ok (.invokevirtual 236, 3) := dk_182 0 236 (dk_at dksX4_readThing_2 12 rfl rfl)
theorem dX4_readThing_63 : decode cX4_readThing 63 = .ok (.aload_n 0, 1) := dk_42 (dk_at dksX4_readThing_2 15 rfl rfl)
theorem dX4_readThing_64 : decode cX4_readThing 64 = .ok (.getfield 45, 3) := dk_180 0 45 (dk_at dksX4_readThing_2 16 rfl rfl)
theorem dX4_readThing_67 : decode cX4_readThing 67 = .ok (.iload_n 1, 1) := dk_27 (dk_at dksX4_readThing_2 19 rfl rfl)
theorem dX4_readThing_68 : decode cX4_readThing 68 = .ok (.aload_n 0, 1) := dk_42 (dk_at dksX4_readThing_2 20 rfl rfl)
theorem dX4_readThing_69 : decode cX4_readThing 69 = .ok (.aload_n 0, 1) := dk_42 (dk_at dksX4_readThing_2 21 rfl rfl)
theorem dX4_readThing_70 : decode cX4_readThing 70 = .ok (.invokevirtual 266, 3) := dk_182 1 10 (dk_at dksX4_readThing_3 0 rfl rfl)
theorem dX4_readThing_73 : decode cX4_readThing 73 = .ok (.invokevirtual 294, 3) := dk_182 1 38 (dk_at dksX4_readThing_3 3 rfl rfl)
theorem dX4_readThing_76 : decode cX4_readThing 76 = .ok (.iastore, 1) := dk_79 (dk_at dksX4_readThing_3 6 rfl rfl)
theorem dX4_readThing_77 : decode cX4_readThing 77 = .ok (.aload_n 0, 1) := dk_42 (dk_at dksX4_readThing_3 7 rfl rfl)
theorem dX4_readThing_78 : decode cX4_readThing 78 = .ok (.aload_n 0, 1) := dk_42 (dk_at dksX4_readThing_3 8 rfl rfl)
theorem dX4_readThing_79 : decode cX4_readThing 79 = .ok (.ldc2_w 159, 3) := dk_20 0 159 (dk_at dksX4_readThing_3 9 rfl rfl)
theorem dX4_readThing_82 : decode cX4_readThing 82 = .ok (.invokevirtual 233, 3) := dk_182 0 233 (dk_at dksX4_readThing_3 12 rfl rfl)
theorem dX4_readThing_85 : decode cX4_readThing 85 = .ok (.invokevirtual 236, 3) := dk_182 0 236 (dk_at dksX4_readThing_3 15 rfl rfl)
theorem dX4_readThing_88 : decode cX4_readThing 88 = .ok (.aload_n 0, 1) := dk_42 (dk_at dksX4_readThing_3 18 rfl rfl)
theorem dX4_readThing_89 : decode cX4_readThing 89 = .ok (.invokevirtual 223, 3) := dk_182 0 223 (dk_at dksX4_readThing_3 19 rfl rfl)
theorem dX4_readThing_92 : decode cX4_readThing 92 = .ok (.ifCond .eq 25, 3) := dk_153 0 25 (dk_at dksX4_readThing_4 0 rfl rfl)
theorem dX4_readThing_95 : decode cX4_readThing 95 = .ok (.aload_n 0, 1) := dk_42 (dk_at dksX4_readThing_4 3 rfl rfl)
theorem dX4_readThing_96 : decode cX4_readThing 96 = .ok (.invokevirtual 266, 3) := dk_182 1 10 (dk_at dksX4_readThing_4 4 rfl rfl)
theorem dX4_readThing_99 : decode cX4_readThing 99 = .ok (.aload_n 0, 1) := dk_42 (dk_at dksX4_readThing_4 7 rfl rfl)
theorem dX4_readThing_100 : decode cX4_readThing 100 = .ok (.getfield 45, 3) := dk_180 0 45 (dk_at dksX4_readThing_4 8 rfl rfl)
theorem dX4_readThing_103 : decode cX4_readThing 103 = .ok (.iload_n 1, 1) := dk_27 (dk_at dksX4_readThing_4 11 rfl rfl)
theorem dX4_readThing_104 : decode cX4_readThing 104 = .ok (.iaload, 1) := dk_46 (dk_at dksX4_readThing_4 12 rfl rfl)
theorem dX4_readThing_105 : decode cX4_readThing 105 = .ok (.if_icmp .ne 12, 3) := dk_160 0 12 (dk_at dksX4_readThing_4 13 rfl rfl)
theorem dX4_readThing_108 : decode cX4_readThing 108 = .ok (.aload_n 0, 1) := dk_42 (dk_at dksX4_readThing_4 16 rfl rfl)
theorem dX4_readThing_109 : decode cX4_readThing 109 = .ok (.iconst 3, 1) := dk_6 (dk_at dksX4_readThing_4 17 rfl rfl)
theorem dX4_readThing_110 : decode cX4_readThing 110 = .ok (.aload_n 0, 1) := dk_42 (dk_at dksX4_readThing_4 18 rfl rfl)
theorem dX4_readThing_111 : decode cX4_readThing 111 = .ok (.getfield 188, 3) := dk_180 0 188 (dk_at dksX4_readThing_4 19 rfl rfl)
theorem dX4_readThing_114 : decode cX4_readThing 114 = .ok (.invokevirtual 219, 3) := dk_182 0 219 (dk_at dksX4_readThing_5 0 rfl rfl)
theorem dX4_readThing_117 : decode cX4_readThing 117 = .ok (.aload_n 0, 1) := dk_42 (dk_at dksX4_readThing_5 3 rfl rfl)
theorem dX4_readThing_118 : decode cX4_readThing 118 = .ok (.getfield 48, 3) := dk_180 0 48 (dk_at dksX4_readThing_5 4 rfl rfl)
theorem dX4_readThing_121 : decode cX4_readThing 121 = .ok (.iload_n 1, 1) := dk_27 (dk_at dksX4_readThing_5 7 rfl rfl)
theorem dX4_readThing_122 : decode cX4_readThing 122 = .ok (.aload_n 0, 1) := dk_42 (dk_at dksX4_readThing_5 8 rfl rfl)
theorem dX4_readThing_123 : decode cX4_readThing 123 = .ok (.aload_n 0, 1) := dk_42 (dk_at dksX4_readThing_5 9 rfl rfl)
theorem dX4_readThing_124 : decode cX4_readThing 124 = .ok (.invokevirtual 266, 3) := dk_182 1 10 (dk_at dksX4_readThing_5 10 rfl rfl)
theorem dX4_readThing_127 : decode cX4_readThing 127 = .ok (.invokevirtual 294, 3) := dk_182 1 38 (dk_at dksX4_readThing_5 13 rfl rfl)
theorem dX4_readThing_130 : decode cX4_readThing 130 = .ok (.iastore, 1) := dk_79 (dk_at dksX4_readThing_5 16 rfl rfl)
theorem dX4_readThing_131 : decode cX4_readThing 131 = .ok (.aload_n 0, 1) := dk_42 (dk_at dksX4_readThing_5 17 rfl rfl)
theorem dX4_readThing_132 : decode cX4_readThing 132 = .ok (.getfield 51, 3) := dk_180 0 51 (dk_at dksX4_readThing_5 18 rfl rfl)
theorem dX4_readThing_135 : decode cX4_readThing 135 = .ok (.iload_n 1, 1) := dk_27 (dk_at dksX4_readThing_5 21 rfl rfl)
theorem dX4_readThing_136 : decode cX4_readThing 136 = .ok (.aload_n 0, 1) := dk_42 (dk_at dksX4_readThing_5 22 rfl rfl)
theorem dX4_readThing_137 : decode cX4_readThing 137 = .ok (.ldc2_w 161, 3) := dk_20 0 161 (dk_at dksX4_readThing_6 0 rfl rfl)
theorem dX4_readThing_140 : decode cX4_readThing 140 = .ok (.iconst 1, 1) := dk_4 (dk_at dksX4_readThing_6 3 rfl rfl)
theorem dX4_readThing_141 : decode cX4_readThing 141 = .ok (.bipush 9, 2) := dk_16 9 (dk_at dksX4_readThing_6 4 rfl rfl)
theorem dX4_readThing_143 : decode cX4_readThing 143 = .ok (.invokevirtual 274, 3) := dk_182 1 18 (dk_at dksX4_readThing_6 6 rfl rfl)
theorem dX4_readThing_146 : decode cX4_readThing 146 = .ok (.iastore, 1) := dk_79 (dk_at dksX4_readThing_6 9 rfl rfl)
theorem dX4_readThing_147 : decode cX4_readThing 147 = .ok (.aload_n 0, 1) := dk_42 (dk_at dksX4_readThing_6 10 rfl rfl)
theorem dX4_readThing_148 : decode cX4_readThing 148 = .ok (.getfield 54, 3) := dk_180 0 54 (dk_at dksX4_readThing_6 11 rfl rfl)
theorem dX4_readThing_151 : decode cX4_readThing 151 = .ok (.iload_n 1, 1) := dk_27 (dk_at dksX4_readThing_6 14 rfl rfl)
theorem dX4_readThing_152 : decode cX4_readThing 152 = .ok (.iconst (-1), 1) := dk_2 (dk_at dksX4_readThing_6 15 rfl rfl)
theorem dX4_readThing_153 : decode cX4_readThing 153 = .ok (.iastore, 1) := dk_79 (dk_at dksX4_readThing_6 16 rfl rfl)
theorem dX4_readThing_154 : decode cX4_readThing 154 = .ok (.aload_n 0, 1) := dk_42 (dk_at dksX4_readThing_6 17 rfl rfl)
theorem dX4_readThing_155 : decode cX4_readThing 155 = .ok (.invokevirtual 223, 3) := dk_182 0 223 (dk_at dksX4_readThing_6 18 rfl rfl)
theorem dX4_readThing_158 : decode cX4_readThing 158 = .ok (.ifCond .eq 31, 3) := dk_153 0 31 (dk_at dksX4_readThing_6 21 rfl rfl)
theorem dX4_readThing_161 : decode cX4_readThing 161 = .ok (.aload_n 0, 1) := dk_42 (dk_at dksX4_readThing_7 0 rfl rfl)
theorem dX4_readThing_162 : decode cX4_readThing 162 = .ok (.ldc2_w 163, 3) := dk_20 0 163 (dk_at dksX4_readThing_7 1 rfl rfl)
theorem dX4_readThing_165 : decode cX4_readThing 165 = .ok (.invokevirtual 233, 3) := dk_182 0 233 (dk_at dksX4_readThing_7 4 rfl rfl)
theorem dX4_readThing_168 : decode cX4_readThing 168 = .ok (.ifCond .eq 21, 3) := dk_153 0 21 (dk_at dksX4_readThing_7 7 rfl rfl)
theorem dX4_readThing_171 : decode cX4_readThing 171 = .ok (.aload_n 0, 1) := dk_42 (dk_at dksX4_readThing_7 10 rfl rfl)
theorem dX4_readThing_172 : decode cX4_readThing 172 = .ok (.invokevirtual 227, 3) := dk_182 0 227 (dk_at dksX4_readThing_7 11 rfl rfl)
theorem dX4_readThing_175 : decode cX4_readThing 175 = .ok (.aload_n 0, 1) := dk_42 (dk_at dksX4_readThing_7 14 rfl rfl)
theorem dX4_readThing_176 : decode cX4_readThing 176 = .ok (.getfield 54, 3) := dk_180 0 54 (dk_at dksX4_readThing_7 15 rfl rfl)
theorem dX4_readThing_179 : decode cX4_readThing 179 = .ok (.iload_n 1, 1) := dk_27 (dk_at dksX4_readThing_7 18 rfl rfl)
theorem dX4_readThing_180 : decode cX4_readThing 180 = .ok (.aload_n 0, 1) := dk_42 (dk_at dksX4_readThing_7 19 rfl rfl)
theorem dX4_readThing_181 : decode cX4_readThing 181 = .ok (.aload_n 0, 1) := dk_42 (dk_at dksX4_readThing_7 20 rfl rfl)
theorem dX4_readThing_182 : decode cX4_readThing 182 = .ok (.invokevirtual 278, 3) := dk_182 1 22 (dk_at dksX4_readThing_7 21 rfl rfl)
theorem dX4_readThing_185 : decode cX4_readThing 185 = .ok (.invokevirtual 294, 3) := dk_182 1 38 (dk_at dksX4_readThing_8 0 rfl rfl)
theorem dX4_readThing_188 : decode cX4_readThing 188 = .ok (.iastore, 1) := dk_79 (dk_at dksX4_readThing_8 3 rfl rfl)
theorem dX4_readThing_189 : decode cX4_readThing 189 = .ok (.aload_n 0, 1) := dk_42 (dk_at dksX4_readThing_8 4 rfl rfl)
theorem dX4_readThing_190 : decode cX4_readThing 190 = .ok (.getfield 27, 3) := dk_180 0 27 (dk_at dksX4_readThing_8 5 rfl rfl)
theorem dX4_readThing_193 : decode cX4_readThing 193 = .ok (.aload_n 0, 1) := dk_42 (dk_at dksX4_readThing_8 8 rfl rfl)
theorem dX4_readThing_194 : decode cX4_readThing 194 = .ok (.getfield 244, 3) := dk_180 0 244 (dk_at dksX4_readThing_8 9 rfl rfl)
theorem dX4_readThing_197 : decode cX4_readThing 197 = .ok (.dup2, 1) := dk_92 (dk_at dksX4_readThing_8 12 rfl rfl)
theorem dX4_readThing_198 : decode cX4_readThing 198 = .ok (.iaload, 1) := dk_46 (dk_at dksX4_readThing_8 13 rfl rfl)
theorem dX4_readThing_199 : decode cX4_readThing 199 = .ok (.iconst 1, 1) := dk_4 (dk_at dksX4_readThing_8 14 rfl rfl)
theorem dX4_readThing_200 : decode cX4_readThing 200 = .ok (.iadd, 1) := dk_96 (dk_at dksX4_readThing_8 15 rfl rfl)
theorem dX4_readThing_201 : decode cX4_readThing 201 = .ok (.iastore, 1) := dk_79 (dk_at dksX4_readThing_8 16 rfl rfl)
theorem dX4_readThing_202 : decode cX4_readThing 202 = .ok (.return_, 1) := dk_177 (dk_at dksX4_readThing_8 17 rfl rfl)
abbrev cX4_known : ByteArray := prog_23_method_24_code
def yX4_known : MethodName := ⟨RX4, "known", "(I)I"⟩
def dkwX4_known_2 : List UInt8 := [3, 167, 0, 4, 27, 172]
abbrev dktX4_known_2 : List UInt8 := dkwX4_known_2 ++ []
def dkwX4_known_1 : List UInt8 := [27, 156, 0, 15, 42, 8, 42, 180, 0, 188, 182, 0, 219, 167, 0, 7, 42, 182, 0, 227, 27, 156, 0, 7]
abbrev dktX4_known_1 : List UInt8 := dkwX4_known_1 ++ dktX4_known_2
def dkwX4_known_0 : List UInt8 := [42, 182, 0, 223, 154, 0, 5, 3, 172, 42, 180, 0, 195, 5, 159, 0, 10, 42, 182, 0, 230, 167, 0, 23]
abbrev dktX4_known_0 : List UInt8 := dkwX4_known_0 ++ dktX4_known_1
theorem dksX4_known_0 : cX4_known.data.toList.drop 0 = dktX4_known_0 := by decide +kernel
theorem dksX4_known_1 : cX4_known.data.toList.drop 24 = dktX4_known_1 := dk_seg dksX4_known_0 24 rfl rfl
theorem dksX4_known_2 : cX4_known.data.toList.drop 48 = dktX4_known_2 := dk_seg dksX4_known_1 24 rfl rfl
theorem dX4_known_0 : decode cX4_known 0 = .ok (.aload_n 0, 1) := dk_42 (dk_at dksX4_known_0 0 rfl rfl)
theorem dX4_known_1 : decode cX4_known 1 = .ok (.invokevirtual 223, 3) := dk_182 0 223 (dk_at dksX4_known_0 1 rfl rfl)
theorem dX4_known_4 : decode cX4_known 4 = .ok (.ifCond .ne 5, 3) := dk_154 0 5 (dk_at dksX4_known_0 4 rfl rfl)
theorem dX4_known_7 : decode cX4_known 7 = .ok (.iconst 0, 1) := dk_3 (dk_at dksX4_known_0 7 rfl rfl)
theorem dX4_known_8 : decode cX4_known 8 = .ok (.ireturn, 1) := dk_172 (dk_at dksX4_known_0 8 rfl rfl)
theorem dX4_known_9 : decode cX4_known 9 = .ok (.aload_n 0, 1) := dk_42 (dk_at dksX4_known_0 9 rfl rfl)
theorem dX4_known_10 : decode cX4_known 10 = .ok (.getfield 195, 3) := dk_180 0 195 (dk_at dksX4_known_0 10 rfl rfl)
theorem dX4_known_13 : decode cX4_known 13 = .ok (.iconst 2, 1) := dk_5 (dk_at dksX4_known_0 13 rfl rfl)
theorem dX4_known_14 : decode cX4_known 14 = .ok (.if_icmp .eq 10, 3) := dk_159 0 10 (dk_at dksX4_known_0 14 rfl rfl)
theorem dX4_known_17 : decode cX4_known 17 = .ok (.aload_n 0, 1) := dk_42 (dk_at dksX4_known_0 17 rfl rfl)
theorem dX4_known_18 : decode cX4_known 18 = .ok (.invokevirtual 230, 3) := dk_182 0 230 (dk_at dksX4_known_0 18 rfl rfl)
theorem dX4_known_21 : decode cX4_known 21 = .ok (.goto 23, 3) := dk_167 0 23 (dk_at dksX4_known_0 21 rfl rfl)
theorem dX4_known_24 : decode cX4_known 24 = .ok (.iload_n 1, 1) := dk_27 (dk_at dksX4_known_1 0 rfl rfl)
theorem dX4_known_25 : decode cX4_known 25 = .ok (.ifCond .ge 15, 3) := dk_156 0 15 (dk_at dksX4_known_1 1 rfl rfl)
theorem dX4_known_28 : decode cX4_known 28 = .ok (.aload_n 0, 1) := dk_42 (dk_at dksX4_known_1 4 rfl rfl)
theorem dX4_known_29 : decode cX4_known 29 = .ok (.iconst 5, 1) := dk_8 (dk_at dksX4_known_1 5 rfl rfl)
theorem dX4_known_30 : decode cX4_known 30 = .ok (.aload_n 0, 1) := dk_42 (dk_at dksX4_known_1 6 rfl rfl)
theorem dX4_known_31 : decode cX4_known 31 = .ok (.getfield 188, 3) := dk_180 0 188 (dk_at dksX4_known_1 7 rfl rfl)
theorem dX4_known_34 : decode cX4_known 34 = .ok (.invokevirtual 219, 3) := dk_182 0 219 (dk_at dksX4_known_1 10 rfl rfl)
theorem dX4_known_37 : decode cX4_known 37 = .ok (.goto 7, 3) := dk_167 0 7 (dk_at dksX4_known_1 13 rfl rfl)
theorem dX4_known_40 : decode cX4_known 40 = .ok (.aload_n 0, 1) := dk_42 (dk_at dksX4_known_1 16 rfl rfl)
theorem dX4_known_41 : decode cX4_known 41 = .ok (.invokevirtual 227, 3) := dk_182 0 227 (dk_at dksX4_known_1 17 rfl rfl)
theorem dX4_known_44 : decode cX4_known 44 = .ok (.iload_n 1, 1) := dk_27 (dk_at dksX4_known_1 20 rfl rfl)
theorem dX4_known_45 : decode cX4_known 45 = .ok (.ifCond .ge 7, 3) := dk_156 0 7 (dk_at dksX4_known_1 21 rfl rfl)
theorem dX4_known_48 : decode cX4_known 48 = .ok (.iconst 0, 1) := dk_3 (dk_at dksX4_known_2 0 rfl rfl)
theorem dX4_known_49 : decode cX4_known 49 = .ok (.goto 4, 3) := dk_167 0 4 (dk_at dksX4_known_2 1 rfl rfl)
theorem dX4_known_52 : decode cX4_known 52 = .ok (.iload_n 1, 1) := dk_27 (dk_at dksX4_known_2 4 rfl rfl)
theorem dX4_known_53 : decode cX4_known 53 = .ok (.ireturn, 1) := dk_172 (dk_at dksX4_known_2 5 rfl rfl)
abbrev cX4_readRule : ByteArray := prog_23_method_26_code
def yX4_readRule : MethodName := ⟨RX4, "readRule", "()V"⟩
def dkwX4_readRule_2 : List UInt8 := [79, 177]
abbrev dktX4_readRule_2 : List UInt8 := dkwX4_readRule_2 ++ []
def dkwX4_readRule_1 : List UInt8 := [180, 0, 244, 42, 180, 0, 247, 79, 42, 182, 1, 44, 42, 180, 0, 60, 42, 180, 0, 244, 42, 180, 0, 247]
abbrev dktX4_readRule_1 : List UInt8 := dkwX4_readRule_1 ++ dktX4_readRule_2
def dkwX4_readRule_0 : List UInt8 := [42, 180, 0, 39, 42, 180, 0, 244, 92, 46, 4, 128, 79, 42, 3, 181, 1, 41, 42, 180, 0, 57, 42]
abbrev dktX4_readRule_0 : List UInt8 := dkwX4_readRule_0 ++ dktX4_readRule_1
theorem dksX4_readRule_0 : cX4_readRule.data.toList.drop 0 = dktX4_readRule_0 := by decide +kernel
theorem dksX4_readRule_1 : cX4_readRule.data.toList.drop 23 = dktX4_readRule_1 := dk_seg dksX4_readRule_0 23 rfl rfl
theorem dksX4_readRule_2 : cX4_readRule.data.toList.drop 47 = dktX4_readRule_2 := dk_seg dksX4_readRule_1 24 rfl rfl
theorem dX4_readRule_0 : decode cX4_readRule 0 = .ok (.aload_n 0, 1) := dk_42 (dk_at dksX4_readRule_0 0 rfl rfl)
theorem dX4_readRule_1 : decode cX4_readRule 1 = .ok (.getfield 39, 3) := dk_180 0 39 (dk_at dksX4_readRule_0 1 rfl rfl)
theorem dX4_readRule_4 : decode cX4_readRule 4 = .ok (.aload_n 0, 1) := dk_42 (dk_at dksX4_readRule_0 4 rfl rfl)
theorem dX4_readRule_5 : decode cX4_readRule 5 = .ok (.getfield 244, 3) := dk_180 0 244 (dk_at dksX4_readRule_0 5 rfl rfl)
theorem dX4_readRule_8 : decode cX4_readRule 8 = .ok (.dup2, 1) := dk_92 (dk_at dksX4_readRule_0 8 rfl rfl)
theorem dX4_readRule_9 : decode cX4_readRule 9 = .ok (.iaload, 1) := dk_46 (dk_at dksX4_readRule_0 9 rfl rfl)
theorem dX4_readRule_10 : decode cX4_readRule 10 = .ok (.iconst 1, 1) := dk_4 (dk_at dksX4_readRule_0 10 rfl rfl)
theorem dX4_readRule_11 : decode cX4_readRule 11 = .ok (.ior, 1) := dk_128 (dk_at dksX4_readRule_0 11 rfl rfl)
theorem dX4_readRule_12 : decode cX4_readRule 12 = .ok (.iastore, 1) := dk_79 (dk_at dksX4_readRule_0 12 rfl rfl)
theorem dX4_readRule_13 : decode cX4_readRule 13 = .ok (.aload_n 0, 1) := dk_42 (dk_at dksX4_readRule_0 13 rfl rfl)
theorem dX4_readRule_14 : decode cX4_readRule 14 = .ok (.iconst 0, 1) := dk_3 (dk_at dksX4_readRule_0 14 rfl rfl)
theorem dX4_readRule_15 : decode cX4_readRule 15 = .ok (.putfield 297, 3) := dk_181 1 41 (dk_at dksX4_readRule_0 15 rfl rfl)
theorem dX4_readRule_18 : decode cX4_readRule 18 = .ok (.aload_n 0, 1) := dk_42 (dk_at dksX4_readRule_0 18 rfl rfl)
theorem dX4_readRule_19 : decode cX4_readRule 19 = .ok (.getfield 57, 3) := dk_180 0 57 (dk_at dksX4_readRule_0 19 rfl rfl)
theorem dX4_readRule_22 : decode cX4_readRule 22 = .ok (.aload_n 0, 1) := dk_42 (dk_at dksX4_readRule_0 22 rfl rfl)
theorem dX4_readRule_23 : decode cX4_readRule 23 = .ok (.getfield 244, 3) := dk_180 0 244 (dk_at dksX4_readRule_1 0 rfl rfl)
theorem dX4_readRule_26 : decode cX4_readRule 26 = .ok (.aload_n 0, 1) := dk_42 (dk_at dksX4_readRule_1 3 rfl rfl)
theorem dX4_readRule_27 : decode cX4_readRule 27 = .ok (.getfield 247, 3) := dk_180 0 247 (dk_at dksX4_readRule_1 4 rfl rfl)
theorem dX4_readRule_30 : decode cX4_readRule 30 = .ok (.iastore, 1) := dk_79 (dk_at dksX4_readRule_1 7 rfl rfl)
theorem dX4_readRule_31 : decode cX4_readRule 31 = .ok (.aload_n 0, 1) := dk_42 (dk_at dksX4_readRule_1 8 rfl rfl)
theorem dX4_readRule_32 : decode cX4_readRule 32 = .ok (.invokevirtual 300, 3) := dk_182 1 44 (dk_at dksX4_readRule_1 9 rfl rfl)
theorem dX4_readRule_35 : decode cX4_readRule 35 = .ok (.aload_n 0, 1) := dk_42 (dk_at dksX4_readRule_1 12 rfl rfl)
theorem dX4_readRule_36 : decode cX4_readRule 36 = .ok (.getfield 60, 3) := dk_180 0 60 (dk_at dksX4_readRule_1 13 rfl rfl)
theorem dX4_readRule_39 : decode cX4_readRule 39 = .ok (.aload_n 0, 1) := dk_42 (dk_at dksX4_readRule_1 16 rfl rfl)
theorem dX4_readRule_40 : decode cX4_readRule 40 = .ok (.getfield 244, 3) := dk_180 0 244 (dk_at dksX4_readRule_1 17 rfl rfl)
theorem dX4_readRule_43 : decode cX4_readRule 43 = .ok (.aload_n 0, 1) := dk_42 (dk_at dksX4_readRule_1 20 rfl rfl)
theorem dX4_readRule_44 : decode cX4_readRule 44 = .ok (.getfield 247, 3) := dk_180 0 247 (dk_at dksX4_readRule_1 21 rfl rfl)
theorem dX4_readRule_47 : decode cX4_readRule 47 = .ok (.iastore, 1) := dk_79 (dk_at dksX4_readRule_2 0 rfl rfl)
theorem dX4_readRule_48 : decode cX4_readRule 48 = .ok (.return_, 1) := dk_177 (dk_at dksX4_readRule_2 1 rfl rfl)
abbrev cX4_e : ByteArray := prog_23_method_29_code
def yX4_e : MethodName := ⟨RX4, "e", "()V"⟩
def dkwX4_e_2 : List UInt8 := [182, 1, 59, 60, 167, 255, 226, 177]
abbrev dktX4_e_2 : List UInt8 := dkwX4_e_2 ++ []
def dkwX4_e_1 : List UInt8 := [153, 0, 29, 42, 180, 1, 47, 158, 0, 22, 27, 153, 0, 10, 42, 182, 1, 56, 167, 0, 7, 42]
abbrev dktX4_e_1 : List UInt8 := dkwX4_e_1 ++ dktX4_e_2
def dkwX4_e_0 : List UInt8 := [42, 3, 181, 1, 47, 42, 3, 181, 1, 50, 42, 16, 8, 3, 182, 1, 53, 4, 60, 42, 182, 0, 223]
abbrev dktX4_e_0 : List UInt8 := dkwX4_e_0 ++ dktX4_e_1
theorem dksX4_e_0 : cX4_e.data.toList.drop 0 = dktX4_e_0 := by decide +kernel
theorem dksX4_e_1 : cX4_e.data.toList.drop 23 = dktX4_e_1 := dk_seg dksX4_e_0 23 rfl rfl
theorem dksX4_e_2 : cX4_e.data.toList.drop 45 = dktX4_e_2 := dk_seg dksX4_e_1 22 rfl rfl
theorem dX4_e_0 : decode cX4_e 0 = .ok (.aload_n 0, 1) := dk_42 (dk_at dksX4_e_0 0 rfl rfl)
theorem dX4_e_1 : decode cX4_e 1 = .ok (.iconst 0, 1) := dk_3 (dk_at dksX4_e_0 1 rfl rfl)
theorem dX4_e_2 : decode cX4_e 2 = .ok (.putfield 303, 3) := dk_181 1 47 (dk_at dksX4_e_0 2 rfl rfl)
theorem dX4_e_5 : decode cX4_e 5 = .ok (.aload_n 0, 1) := dk_42 (dk_at dksX4_e_0 5 rfl rfl)
theorem dX4_e_6 : decode cX4_e 6 = .ok (.iconst 0, 1) := dk_3 (dk_at dksX4_e_0 6 rfl rfl)
theorem dX4_e_7 : decode cX4_e 7 = .ok (.putfield 306, 3) := dk_181 1 50 (dk_at dksX4_e_0 7 rfl rfl)
theorem dX4_e_10 : decode cX4_e 10 = .ok (.aload_n 0, 1) := dk_42 (dk_at dksX4_e_0 10 rfl rfl)
theorem dX4_e_11 : decode cX4_e 11 = .ok (.bipush 8, 2) := dk_16 8 (dk_at dksX4_e_0 11 rfl rfl)
theorem dX4_e_13 : decode cX4_e 13 = .ok (.iconst 0, 1) := dk_3 (dk_at dksX4_e_0 13 rfl rfl)
theorem dX4_e_14 : decode cX4_e 14 = .ok (.invokevirtual 309, 3) := dk_182 1 53 (dk_at dksX4_e_0 14 rfl rfl)
theorem dX4_e_17 : decode cX4_e 17 = .ok (.iconst 1, 1) := dk_4 (dk_at dksX4_e_0 17 rfl rfl)
theorem dX4_e_18 : decode cX4_e 18 = .ok (.istore_n 1, 1) := dk_60 (dk_at dksX4_e_0 18 rfl rfl)
theorem dX4_e_19 : decode cX4_e 19 = .ok (.aload_n 0, 1) := dk_42 (dk_at dksX4_e_0 19 rfl rfl)
theorem dX4_e_20 : decode cX4_e 20 = .ok (.invokevirtual 223, 3) := dk_182 0 223 (dk_at dksX4_e_0 20 rfl rfl)
theorem dX4_e_23 : decode cX4_e 23 = .ok (.ifCond .eq 29, 3) := dk_153 0 29 (dk_at dksX4_e_1 0 rfl rfl)
theorem dX4_e_26 : decode cX4_e 26 = .ok (.aload_n 0, 1) := dk_42 (dk_at dksX4_e_1 3 rfl rfl)
theorem dX4_e_27 : decode cX4_e 27 = .ok (.getfield 303, 3) := dk_180 1 47 (dk_at dksX4_e_1 4 rfl rfl)
theorem dX4_e_30 : decode cX4_e 30 = .ok (.ifCond .le 22, 3) := dk_158 0 22 (dk_at dksX4_e_1 7 rfl rfl)
theorem dX4_e_33 : decode cX4_e 33 = .ok (.iload_n 1, 1) := dk_27 (dk_at dksX4_e_1 10 rfl rfl)
theorem dX4_e_34 : decode cX4_e 34 = .ok (.ifCond .eq 10, 3) := dk_153 0 10 (dk_at dksX4_e_1 11 rfl rfl)
theorem dX4_e_37 : decode cX4_e 37 = .ok (.aload_n 0, 1) := dk_42 (dk_at dksX4_e_1 14 rfl rfl)
theorem dX4_e_38 : decode cX4_e 38 = .ok (.invokevirtual 312, 3) := dk_182 1 56 (dk_at dksX4_e_1 15 rfl rfl)
theorem dX4_e_41 : decode cX4_e 41 = .ok (.goto 7, 3) := dk_167 0 7 (dk_at dksX4_e_1 18 rfl rfl)
theorem dX4_e_44 : decode cX4_e 44 = .ok (.aload_n 0, 1) := dk_42 (dk_at dksX4_e_1 21 rfl rfl)
theorem dX4_e_45 : decode cX4_e 45 = .ok (.invokevirtual 315, 3) := dk_182 1 59 (dk_at dksX4_e_2 0 rfl rfl)
theorem dX4_e_48 : decode cX4_e 48 = .ok (.istore_n 1, 1) := dk_60 (dk_at dksX4_e_2 3 rfl rfl)
theorem dX4_e_49 : decode cX4_e 49 = .ok (.goto (-30), 3) := dk_167 255 226 (dk_at dksX4_e_2 4 rfl rfl)
theorem dX4_e_52 : decode cX4_e 52 = .ok (.return_, 1) := dk_177 (dk_at dksX4_e_2 7 rfl rfl)
abbrev cX4_pushE : ByteArray := prog_23_method_28_code
def yX4_pushE : MethodName := ⟨RX4, "pushE", "(II)V"⟩
def dkwX4_pushE_1 : List UInt8 := [180, 1, 47, 4, 96, 181, 1, 47, 177]
abbrev dktX4_pushE_1 : List UInt8 := dkwX4_pushE_1 ++ []
def dkwX4_pushE_0 : List UInt8 := [42, 180, 0, 79, 42, 180, 1, 47, 27, 79, 42, 180, 0, 82, 42, 180, 1, 47, 28, 79, 42, 89]
abbrev dktX4_pushE_0 : List UInt8 := dkwX4_pushE_0 ++ dktX4_pushE_1
theorem dksX4_pushE_0 : cX4_pushE.data.toList.drop 0 = dktX4_pushE_0 := by decide +kernel
theorem dksX4_pushE_1 : cX4_pushE.data.toList.drop 22 = dktX4_pushE_1 := dk_seg dksX4_pushE_0 22 rfl rfl
theorem dX4_pushE_0 : decode cX4_pushE 0 = .ok (.aload_n 0, 1) := dk_42 (dk_at dksX4_pushE_0 0 rfl rfl)
theorem dX4_pushE_1 : decode cX4_pushE 1 = .ok (.getfield 79, 3) := dk_180 0 79 (dk_at dksX4_pushE_0 1 rfl rfl)
theorem dX4_pushE_4 : decode cX4_pushE 4 = .ok (.aload_n 0, 1) := dk_42 (dk_at dksX4_pushE_0 4 rfl rfl)
theorem dX4_pushE_5 : decode cX4_pushE 5 = .ok (.getfield 303, 3) := dk_180 1 47 (dk_at dksX4_pushE_0 5 rfl rfl)
theorem dX4_pushE_8 : decode cX4_pushE 8 = .ok (.iload_n 1, 1) := dk_27 (dk_at dksX4_pushE_0 8 rfl rfl)
theorem dX4_pushE_9 : decode cX4_pushE 9 = .ok (.iastore, 1) := dk_79 (dk_at dksX4_pushE_0 9 rfl rfl)
theorem dX4_pushE_10 : decode cX4_pushE 10 = .ok (.aload_n 0, 1) := dk_42 (dk_at dksX4_pushE_0 10 rfl rfl)
theorem dX4_pushE_11 : decode cX4_pushE 11 = .ok (.getfield 82, 3) := dk_180 0 82 (dk_at dksX4_pushE_0 11 rfl rfl)
theorem dX4_pushE_14 : decode cX4_pushE 14 = .ok (.aload_n 0, 1) := dk_42 (dk_at dksX4_pushE_0 14 rfl rfl)
theorem dX4_pushE_15 : decode cX4_pushE 15 = .ok (.getfield 303, 3) := dk_180 1 47 (dk_at dksX4_pushE_0 15 rfl rfl)
theorem dX4_pushE_18 : decode cX4_pushE 18 = .ok (.iload_n 2, 1) := dk_28 (dk_at dksX4_pushE_0 18 rfl rfl)
theorem dX4_pushE_19 : decode cX4_pushE 19 = .ok (.iastore, 1) := dk_79 (dk_at dksX4_pushE_0 19 rfl rfl)
theorem dX4_pushE_20 : decode cX4_pushE 20 = .ok (.aload_n 0, 1) := dk_42 (dk_at dksX4_pushE_0 20 rfl rfl)
theorem dX4_pushE_21 : decode cX4_pushE 21 = .ok (.dup, 1) := dk_89 (dk_at dksX4_pushE_0 21 rfl rfl)
theorem dX4_pushE_22 : decode cX4_pushE 22 = .ok (.getfield 303, 3) := dk_180 1 47 (dk_at dksX4_pushE_1 0 rfl rfl)
theorem dX4_pushE_25 : decode cX4_pushE 25 = .ok (.iconst 1, 1) := dk_4 (dk_at dksX4_pushE_1 3 rfl rfl)
theorem dX4_pushE_26 : decode cX4_pushE 26 = .ok (.iadd, 1) := dk_96 (dk_at dksX4_pushE_1 4 rfl rfl)
theorem dX4_pushE_27 : decode cX4_pushE 27 = .ok (.putfield 303, 3) := dk_181 1 47 (dk_at dksX4_pushE_1 5 rfl rfl)
theorem dX4_pushE_30 : decode cX4_pushE 30 = .ok (.return_, 1) := dk_177 (dk_at dksX4_pushE_1 8 rfl rfl)
abbrev cX4_unit : ByteArray := prog_23_method_31_code
def yX4_unit : MethodName := ⟨RX4, "unit", "()Z"⟩
def dkwX4_unit_11 : List UInt8 := [167, 0, 5, 21, 4, 21, 6, 182, 1, 65, 3, 172]
abbrev dktX4_unit_11 : List UInt8 := dkwX4_unit_11 ++ []
def dkwX4_unit_10 : List UInt8 := [182, 1, 53, 42, 89, 180, 1, 50, 4, 96, 181, 1, 50, 4, 172, 42, 21, 4, 154, 0, 8, 16, 110]
abbrev dktX4_unit_10 : List UInt8 := dkwX4_unit_10 ++ dktX4_unit_11
def dkwX4_unit_9 : List UInt8 := [182, 0, 227, 28, 154, 0, 7, 29, 153, 0, 31, 42, 28, 153, 0, 7, 6, 167, 0, 5, 16, 7, 16, 126]
abbrev dktX4_unit_9 : List UInt8 := dkwX4_unit_9 ++ dktX4_unit_10
def dkwX4_unit_8 : List UInt8 := [167, 0, 4, 4, 96, 181, 1, 41, 21, 4, 154, 0, 10, 42, 180, 0, 213, 167, 0, 4, 3, 54, 6, 42]
abbrev dktX4_unit_8 : List UInt8 := dkwX4_unit_8 ++ dktX4_unit_9
def dkwX4_unit_7 : List UInt8 := [92, 46, 28, 153, 0, 7, 3, 167, 0, 4, 4, 96, 79, 42, 89, 180, 1, 41, 28, 153, 0, 7, 3]
abbrev dktX4_unit_7 : List UInt8 := dkwX4_unit_7 ++ dktX4_unit_8
def dkwX4_unit_6 : List UInt8 := [160, 0, 7, 42, 182, 0, 230, 42, 182, 0, 223, 154, 0, 5, 4, 172, 42, 180, 0, 30, 42, 180, 0, 244]
abbrev dktX4_unit_6 : List UInt8 := dkwX4_unit_6 ++ dktX4_unit_7
def dkwX4_unit_5 : List UInt8 := [153, 0, 25, 21, 5, 154, 0, 20, 28, 154, 0, 7, 29, 153, 0, 16, 42, 180, 1, 50, 16, 7]
abbrev dktX4_unit_5 : List UInt8 := dkwX4_unit_5 ++ dktX4_unit_6
def dkwX4_unit_4 : List UInt8 := [167, 0, 4, 3, 54, 5, 28, 154, 0, 25, 21, 4, 154, 0, 15, 42, 180, 0, 195, 7, 159, 0, 7, 29]
abbrev dktX4_unit_4 : List UInt8 := dkwX4_unit_4 ++ dktX4_unit_5
def dkwX4_unit_3 : List UInt8 := [180, 0, 30, 42, 180, 0, 244, 46, 16, 60, 159, 0, 12, 42, 180, 1, 41, 16, 30, 160, 0, 7, 4]
abbrev dktX4_unit_3 : List UInt8 := dkwX4_unit_3 ++ dktX4_unit_4
def dkwX4_unit_2 : List UInt8 := [153, 0, 7, 4, 167, 0, 4, 3, 61, 42, 16, 40, 182, 1, 31, 62, 42, 182, 1, 62, 54, 4, 42]
abbrev dktX4_unit_2 : List UInt8 := dkwX4_unit_2 ++ dktX4_unit_3
def dkwX4_unit_1 : List UInt8 := [100, 46, 16, 7, 161, 0, 7, 4, 167, 0, 4, 3, 60, 27, 153, 0, 17, 42, 20, 0, 183, 182, 0, 233]
abbrev dktX4_unit_1 : List UInt8 := dkwX4_unit_1 ++ dktX4_unit_2
def dkwX4_unit_0 : List UInt8 := [42, 180, 0, 79, 42, 180, 1, 47, 4, 100, 46, 6, 164, 0, 19, 42, 180, 0, 79, 42, 180, 1, 47, 4]
abbrev dktX4_unit_0 : List UInt8 := dkwX4_unit_0 ++ dktX4_unit_1
theorem dksX4_unit_0 : cX4_unit.data.toList.drop 0 = dktX4_unit_0 := by decide +kernel
theorem dksX4_unit_1 : cX4_unit.data.toList.drop 24 = dktX4_unit_1 := dk_seg dksX4_unit_0 24 rfl rfl
theorem dksX4_unit_2 : cX4_unit.data.toList.drop 48 = dktX4_unit_2 := dk_seg dksX4_unit_1 24 rfl rfl
theorem dksX4_unit_3 : cX4_unit.data.toList.drop 71 = dktX4_unit_3 := dk_seg dksX4_unit_2 23 rfl rfl
theorem dksX4_unit_4 : cX4_unit.data.toList.drop 94 = dktX4_unit_4 := dk_seg dksX4_unit_3 23 rfl rfl
theorem dksX4_unit_5 : cX4_unit.data.toList.drop 118 = dktX4_unit_5 := dk_seg dksX4_unit_4 24 rfl rfl
theorem dksX4_unit_6 : cX4_unit.data.toList.drop 140 = dktX4_unit_6 := dk_seg dksX4_unit_5 22 rfl rfl
theorem dksX4_unit_7 : cX4_unit.data.toList.drop 164 = dktX4_unit_7 := dk_seg dksX4_unit_6 24 rfl rfl
theorem dksX4_unit_8 : cX4_unit.data.toList.drop 187 = dktX4_unit_8 := dk_seg dksX4_unit_7 23 rfl rfl
theorem dksX4_unit_9 : cX4_unit.data.toList.drop 211 = dktX4_unit_9 := dk_seg dksX4_unit_8 24 rfl rfl
theorem dksX4_unit_10 : cX4_unit.data.toList.drop 235 = dktX4_unit_10 := dk_seg dksX4_unit_9 24 rfl rfl
theorem dksX4_unit_11 : cX4_unit.data.toList.drop 258 = dktX4_unit_11 := dk_seg dksX4_unit_10 23 rfl rfl
theorem dX4_unit_0 : decode cX4_unit 0 = .ok (.aload_n 0, 1) := dk_42 (dk_at dksX4_unit_0 0 rfl rfl)
theorem dX4_unit_1 : decode cX4_unit 1 = .ok (.getfield 79, 3) := dk_180 0 79 (dk_at dksX4_unit_0 1 rfl rfl)
theorem dX4_unit_4 : decode cX4_unit 4 = .ok (.aload_n 0, 1) := dk_42 (dk_at dksX4_unit_0 4 rfl rfl)
theorem dX4_unit_5 : decode cX4_unit 5 = .ok (.getfield 303, 3) := dk_180 1 47 (dk_at dksX4_unit_0 5 rfl rfl)
theorem dX4_unit_8 : decode cX4_unit 8 = .ok (.iconst 1, 1) := dk_4 (dk_at dksX4_unit_0 8 rfl rfl)
theorem dX4_unit_9 : decode cX4_unit 9 = .ok (.isub, 1) := dk_100 (dk_at dksX4_unit_0 9 rfl rfl)
theorem dX4_unit_10 : decode cX4_unit 10 = .ok (.iaload, 1) := dk_46 (dk_at dksX4_unit_0 10 rfl rfl)
theorem dX4_unit_11 : decode cX4_unit 11 = .ok (.iconst 3, 1) := dk_6 (dk_at dksX4_unit_0 11 rfl rfl)
theorem dX4_unit_12 : decode cX4_unit 12 = .ok (.if_icmp .le 19, 3) := dk_164 0 19 (dk_at dksX4_unit_0 12 rfl rfl)
theorem dX4_unit_15 : decode cX4_unit 15 = .ok (.aload_n 0, 1) := dk_42 (dk_at dksX4_unit_0 15 rfl rfl)
theorem dX4_unit_16 : decode cX4_unit 16 = .ok (.getfield 79, 3) := dk_180 0 79 (dk_at dksX4_unit_0 16 rfl rfl)
theorem dX4_unit_19 : decode cX4_unit 19 = .ok (.aload_n 0, 1) := dk_42 (dk_at dksX4_unit_0 19 rfl rfl)
theorem dX4_unit_20 : decode cX4_unit 20 = .ok (.getfield 303, 3) := dk_180 1 47 (dk_at dksX4_unit_0 20 rfl rfl)
theorem dX4_unit_23 : decode cX4_unit 23 = .ok (.iconst 1, 1) := dk_4 (dk_at dksX4_unit_0 23 rfl rfl)
theorem dX4_unit_24 : decode cX4_unit 24 = .ok (.isub, 1) := dk_100 (dk_at dksX4_unit_1 0 rfl rfl)
theorem dX4_unit_25 : decode cX4_unit 25 = .ok (.iaload, 1) := dk_46 (dk_at dksX4_unit_1 1 rfl rfl)
theorem dX4_unit_26 : decode cX4_unit 26 = .ok (.bipush 7, 2) := dk_16 7 (dk_at dksX4_unit_1 2 rfl rfl)
theorem dX4_unit_28 : decode cX4_unit 28 = .ok (.if_icmp .lt 7, 3) := dk_161 0 7 (dk_at dksX4_unit_1 4 rfl rfl)
theorem dX4_unit_31 : decode cX4_unit 31 = .ok (.iconst 1, 1) := dk_4 (dk_at dksX4_unit_1 7 rfl rfl)
theorem dX4_unit_32 : decode cX4_unit 32 = .ok (.goto 4, 3) := dk_167 0 4 (dk_at dksX4_unit_1 8 rfl rfl)
theorem dX4_unit_35 : decode cX4_unit 35 = .ok (.iconst 0, 1) := dk_3 (dk_at dksX4_unit_1 11 rfl rfl)
theorem dX4_unit_36 : decode cX4_unit 36 = .ok (.istore_n 1, 1) := dk_60 (dk_at dksX4_unit_1 12 rfl rfl)
theorem dX4_unit_37 : decode cX4_unit 37 = .ok (.iload_n 1, 1) := dk_27 (dk_at dksX4_unit_1 13 rfl rfl)
theorem dX4_unit_38 : decode cX4_unit 38 = .ok (.ifCond .eq 17, 3) := dk_153 0 17 (dk_at dksX4_unit_1 14 rfl rfl)
theorem dX4_unit_41 : decode cX4_unit 41 = .ok (.aload_n 0, 1) := dk_42 (dk_at dksX4_unit_1 17 rfl rfl)
theorem dX4_unit_42 : decode cX4_unit 42 = .ok (.ldc2_w 183, 3) := dk_20 0 183 (dk_at dksX4_unit_1 18 rfl rfl)
theorem dX4_unit_45 : decode cX4_unit 45 = .ok (.invokevirtual 233, 3) := dk_182 0 233 (dk_at dksX4_unit_1 21 rfl rfl)
theorem dX4_unit_48 : decode cX4_unit 48 = .ok (.ifCond .eq 7, 3) := dk_153 0 7 (dk_at dksX4_unit_2 0 rfl rfl)
theorem dX4_unit_51 : decode cX4_unit 51 = .ok (.iconst 1, 1) := dk_4 (dk_at dksX4_unit_2 3 rfl rfl)
theorem dX4_unit_52 : decode cX4_unit 52 = .ok (.goto 4, 3) := dk_167 0 4 (dk_at dksX4_unit_2 4 rfl rfl)
theorem dX4_unit_55 : decode cX4_unit 55 = .ok (.iconst 0, 1) := dk_3 (dk_at dksX4_unit_2 7 rfl rfl)
theorem dX4_unit_56 : decode cX4_unit 56 = .ok (.istore_n 2, 1) := dk_61 (dk_at dksX4_unit_2 8 rfl rfl)
theorem dX4_unit_57 : decode cX4_unit 57 = .ok (.aload_n 0, 1) := dk_42 (dk_at dksX4_unit_2 9 rfl rfl)
theorem dX4_unit_58 : decode cX4_unit 58 = .ok (.bipush 40, 2) := dk_16 40 (dk_at dksX4_unit_2 10 rfl rfl)
theorem dX4_unit_60 : decode cX4_unit 60 = .ok (.invokevirtual 287, 3) := dk_182 1 31 (dk_at dksX4_unit_2 12 rfl rfl)
theorem dX4_unit_63 : decode cX4_unit 63 = .ok (.istore_n 3, 1) := dk_62 (dk_at dksX4_unit_2 15 rfl rfl)
theorem dX4_unit_64 : decode cX4_unit 64 = .ok (.aload_n 0, 1) := dk_42 (dk_at dksX4_unit_2 16 rfl rfl)
theorem dX4_unit_65 : decode cX4_unit 65 = .ok (.invokevirtual 318, 3) := dk_182 1 62 (dk_at dksX4_unit_2 17 rfl rfl)
theorem dX4_unit_68 : decode cX4_unit 68 = .ok (.istore 4, 2) := dk_54 4 (dk_at dksX4_unit_2 20 rfl rfl)
theorem dX4_unit_70 : decode cX4_unit 70 = .ok (.aload_n 0, 1) := dk_42 (dk_at dksX4_unit_2 22 rfl rfl)
theorem dX4_unit_71 : decode cX4_unit 71 = .ok (.getfield 30, 3) := dk_180 0 30 (dk_at dksX4_unit_3 0 rfl rfl)
theorem dX4_unit_74 : decode cX4_unit 74 = .ok (.aload_n 0, 1) := dk_42 (dk_at dksX4_unit_3 3 rfl rfl)
theorem dX4_unit_75 : decode cX4_unit 75 = .ok (.getfield 244, 3) := dk_180 0 244 (dk_at dksX4_unit_3 4 rfl rfl)
theorem dX4_unit_78 : decode cX4_unit 78 = .ok (.iaload, 1) := dk_46 (dk_at dksX4_unit_3 7 rfl rfl)
theorem dX4_unit_79 : decode cX4_unit 79 = .ok (.bipush 60, 2) := dk_16 60 (dk_at dksX4_unit_3 8 rfl rfl)
theorem dX4_unit_81 : decode cX4_unit 81 = .ok (.if_icmp .eq 12, 3) := dk_159 0 12 (dk_at dksX4_unit_3 10 rfl rfl)
theorem dX4_unit_84 : decode cX4_unit 84 = .ok (.aload_n 0, 1) := dk_42 (dk_at dksX4_unit_3 13 rfl rfl)
theorem dX4_unit_85 : decode cX4_unit 85 = .ok (.getfield 297, 3) := dk_180 1 41 (dk_at dksX4_unit_3 14 rfl rfl)
theorem dX4_unit_88 : decode cX4_unit 88 = .ok (.bipush 30, 2) := dk_16 30 (dk_at dksX4_unit_3 17 rfl rfl)
theorem dX4_unit_90 : decode cX4_unit 90 = .ok (.if_icmp .ne 7, 3) := dk_160 0 7 (dk_at dksX4_unit_3 19 rfl rfl)
theorem dX4_unit_93 : decode cX4_unit 93 = .ok (.iconst 1, 1) := dk_4 (dk_at dksX4_unit_3 22 rfl rfl)
theorem dX4_unit_94 : decode cX4_unit 94 = .ok (.goto 4, 3) := dk_167 0 4 (dk_at dksX4_unit_4 0 rfl rfl)
theorem dX4_unit_97 : decode cX4_unit 97 = .ok (.iconst 0, 1) := dk_3 (dk_at dksX4_unit_4 3 rfl rfl)
theorem dX4_unit_98 : decode cX4_unit 98 = .ok (.istore 5, 2) := dk_54 5 (dk_at dksX4_unit_4 4 rfl rfl)
theorem dX4_unit_100 : decode cX4_unit 100 = .ok (.iload_n 2, 1) := dk_28 (dk_at dksX4_unit_4 6 rfl rfl)
theorem dX4_unit_101 : decode cX4_unit 101 = .ok (.ifCond .ne 25, 3) := dk_154 0 25 (dk_at dksX4_unit_4 7 rfl rfl)
theorem dX4_unit_104 : decode cX4_unit 104 = .ok (.iload 4, 2) := dk_21 4 (dk_at dksX4_unit_4 10 rfl rfl)
theorem dX4_unit_106 : decode cX4_unit 106 = .ok (.ifCond .ne 15, 3) := dk_154 0 15 (dk_at dksX4_unit_4 12 rfl rfl)
theorem dX4_unit_109 : decode cX4_unit 109 = .ok (.aload_n 0, 1) := dk_42 (dk_at dksX4_unit_4 15 rfl rfl)
theorem dX4_unit_110 : decode cX4_unit 110 = .ok (.getfield 195, 3) := dk_180 0 195 (dk_at dksX4_unit_4 16 rfl rfl)
theorem dX4_unit_113 : decode cX4_unit 113 = .ok (.iconst 4, 1) := dk_7 (dk_at dksX4_unit_4 19 rfl rfl)
theorem dX4_unit_114 : decode cX4_unit 114 = .ok (.if_icmp .eq 7, 3) := dk_159 0 7 (dk_at dksX4_unit_4 20 rfl rfl)
theorem dX4_unit_117 : decode cX4_unit 117 = .ok (.iload_n 3, 1) := dk_29 (dk_at dksX4_unit_4 23 rfl rfl)
theorem dX4_unit_118 : decode cX4_unit 118 = .ok (.ifCond .eq 25, 3) := dk_153 0 25 (dk_at dksX4_unit_5 0 rfl rfl)
theorem dX4_unit_121 : decode cX4_unit 121 = .ok (.iload 5, 2) := dk_21 5 (dk_at dksX4_unit_5 3 rfl rfl)
theorem dX4_unit_123 : decode cX4_unit 123 = .ok (.ifCond .ne 20, 3) := dk_154 0 20 (dk_at dksX4_unit_5 5 rfl rfl)
theorem dX4_unit_126 : decode cX4_unit 126 = .ok (.iload_n 2, 1) := dk_28 (dk_at dksX4_unit_5 8 rfl rfl)
theorem dX4_unit_127 : decode cX4_unit 127 = .ok (.ifCond .ne 7, 3) := dk_154 0 7 (dk_at dksX4_unit_5 9 rfl rfl)
theorem dX4_unit_130 : decode cX4_unit 130 = .ok (.iload_n 3, 1) := dk_29 (dk_at dksX4_unit_5 12 rfl rfl)
theorem dX4_unit_131 : decode cX4_unit 131 = .ok (.ifCond .eq 16, 3) := dk_153 0 16 (dk_at dksX4_unit_5 13 rfl rfl)
theorem dX4_unit_134 : decode cX4_unit 134 = .ok (.aload_n 0, 1) := dk_42 (dk_at dksX4_unit_5 16 rfl rfl)
theorem dX4_unit_135 : decode cX4_unit 135 = .ok (.getfield 306, 3) := dk_180 1 50 (dk_at dksX4_unit_5 17 rfl rfl)
theorem dX4_unit_138 : decode cX4_unit 138 = .ok (.bipush 7, 2) := dk_16 7 (dk_at dksX4_unit_5 20 rfl rfl)
theorem dX4_unit_140 : decode cX4_unit 140 = .ok (.if_icmp .ne 7, 3) := dk_160 0 7 (dk_at dksX4_unit_6 0 rfl rfl)
theorem dX4_unit_143 : decode cX4_unit 143 = .ok (.aload_n 0, 1) := dk_42 (dk_at dksX4_unit_6 3 rfl rfl)
theorem dX4_unit_144 : decode cX4_unit 144 = .ok (.invokevirtual 230, 3) := dk_182 0 230 (dk_at dksX4_unit_6 4 rfl rfl)
theorem dX4_unit_147 : decode cX4_unit 147 = .ok (.aload_n 0, 1) := dk_42 (dk_at dksX4_unit_6 7 rfl rfl)
theorem dX4_unit_148 : decode cX4_unit 148 = .ok (.invokevirtual 223, 3) := dk_182 0 223 (dk_at dksX4_unit_6 8 rfl rfl)
theorem dX4_unit_151 : decode cX4_unit 151 = .ok (.ifCond .ne 5, 3) := dk_154 0 5 (dk_at dksX4_unit_6 11 rfl rfl)
theorem dX4_unit_154 : decode cX4_unit 154 = .ok (.iconst 1, 1) := dk_4 (dk_at dksX4_unit_6 14 rfl rfl)
theorem dX4_unit_155 : decode cX4_unit 155 = .ok (.ireturn, 1) := dk_172 (dk_at dksX4_unit_6 15 rfl rfl)
theorem dX4_unit_156 : decode cX4_unit 156 = .ok (.aload_n 0, 1) := dk_42 (dk_at dksX4_unit_6 16 rfl rfl)
theorem dX4_unit_157 : decode cX4_unit 157 = .ok (.getfield 30, 3) := dk_180 0 30 (dk_at dksX4_unit_6 17 rfl rfl)
theorem dX4_unit_160 : decode cX4_unit 160 = .ok (.aload_n 0, 1) := dk_42 (dk_at dksX4_unit_6 20 rfl rfl)
theorem dX4_unit_161 : decode cX4_unit 161 = .ok (.getfield 244, 3) := dk_180 0 244 (dk_at dksX4_unit_6 21 rfl rfl)
theorem dX4_unit_164 : decode cX4_unit 164 = .ok (.dup2, 1) := dk_92 (dk_at dksX4_unit_7 0 rfl rfl)
theorem dX4_unit_165 : decode cX4_unit 165 = .ok (.iaload, 1) := dk_46 (dk_at dksX4_unit_7 1 rfl rfl)
theorem dX4_unit_166 : decode cX4_unit 166 = .ok (.iload_n 2, 1) := dk_28 (dk_at dksX4_unit_7 2 rfl rfl)
theorem dX4_unit_167 : decode cX4_unit 167 = .ok (.ifCond .eq 7, 3) := dk_153 0 7 (dk_at dksX4_unit_7 3 rfl rfl)
theorem dX4_unit_170 : decode cX4_unit 170 = .ok (.iconst 0, 1) := dk_3 (dk_at dksX4_unit_7 6 rfl rfl)
theorem dX4_unit_171 : decode cX4_unit 171 = .ok (.goto 4, 3) := dk_167 0 4 (dk_at dksX4_unit_7 7 rfl rfl)
theorem dX4_unit_174 : decode cX4_unit 174 = .ok (.iconst 1, 1) := dk_4 (dk_at dksX4_unit_7 10 rfl rfl)
theorem dX4_unit_175 : decode cX4_unit 175 = .ok (.iadd, 1) := dk_96 (dk_at dksX4_unit_7 11 rfl rfl)
theorem dX4_unit_176 : decode cX4_unit 176 = .ok (.iastore, 1) := dk_79 (dk_at dksX4_unit_7 12 rfl rfl)
theorem dX4_unit_177 : decode cX4_unit 177 = .ok (.aload_n 0, 1) := dk_42 (dk_at dksX4_unit_7 13 rfl rfl)
theorem dX4_unit_178 : decode cX4_unit 178 = .ok (.dup, 1) := dk_89 (dk_at dksX4_unit_7 14 rfl rfl)
theorem dX4_unit_179 : decode cX4_unit 179 = .ok (.getfield 297, 3) := dk_180 1 41 (dk_at dksX4_unit_7 15 rfl rfl)
theorem dX4_unit_182 : decode cX4_unit 182 = .ok (.iload_n 2, 1) := dk_28 (dk_at dksX4_unit_7 18 rfl rfl)
theorem dX4_unit_183 : decode cX4_unit 183 = .ok (.ifCond .eq 7, 3) := dk_153 0 7 (dk_at dksX4_unit_7 19 rfl rfl)
theorem dX4_unit_186 : decode cX4_unit 186 = .ok (.iconst 0, 1) := dk_3 (dk_at dksX4_unit_7 22 rfl rfl)
theorem dX4_unit_187 : decode cX4_unit 187 = .ok (.goto 4, 3) := dk_167 0 4 (dk_at dksX4_unit_8 0 rfl rfl)
theorem dX4_unit_190 : decode cX4_unit 190 = .ok (.iconst 1, 1) := dk_4 (dk_at dksX4_unit_8 3 rfl rfl)
theorem dX4_unit_191 : decode cX4_unit 191 = .ok (.iadd, 1) := dk_96 (dk_at dksX4_unit_8 4 rfl rfl)
theorem dX4_unit_192 : decode cX4_unit 192 = .ok (.putfield 297, 3) := dk_181 1 41 (dk_at dksX4_unit_8 5 rfl rfl)
theorem dX4_unit_195 : decode cX4_unit 195 = .ok (.iload 4, 2) := dk_21 4 (dk_at dksX4_unit_8 8 rfl rfl)
theorem dX4_unit_197 : decode cX4_unit 197 = .ok (.ifCond .ne 10, 3) := dk_154 0 10 (dk_at dksX4_unit_8 10 rfl rfl)
theorem dX4_unit_200 : decode cX4_unit 200 = .ok (.aload_n 0, 1) := dk_42 (dk_at dksX4_unit_8 13 rfl rfl)
theorem dX4_unit_201 : decode cX4_unit 201 = .ok (.getfield 213, 3) := dk_180 0 213 (dk_at dksX4_unit_8 14 rfl rfl)
theorem dX4_unit_204 : decode cX4_unit 204 = .ok (.goto 4, 3) := dk_167 0 4 (dk_at dksX4_unit_8 17 rfl rfl)
theorem dX4_unit_207 : decode cX4_unit 207 = .ok (.iconst 0, 1) := dk_3 (dk_at dksX4_unit_8 20 rfl rfl)
theorem dX4_unit_208 : decode cX4_unit 208 = .ok (.istore 6, 2) := dk_54 6 (dk_at dksX4_unit_8 21 rfl rfl)
theorem dX4_unit_210 : decode cX4_unit 210 = .ok (.aload_n 0, 1) := dk_42 (dk_at dksX4_unit_8 23 rfl rfl)
theorem dX4_unit_211 : decode cX4_unit 211 = .ok (.invokevirtual 227, 3) := dk_182 0 227 (dk_at dksX4_unit_9 0 rfl rfl)
theorem dX4_unit_214 : decode cX4_unit 214 = .ok (.iload_n 2, 1) := dk_28 (dk_at dksX4_unit_9 3 rfl rfl)
theorem dX4_unit_215 : decode cX4_unit 215 = .ok (.ifCond .ne 7, 3) := dk_154 0 7 (dk_at dksX4_unit_9 4 rfl rfl)
theorem dX4_unit_218 : decode cX4_unit 218 = .ok (.iload_n 3, 1) := dk_29 (dk_at dksX4_unit_9 7 rfl rfl)
theorem dX4_unit_219 : decode cX4_unit 219 = .ok (.ifCond .eq 31, 3) := dk_153 0 31 (dk_at dksX4_unit_9 8 rfl rfl)
theorem dX4_unit_222 : decode cX4_unit 222 = .ok (.aload_n 0, 1) := dk_42 (dk_at dksX4_unit_9 11 rfl rfl)
theorem dX4_unit_223 : decode cX4_unit 223 = .ok (.iload_n 2, 1) := dk_28 (dk_at dksX4_unit_9 12 rfl rfl)
theorem dX4_unit_224 : decode cX4_unit 224 = .ok (.ifCond .eq 7, 3) := dk_153 0 7 (dk_at dksX4_unit_9 13 rfl rfl)
theorem dX4_unit_227 : decode cX4_unit 227 = .ok (.iconst 3, 1) := dk_6 (dk_at dksX4_unit_9 16 rfl rfl)
theorem dX4_unit_228 : decode cX4_unit 228 = .ok (.goto 5, 3) := dk_167 0 5 (dk_at dksX4_unit_9 17 rfl rfl)
theorem dX4_unit_231 : decode cX4_unit 231 = .ok (.bipush 7, 2) := dk_16 7 (dk_at dksX4_unit_9 20 rfl rfl)
theorem dX4_unit_233 : decode cX4_unit 233 = .ok (.bipush 126, 2) := dk_16 126 (dk_at dksX4_unit_9 22 rfl rfl)
theorem dX4_unit_235 : decode cX4_unit 235 = .ok (.invokevirtual 309, 3) := dk_182 1 53 (dk_at dksX4_unit_10 0 rfl rfl)
theorem dX4_unit_238 : decode cX4_unit 238 = .ok (.aload_n 0, 1) := dk_42 (dk_at dksX4_unit_10 3 rfl rfl)
theorem dX4_unit_239 : decode cX4_unit 239 = .ok (.dup, 1) := dk_89 (dk_at dksX4_unit_10 4 rfl rfl)
theorem dX4_unit_240 : decode cX4_unit 240 = .ok (.getfield 306, 3) := dk_180 1 50 (dk_at dksX4_unit_10 5 rfl rfl)
theorem dX4_unit_243 : decode cX4_unit 243 = .ok (.iconst 1, 1) := dk_4 (dk_at dksX4_unit_10 8 rfl rfl)
theorem dX4_unit_244 : decode cX4_unit 244 = .ok (.iadd, 1) := dk_96 (dk_at dksX4_unit_10 9 rfl rfl)
theorem dX4_unit_245 : decode cX4_unit 245 = .ok (.putfield 306, 3) := dk_181 1 50 (dk_at dksX4_unit_10 10 rfl rfl)
theorem dX4_unit_248 : decode cX4_unit 248 = .ok (.iconst 1, 1) := dk_4 (dk_at dksX4_unit_10 13 rfl rfl)
theorem dX4_unit_249 : decode cX4_unit 249 = .ok (.ireturn, 1) := dk_172 (dk_at dksX4_unit_10 14 rfl rfl)
theorem dX4_unit_250 : decode cX4_unit 250 = .ok (.aload_n 0, 1) := dk_42 (dk_at dksX4_unit_10 15 rfl rfl)
theorem dX4_unit_251 : decode cX4_unit 251 = .ok (.iload 4, 2) := dk_21 4 (dk_at dksX4_unit_10 16 rfl rfl)
theorem dX4_unit_253 : decode cX4_unit 253 = .ok (.ifCond .ne 8, 3) := dk_154 0 8 (dk_at dksX4_unit_10 18 rfl rfl)
theorem dX4_unit_256 : decode cX4_unit 256 = .ok (.bipush 110, 2) := dk_16 110 (dk_at dksX4_unit_10 21 rfl rfl)
theorem dX4_unit_258 : decode cX4_unit 258 = .ok (.goto 5, 3) := dk_167 0 5 (dk_at dksX4_unit_11 0 rfl rfl)
theorem dX4_unit_261 : decode cX4_unit 261 = .ok (.iload 4, 2) := dk_21 4 (dk_at dksX4_unit_11 3 rfl rfl)
theorem dX4_unit_263 : decode cX4_unit 263 = .ok (.iload 6, 2) := dk_21 6 (dk_at dksX4_unit_11 5 rfl rfl)
theorem dX4_unit_265 : decode cX4_unit 265 = .ok (.invokevirtual 321, 3) := dk_182 1 65 (dk_at dksX4_unit_11 7 rfl rfl)
theorem dX4_unit_268 : decode cX4_unit 268 = .ok (.iconst 0, 1) := dk_3 (dk_at dksX4_unit_11 10 rfl rfl)
theorem dX4_unit_269 : decode cX4_unit 269 = .ok (.ireturn, 1) := dk_172 (dk_at dksX4_unit_11 11 rfl rfl)
abbrev cX4_isSignHere : ByteArray := prog_23_method_10_code
def yX4_isSignHere : MethodName := ⟨RX4, "isSignHere", "(I)Z"⟩
def dkwX4_isSignHere_1 : List UInt8 := [3, 172]
abbrev dktX4_isSignHere_1 : List UInt8 := dkwX4_isSignHere_1 ++ []
def dkwX4_isSignHere_0 : List UInt8 := [42, 180, 0, 195, 8, 160, 0, 19, 42, 42, 180, 0, 188, 182, 0, 191, 27, 160, 0, 7, 4, 167, 0, 4]
abbrev dktX4_isSignHere_0 : List UInt8 := dkwX4_isSignHere_0 ++ dktX4_isSignHere_1
theorem dksX4_isSignHere_0 : cX4_isSignHere.data.toList.drop 0 = dktX4_isSignHere_0 := by decide +kernel
theorem dksX4_isSignHere_1 : cX4_isSignHere.data.toList.drop 24 = dktX4_isSignHere_1 := dk_seg dksX4_isSignHere_0 24 rfl rfl
theorem dX4_isSignHere_0 : decode cX4_isSignHere 0 = .ok (.aload_n 0, 1) := dk_42 (dk_at dksX4_isSignHere_0 0 rfl rfl)
theorem dX4_isSignHere_1 : decode cX4_isSignHere 1 = .ok (.getfield 195, 3) := dk_180 0 195 (dk_at dksX4_isSignHere_0 1 rfl rfl)
theorem dX4_isSignHere_4 : decode cX4_isSignHere 4 = .ok (.iconst 5, 1) := dk_8 (dk_at dksX4_isSignHere_0 4 rfl rfl)
theorem dX4_isSignHere_5 : decode cX4_isSignHere 5 = .ok (.if_icmp .ne 19, 3) := dk_160 0 19 (dk_at dksX4_isSignHere_0 5 rfl rfl)
theorem dX4_isSignHere_8 : decode cX4_isSignHere 8 = .ok (.aload_n 0, 1) := dk_42 (dk_at dksX4_isSignHere_0 8 rfl rfl)
theorem dX4_isSignHere_9 : decode cX4_isSignHere 9 = .ok (.aload_n 0, 1) := dk_42 (dk_at dksX4_isSignHere_0 9 rfl rfl)
theorem dX4_isSignHere_10 : decode cX4_isSignHere 10 = .ok (.getfield 188, 3) := dk_180 0 188 (dk_at dksX4_isSignHere_0 10 rfl rfl)
theorem dX4_isSignHere_13 : decode cX4_isSignHere 13 = .ok (.invokevirtual 191, 3) := dk_182 0 191 (dk_at dksX4_isSignHere_0 13 rfl rfl)
theorem dX4_isSignHere_16 : decode cX4_isSignHere 16 = .ok (.iload_n 1, 1) := dk_27 (dk_at dksX4_isSignHere_0 16 rfl rfl)
theorem dX4_isSignHere_17 : decode cX4_isSignHere 17 = .ok (.if_icmp .ne 7, 3) := dk_160 0 7 (dk_at dksX4_isSignHere_0 17 rfl rfl)
theorem dX4_isSignHere_20 : decode cX4_isSignHere 20 = .ok (.iconst 1, 1) := dk_4 (dk_at dksX4_isSignHere_0 20 rfl rfl)
theorem dX4_isSignHere_21 : decode cX4_isSignHere 21 = .ok (.goto 4, 3) := dk_167 0 4 (dk_at dksX4_isSignHere_0 21 rfl rfl)
theorem dX4_isSignHere_24 : decode cX4_isSignHere 24 = .ok (.iconst 0, 1) := dk_3 (dk_at dksX4_isSignHere_1 0 rfl rfl)
theorem dX4_isSignHere_25 : decode cX4_isSignHere 25 = .ok (.ireturn, 1) := dk_172 (dk_at dksX4_isSignHere_1 1 rfl rfl)
abbrev cX4_wordHere : ByteArray := prog_23_method_30_code
def yX4_wordHere : MethodName := ⟨RX4, "wordHere", "()I"⟩
def dkwX4_wordHere_3 : List UInt8 := [182, 0, 233, 153, 0, 8, 16, 99, 167, 0, 4, 3, 172]
abbrev dktX4_wordHere_3 : List UInt8 := dkwX4_wordHere_3 ++ []
def dkwX4_wordHere_2 : List UInt8 := [153, 0, 6, 16, 114, 172, 42, 20, 0, 175, 182, 0, 233, 153, 0, 6, 16, 116, 172, 42, 20, 0, 177]
abbrev dktX4_wordHere_2 : List UInt8 := dkwX4_wordHere_2 ++ dktX4_wordHere_3
def dkwX4_wordHere_1 : List UInt8 := [16, 115, 172, 42, 20, 0, 171, 182, 0, 233, 153, 0, 6, 16, 103, 172, 42, 20, 0, 173, 182, 0, 233]
abbrev dktX4_wordHere_1 : List UInt8 := dkwX4_wordHere_1 ++ dktX4_wordHere_2
def dkwX4_wordHere_0 : List UInt8 := [42, 20, 0, 161, 182, 0, 233, 153, 0, 6, 16, 104, 172, 42, 20, 0, 151, 182, 0, 233, 153, 0, 6]
abbrev dktX4_wordHere_0 : List UInt8 := dkwX4_wordHere_0 ++ dktX4_wordHere_1
theorem dksX4_wordHere_0 : cX4_wordHere.data.toList.drop 0 = dktX4_wordHere_0 := by decide +kernel
theorem dksX4_wordHere_1 : cX4_wordHere.data.toList.drop 23 = dktX4_wordHere_1 := dk_seg dksX4_wordHere_0 23 rfl rfl
theorem dksX4_wordHere_2 : cX4_wordHere.data.toList.drop 46 = dktX4_wordHere_2 := dk_seg dksX4_wordHere_1 23 rfl rfl
theorem dksX4_wordHere_3 : cX4_wordHere.data.toList.drop 69 = dktX4_wordHere_3 := dk_seg dksX4_wordHere_2 23 rfl rfl
theorem dX4_wordHere_0 : decode cX4_wordHere 0 = .ok (.aload_n 0, 1) := dk_42 (dk_at dksX4_wordHere_0 0 rfl rfl)
theorem dX4_wordHere_1 : decode cX4_wordHere 1 = .ok (.ldc2_w 161, 3) := dk_20 0 161 (dk_at dksX4_wordHere_0 1 rfl rfl)
theorem dX4_wordHere_4 : decode cX4_wordHere 4 = .ok (.invokevirtual 233, 3) := dk_182 0 233 (dk_at dksX4_wordHere_0 4 rfl rfl)
theorem dX4_wordHere_7 : decode cX4_wordHere 7 = .ok (.ifCond .eq 6, 3) := dk_153 0 6 (dk_at dksX4_wordHere_0 7 rfl rfl)
theorem dX4_wordHere_10 : decode cX4_wordHere 10 = .ok (.bipush 104, 2) := dk_16 104 (dk_at dksX4_wordHere_0 10 rfl rfl)
theorem dX4_wordHere_12 : decode cX4_wordHere 12 = .ok (.ireturn, 1) := dk_172 (dk_at dksX4_wordHere_0 12 rfl rfl)
theorem dX4_wordHere_13 : decode cX4_wordHere 13 = .ok (.aload_n 0, 1) := dk_42 (dk_at dksX4_wordHere_0 13 rfl rfl)
theorem dX4_wordHere_14 : decode cX4_wordHere 14 = .ok (.ldc2_w 151, 3) := dk_20 0 151 (dk_at dksX4_wordHere_0 14 rfl rfl)
theorem dX4_wordHere_17 : decode cX4_wordHere 17 = .ok (.invokevirtual 233, 3) := dk_182 0 233 (dk_at dksX4_wordHere_0 17 rfl rfl)
theorem dX4_wordHere_20 : decode cX4_wordHere 20 = .ok (.ifCond .eq 6, 3) := dk_153 0 6 (dk_at dksX4_wordHere_0 20 rfl rfl)
theorem dX4_wordHere_23 : decode cX4_wordHere 23 = .ok (.bipush 115, 2) := dk_16 115 (dk_at dksX4_wordHere_1 0 rfl rfl)
theorem dX4_wordHere_25 : decode cX4_wordHere 25 = .ok (.ireturn, 1) := dk_172 (dk_at dksX4_wordHere_1 2 rfl rfl)
theorem dX4_wordHere_26 : decode cX4_wordHere 26 = .ok (.aload_n 0, 1) := dk_42 (dk_at dksX4_wordHere_1 3 rfl rfl)
theorem dX4_wordHere_27 : decode cX4_wordHere 27 = .ok (.ldc2_w 171, 3) := dk_20 0 171 (dk_at dksX4_wordHere_1 4 rfl rfl)
theorem dX4_wordHere_30 : decode cX4_wordHere 30 = .ok (.invokevirtual 233, 3) := dk_182 0 233 (dk_at dksX4_wordHere_1 7 rfl rfl)
theorem dX4_wordHere_33 : decode cX4_wordHere 33 = .ok (.ifCond .eq 6, 3) := dk_153 0 6 (dk_at dksX4_wordHere_1 10 rfl rfl)
theorem dX4_wordHere_36 : decode cX4_wordHere 36 = .ok (.bipush 103, 2) := dk_16 103 (dk_at dksX4_wordHere_1 13 rfl rfl)
theorem dX4_wordHere_38 : decode cX4_wordHere 38 = .ok (.ireturn, 1) := dk_172 (dk_at dksX4_wordHere_1 15 rfl rfl)
theorem dX4_wordHere_39 : decode cX4_wordHere 39 = .ok (.aload_n 0, 1) := dk_42 (dk_at dksX4_wordHere_1 16 rfl rfl)
theorem dX4_wordHere_40 : decode cX4_wordHere 40 = .ok (.ldc2_w 173, 3) := dk_20 0 173 (dk_at dksX4_wordHere_1 17 rfl rfl)
theorem dX4_wordHere_43 : decode cX4_wordHere 43 = .ok (.invokevirtual 233, 3) := dk_182 0 233 (dk_at dksX4_wordHere_1 20 rfl rfl)
theorem dX4_wordHere_46 : decode cX4_wordHere 46 = .ok (.ifCond .eq 6, 3) := dk_153 0 6 (dk_at dksX4_wordHere_2 0 rfl rfl)
theorem dX4_wordHere_49 : decode cX4_wordHere 49 = .ok (.bipush 114, 2) := dk_16 114 (dk_at dksX4_wordHere_2 3 rfl rfl)
theorem dX4_wordHere_51 : decode cX4_wordHere 51 = .ok (.ireturn, 1) := dk_172 (dk_at dksX4_wordHere_2 5 rfl rfl)
theorem dX4_wordHere_52 : decode cX4_wordHere 52 = .ok (.aload_n 0, 1) := dk_42 (dk_at dksX4_wordHere_2 6 rfl rfl)
theorem dX4_wordHere_53 : decode cX4_wordHere 53 = .ok (.ldc2_w 175, 3) := dk_20 0 175 (dk_at dksX4_wordHere_2 7 rfl rfl)
theorem dX4_wordHere_56 : decode cX4_wordHere 56 = .ok (.invokevirtual 233, 3) := dk_182 0 233 (dk_at dksX4_wordHere_2 10 rfl rfl)
theorem dX4_wordHere_59 : decode cX4_wordHere 59 = .ok (.ifCond .eq 6, 3) := dk_153 0 6 (dk_at dksX4_wordHere_2 13 rfl rfl)
theorem dX4_wordHere_62 : decode cX4_wordHere 62 = .ok (.bipush 116, 2) := dk_16 116 (dk_at dksX4_wordHere_2 16 rfl rfl)
theorem dX4_wordHere_64 : decode cX4_wordHere 64 = .ok (.ireturn, 1) := dk_172 (dk_at dksX4_wordHere_2 18 rfl rfl)
theorem dX4_wordHere_65 : decode cX4_wordHere 65 = .ok (.aload_n 0, 1) := dk_42 (dk_at dksX4_wordHere_2 19 rfl rfl)
theorem dX4_wordHere_66 : decode cX4_wordHere 66 = .ok (.ldc2_w 177, 3) := dk_20 0 177 (dk_at dksX4_wordHere_2 20 rfl rfl)
theorem dX4_wordHere_69 : decode cX4_wordHere 69 = .ok (.invokevirtual 233, 3) := dk_182 0 233 (dk_at dksX4_wordHere_3 0 rfl rfl)
theorem dX4_wordHere_72 : decode cX4_wordHere 72 = .ok (.ifCond .eq 8, 3) := dk_153 0 8 (dk_at dksX4_wordHere_3 3 rfl rfl)
theorem dX4_wordHere_75 : decode cX4_wordHere 75 = .ok (.bipush 99, 2) := dk_16 99 (dk_at dksX4_wordHere_3 6 rfl rfl)
theorem dX4_wordHere_77 : decode cX4_wordHere 77 = .ok (.goto 4, 3) := dk_167 0 4 (dk_at dksX4_wordHere_3 8 rfl rfl)
theorem dX4_wordHere_80 : decode cX4_wordHere 80 = .ok (.iconst 0, 1) := dk_3 (dk_at dksX4_wordHere_3 11 rfl rfl)
theorem dX4_wordHere_81 : decode cX4_wordHere 81 = .ok (.ireturn, 1) := dk_172 (dk_at dksX4_wordHere_3 12 rfl rfl)
abbrev cX4_emit : ByteArray := prog_23_method_27_code
def yX4_emit : MethodName := ⟨RX4, "emit", "(II)V"⟩
def dkwX4_emit_1 : List UInt8 := [180, 0, 247, 4, 96, 181, 0, 247, 177]
abbrev dktX4_emit_1 : List UInt8 := dkwX4_emit_1 ++ []
def dkwX4_emit_0 : List UInt8 := [42, 180, 0, 73, 42, 180, 0, 247, 27, 79, 42, 180, 0, 76, 42, 180, 0, 247, 28, 79, 42, 89]
abbrev dktX4_emit_0 : List UInt8 := dkwX4_emit_0 ++ dktX4_emit_1
theorem dksX4_emit_0 : cX4_emit.data.toList.drop 0 = dktX4_emit_0 := by decide +kernel
theorem dksX4_emit_1 : cX4_emit.data.toList.drop 22 = dktX4_emit_1 := dk_seg dksX4_emit_0 22 rfl rfl
theorem dX4_emit_0 : decode cX4_emit 0 = .ok (.aload_n 0, 1) := dk_42 (dk_at dksX4_emit_0 0 rfl rfl)
theorem dX4_emit_1 : decode cX4_emit 1 = .ok (.getfield 73, 3) := dk_180 0 73 (dk_at dksX4_emit_0 1 rfl rfl)
theorem dX4_emit_4 : decode cX4_emit 4 = .ok (.aload_n 0, 1) := dk_42 (dk_at dksX4_emit_0 4 rfl rfl)
theorem dX4_emit_5 : decode cX4_emit 5 = .ok (.getfield 247, 3) := dk_180 0 247 (dk_at dksX4_emit_0 5 rfl rfl)
theorem dX4_emit_8 : decode cX4_emit 8 = .ok (.iload_n 1, 1) := dk_27 (dk_at dksX4_emit_0 8 rfl rfl)
theorem dX4_emit_9 : decode cX4_emit 9 = .ok (.iastore, 1) := dk_79 (dk_at dksX4_emit_0 9 rfl rfl)
theorem dX4_emit_10 : decode cX4_emit 10 = .ok (.aload_n 0, 1) := dk_42 (dk_at dksX4_emit_0 10 rfl rfl)
theorem dX4_emit_11 : decode cX4_emit 11 = .ok (.getfield 76, 3) := dk_180 0 76 (dk_at dksX4_emit_0 11 rfl rfl)
theorem dX4_emit_14 : decode cX4_emit 14 = .ok (.aload_n 0, 1) := dk_42 (dk_at dksX4_emit_0 14 rfl rfl)
theorem dX4_emit_15 : decode cX4_emit 15 = .ok (.getfield 247, 3) := dk_180 0 247 (dk_at dksX4_emit_0 15 rfl rfl)
theorem dX4_emit_18 : decode cX4_emit 18 = .ok (.iload_n 2, 1) := dk_28 (dk_at dksX4_emit_0 18 rfl rfl)
theorem dX4_emit_19 : decode cX4_emit 19 = .ok (.iastore, 1) := dk_79 (dk_at dksX4_emit_0 19 rfl rfl)
theorem dX4_emit_20 : decode cX4_emit 20 = .ok (.aload_n 0, 1) := dk_42 (dk_at dksX4_emit_0 20 rfl rfl)
theorem dX4_emit_21 : decode cX4_emit 21 = .ok (.dup, 1) := dk_89 (dk_at dksX4_emit_0 21 rfl rfl)
theorem dX4_emit_22 : decode cX4_emit 22 = .ok (.getfield 247, 3) := dk_180 0 247 (dk_at dksX4_emit_1 0 rfl rfl)
theorem dX4_emit_25 : decode cX4_emit 25 = .ok (.iconst 1, 1) := dk_4 (dk_at dksX4_emit_1 3 rfl rfl)
theorem dX4_emit_26 : decode cX4_emit 26 = .ok (.iadd, 1) := dk_96 (dk_at dksX4_emit_1 4 rfl rfl)
theorem dX4_emit_27 : decode cX4_emit 27 = .ok (.putfield 247, 3) := dk_181 0 247 (dk_at dksX4_emit_1 5 rfl rfl)
theorem dX4_emit_30 : decode cX4_emit 30 = .ok (.return_, 1) := dk_177 (dk_at dksX4_emit_1 8 rfl rfl)
abbrev cX4_behindUnit : ByteArray := prog_23_method_34_code
def yX4_behindUnit : MethodName := ⟨RX4, "behindUnit", "()Z"⟩
def dkwX4_behindUnit_8 : List UInt8 := [182, 0, 236, 3, 172]
abbrev dktX4_behindUnit_8 : List UInt8 := dkwX4_behindUnit_8 ++ []
def dkwX4_behindUnit_7 : List UInt8 := [16, 7, 160, 0, 23, 42, 89, 180, 1, 50, 4, 100, 181, 1, 50, 42, 42, 16, 41, 182, 1, 31]
abbrev dktX4_behindUnit_7 : List UInt8 := dkwX4_behindUnit_7 ++ dktX4_behindUnit_8
def dkwX4_behindUnit_6 : List UInt8 := [182, 0, 227, 4, 172, 42, 89, 180, 1, 47, 4, 100, 181, 1, 47, 42, 180, 0, 79, 42, 180, 1, 47, 46]
abbrev dktX4_behindUnit_6 : List UInt8 := dkwX4_behindUnit_6 ++ dktX4_behindUnit_7
def dkwX4_behindUnit_5 : List UInt8 := [27, 4, 160, 0, 8, 16, 124, 167, 0, 11, 42, 42, 180, 0, 188, 182, 0, 191, 182, 1, 53, 42]
abbrev dktX4_behindUnit_5 : List UInt8 := dkwX4_behindUnit_5 ++ dktX4_behindUnit_6
def dkwX4_behindUnit_4 : List UInt8 := [46, 3, 182, 1, 65, 167, 255, 178, 27, 158, 0, 42, 42, 27, 27, 5, 160, 0, 8, 16, 38, 167, 0, 21]
abbrev dktX4_behindUnit_4 : List UInt8 := dkwX4_behindUnit_4 ++ dktX4_behindUnit_5
def dkwX4_behindUnit_3 : List UInt8 := [46, 6, 160, 0, 13, 42, 89, 180, 1, 50, 4, 100, 181, 1, 50, 42, 42, 180, 0, 82, 42, 180, 1, 47]
abbrev dktX4_behindUnit_3 : List UInt8 := dkwX4_behindUnit_3 ++ dktX4_behindUnit_4
def dkwX4_behindUnit_2 : List UInt8 := [100, 46, 27, 161, 0, 53, 42, 89, 180, 1, 47, 4, 100, 181, 1, 47, 42, 180, 0, 79, 42, 180, 1, 47]
abbrev dktX4_behindUnit_2 : List UInt8 := dkwX4_behindUnit_2 ++ dktX4_behindUnit_3
def dkwX4_behindUnit_1 : List UInt8 := [180, 0, 79, 42, 180, 1, 47, 4, 100, 46, 16, 6, 163, 0, 68, 42, 180, 0, 79, 42, 180, 1, 47, 4]
abbrev dktX4_behindUnit_1 : List UInt8 := dkwX4_behindUnit_1 ++ dktX4_behindUnit_2
def dkwX4_behindUnit_0 : List UInt8 := [42, 182, 1, 68, 60, 27, 7, 160, 0, 16, 42, 182, 1, 71, 153, 0, 9, 42, 182, 0, 230, 4, 172, 42]
abbrev dktX4_behindUnit_0 : List UInt8 := dkwX4_behindUnit_0 ++ dktX4_behindUnit_1
theorem dksX4_behindUnit_0 : cX4_behindUnit.data.toList.drop 0 = dktX4_behindUnit_0 := by decide +kernel
theorem dksX4_behindUnit_1 : cX4_behindUnit.data.toList.drop 24 = dktX4_behindUnit_1 := dk_seg dksX4_behindUnit_0 24 rfl rfl
theorem dksX4_behindUnit_2 : cX4_behindUnit.data.toList.drop 48 = dktX4_behindUnit_2 := dk_seg dksX4_behindUnit_1 24 rfl rfl
theorem dksX4_behindUnit_3 : cX4_behindUnit.data.toList.drop 72 = dktX4_behindUnit_3 := dk_seg dksX4_behindUnit_2 24 rfl rfl
theorem dksX4_behindUnit_4 : cX4_behindUnit.data.toList.drop 96 = dktX4_behindUnit_4 := dk_seg dksX4_behindUnit_3 24 rfl rfl
theorem dksX4_behindUnit_5 : cX4_behindUnit.data.toList.drop 120 = dktX4_behindUnit_5 := dk_seg dksX4_behindUnit_4 24 rfl rfl
theorem dksX4_behindUnit_6 : cX4_behindUnit.data.toList.drop 142 = dktX4_behindUnit_6 := dk_seg dksX4_behindUnit_5 22 rfl rfl
theorem dksX4_behindUnit_7 : cX4_behindUnit.data.toList.drop 166 = dktX4_behindUnit_7 := dk_seg dksX4_behindUnit_6 24 rfl rfl
theorem dksX4_behindUnit_8 : cX4_behindUnit.data.toList.drop 188 = dktX4_behindUnit_8 := dk_seg dksX4_behindUnit_7 22 rfl rfl
theorem dX4_behindUnit_0 : decode cX4_behindUnit 0 = .ok (.aload_n 0, 1) := dk_42 (dk_at dksX4_behindUnit_0 0 rfl rfl)
theorem dX4_behindUnit_1 : decode cX4_behindUnit 1 = .ok (.invokevirtual 324, 3) := dk_182 1 68 (dk_at dksX4_behindUnit_0 1 rfl rfl)
theorem dX4_behindUnit_4 : decode cX4_behindUnit 4 = .ok (.istore_n 1, 1) := dk_60 (dk_at dksX4_behindUnit_0 4 rfl rfl)
theorem dX4_behindUnit_5 : decode cX4_behindUnit 5 = .ok (.iload_n 1, 1) := dk_27 (dk_at dksX4_behindUnit_0 5 rfl rfl)
theorem dX4_behindUnit_6 : decode cX4_behindUnit 6 = .ok (.iconst 4, 1) := dk_7 (dk_at dksX4_behindUnit_0 6 rfl rfl)
theorem dX4_behindUnit_7 : decode cX4_behindUnit 7 = .ok (.if_icmp .ne 16, 3) := dk_160 0 16 (dk_at dksX4_behindUnit_0 7 rfl rfl)
theorem dX4_behindUnit_10 : decode cX4_behindUnit 10 = .ok (.aload_n 0, 1) := dk_42 (dk_at dksX4_behindUnit_0 10 rfl rfl)
theorem dX4_behindUnit_11 : decode cX4_behindUnit 11 = .ok (.invokevirtual 327, 3) := dk_182 1 71 (dk_at dksX4_behindUnit_0 11 rfl rfl)
theorem dX4_behindUnit_14 : decode cX4_behindUnit 14 = .ok (.ifCond .eq 9, 3) := dk_153 0 9 (dk_at dksX4_behindUnit_0 14 rfl rfl)
theorem dX4_behindUnit_17 : decode cX4_behindUnit 17 = .ok (.aload_n 0, 1) := dk_42 (dk_at dksX4_behindUnit_0 17 rfl rfl)
theorem dX4_behindUnit_18 : decode cX4_behindUnit 18 = .ok (.invokevirtual 230, 3) := dk_182 0 230 (dk_at dksX4_behindUnit_0 18 rfl rfl)
theorem dX4_behindUnit_21 : decode cX4_behindUnit 21 = .ok (.iconst 1, 1) := dk_4 (dk_at dksX4_behindUnit_0 21 rfl rfl)
theorem dX4_behindUnit_22 : decode cX4_behindUnit 22 = .ok (.ireturn, 1) := dk_172 (dk_at dksX4_behindUnit_0 22 rfl rfl)
theorem dX4_behindUnit_23 : decode cX4_behindUnit 23 = .ok (.aload_n 0, 1) := dk_42 (dk_at dksX4_behindUnit_0 23 rfl rfl)
theorem dX4_behindUnit_24 : decode cX4_behindUnit 24 = .ok (.getfield 79, 3) := dk_180 0 79 (dk_at dksX4_behindUnit_1 0 rfl rfl)
theorem dX4_behindUnit_27 : decode cX4_behindUnit 27 = .ok (.aload_n 0, 1) := dk_42 (dk_at dksX4_behindUnit_1 3 rfl rfl)
theorem dX4_behindUnit_28 : decode cX4_behindUnit 28 = .ok (.getfield 303, 3) := dk_180 1 47 (dk_at dksX4_behindUnit_1 4 rfl rfl)
theorem dX4_behindUnit_31 : decode cX4_behindUnit 31 = .ok (.iconst 1, 1) := dk_4 (dk_at dksX4_behindUnit_1 7 rfl rfl)
theorem dX4_behindUnit_32 : decode cX4_behindUnit 32 = .ok (.isub, 1) := dk_100 (dk_at dksX4_behindUnit_1 8 rfl rfl)
theorem dX4_behindUnit_33 : decode cX4_behindUnit 33 = .ok (.iaload, 1) := dk_46 (dk_at dksX4_behindUnit_1 9 rfl rfl)
theorem dX4_behindUnit_34 : decode cX4_behindUnit 34 = .ok (.bipush 6, 2) := dk_16 6 (dk_at dksX4_behindUnit_1 10 rfl rfl)
theorem dX4_behindUnit_36 : decode cX4_behindUnit 36 = .ok (.if_icmp .gt 68, 3) := dk_163 0 68 (dk_at dksX4_behindUnit_1 12 rfl rfl)
theorem dX4_behindUnit_39 : decode cX4_behindUnit 39 = .ok (.aload_n 0, 1) := dk_42 (dk_at dksX4_behindUnit_1 15 rfl rfl)
theorem dX4_behindUnit_40 : decode cX4_behindUnit 40 = .ok (.getfield 79, 3) := dk_180 0 79 (dk_at dksX4_behindUnit_1 16 rfl rfl)
theorem dX4_behindUnit_43 : decode cX4_behindUnit 43 = .ok (.aload_n 0, 1) := dk_42 (dk_at dksX4_behindUnit_1 19 rfl rfl)
theorem dX4_behindUnit_44 : decode cX4_behindUnit 44 = .ok (.getfield 303, 3) := dk_180 1 47 (dk_at dksX4_behindUnit_1 20 rfl rfl)
theorem dX4_behindUnit_47 : decode cX4_behindUnit 47 = .ok (.iconst 1, 1) := dk_4 (dk_at dksX4_behindUnit_1 23 rfl rfl)
theorem dX4_behindUnit_48 : decode cX4_behindUnit 48 = .ok (.isub, 1) := dk_100 (dk_at dksX4_behindUnit_2 0 rfl rfl)
theorem dX4_behindUnit_49 : decode cX4_behindUnit 49 = .ok (.iaload, 1) := dk_46 (dk_at dksX4_behindUnit_2 1 rfl rfl)
theorem dX4_behindUnit_50 : decode cX4_behindUnit 50 = .ok (.iload_n 1, 1) := dk_27 (dk_at dksX4_behindUnit_2 2 rfl rfl)
theorem dX4_behindUnit_51 : decode cX4_behindUnit 51 = .ok (.if_icmp .lt 53, 3) := dk_161 0 53 (dk_at dksX4_behindUnit_2 3 rfl rfl)
theorem dX4_behindUnit_54 : decode cX4_behindUnit 54 = .ok (.aload_n 0, 1) := dk_42 (dk_at dksX4_behindUnit_2 6 rfl rfl)
theorem dX4_behindUnit_55 : decode cX4_behindUnit 55 = .ok (.dup, 1) := dk_89 (dk_at dksX4_behindUnit_2 7 rfl rfl)
theorem dX4_behindUnit_56 : decode cX4_behindUnit 56 = .ok (.getfield 303, 3) := dk_180 1 47 (dk_at dksX4_behindUnit_2 8 rfl rfl)
theorem dX4_behindUnit_59 : decode cX4_behindUnit 59 = .ok (.iconst 1, 1) := dk_4 (dk_at dksX4_behindUnit_2 11 rfl rfl)
theorem dX4_behindUnit_60 : decode cX4_behindUnit 60 = .ok (.isub, 1) := dk_100 (dk_at dksX4_behindUnit_2 12 rfl rfl)
theorem dX4_behindUnit_61 : decode cX4_behindUnit 61 = .ok (.putfield 303, 3) := dk_181 1 47 (dk_at dksX4_behindUnit_2 13 rfl rfl)
theorem dX4_behindUnit_64 : decode cX4_behindUnit 64 = .ok (.aload_n 0, 1) := dk_42 (dk_at dksX4_behindUnit_2 16 rfl rfl)
theorem dX4_behindUnit_65 : decode cX4_behindUnit 65 = .ok (.getfield 79, 3) := dk_180 0 79 (dk_at dksX4_behindUnit_2 17 rfl rfl)
theorem dX4_behindUnit_68 : decode cX4_behindUnit 68 = .ok (.aload_n 0, 1) := dk_42 (dk_at dksX4_behindUnit_2 20 rfl rfl)
theorem dX4_behindUnit_69 : decode cX4_behindUnit 69 = .ok (.getfield 303, 3) := dk_180 1 47 (dk_at dksX4_behindUnit_2 21 rfl rfl)
theorem dX4_behindUnit_72 : decode cX4_behindUnit 72 = .ok (.iaload, 1) := dk_46 (dk_at dksX4_behindUnit_3 0 rfl rfl)
theorem dX4_behindUnit_73 : decode cX4_behindUnit 73 = .ok (.iconst 3, 1) := dk_6 (dk_at dksX4_behindUnit_3 1 rfl rfl)
theorem dX4_behindUnit_74 : decode cX4_behindUnit 74 = .ok (.if_icmp .ne 13, 3) := dk_160 0 13 (dk_at dksX4_behindUnit_3 2 rfl rfl)
theorem dX4_behindUnit_77 : decode cX4_behindUnit 77 = .ok (.aload_n 0, 1) := dk_42 (dk_at dksX4_behindUnit_3 5 rfl rfl)
theorem dX4_behindUnit_78 : decode cX4_behindUnit 78 = .ok (.dup, 1) := dk_89 (dk_at dksX4_behindUnit_3 6 rfl rfl)
theorem dX4_behindUnit_79 : decode cX4_behindUnit 79 = .ok (.getfield 306, 3) := dk_180 1 50 (dk_at dksX4_behindUnit_3 7 rfl rfl)
theorem dX4_behindUnit_82 : decode cX4_behindUnit 82 = .ok (.iconst 1, 1) := dk_4 (dk_at dksX4_behindUnit_3 10 rfl rfl)
theorem dX4_behindUnit_83 : decode cX4_behindUnit 83 = .ok (.isub, 1) := dk_100 (dk_at dksX4_behindUnit_3 11 rfl rfl)
theorem dX4_behindUnit_84 : decode cX4_behindUnit 84 = .ok (.putfield 306, 3) := dk_181 1 50 (dk_at dksX4_behindUnit_3 12 rfl rfl)
theorem dX4_behindUnit_87 : decode cX4_behindUnit 87 = .ok (.aload_n 0, 1) := dk_42 (dk_at dksX4_behindUnit_3 15 rfl rfl)
theorem dX4_behindUnit_88 : decode cX4_behindUnit 88 = .ok (.aload_n 0, 1) := dk_42 (dk_at dksX4_behindUnit_3 16 rfl rfl)
theorem dX4_behindUnit_89 : decode cX4_behindUnit 89 = .ok (.getfield 82, 3) := dk_180 0 82 (dk_at dksX4_behindUnit_3 17 rfl rfl)
theorem dX4_behindUnit_92 : decode cX4_behindUnit 92 = .ok (.aload_n 0, 1) := dk_42 (dk_at dksX4_behindUnit_3 20 rfl rfl)
theorem dX4_behindUnit_93 : decode cX4_behindUnit 93 = .ok (.getfield 303, 3) := dk_180 1 47 (dk_at dksX4_behindUnit_3 21 rfl rfl)
theorem dX4_behindUnit_96 : decode cX4_behindUnit 96 = .ok (.iaload, 1) := dk_46 (dk_at dksX4_behindUnit_4 0 rfl rfl)
theorem dX4_behindUnit_97 : decode cX4_behindUnit 97 = .ok (.iconst 0, 1) := dk_3 (dk_at dksX4_behindUnit_4 1 rfl rfl)
theorem dX4_behindUnit_98 : decode cX4_behindUnit 98 = .ok (.invokevirtual 321, 3) := dk_182 1 65 (dk_at dksX4_behindUnit_4 2 rfl rfl)
theorem dX4_behindUnit_101 : decode cX4_behindUnit 101 = .ok (.goto (-78), 3) := dk_167 255 178 (dk_at dksX4_behindUnit_4 5 rfl rfl)
theorem dX4_behindUnit_104 : decode cX4_behindUnit 104 = .ok (.iload_n 1, 1) := dk_27 (dk_at dksX4_behindUnit_4 8 rfl rfl)
theorem dX4_behindUnit_105 : decode cX4_behindUnit 105 = .ok (.ifCond .le 42, 3) := dk_158 0 42 (dk_at dksX4_behindUnit_4 9 rfl rfl)
theorem dX4_behindUnit_108 : decode cX4_behindUnit 108 = .ok (.aload_n 0, 1) := dk_42 (dk_at dksX4_behindUnit_4 12 rfl rfl)
theorem dX4_behindUnit_109 : decode cX4_behindUnit 109 = .ok (.iload_n 1, 1) := dk_27 (dk_at dksX4_behindUnit_4 13 rfl rfl)
theorem dX4_behindUnit_110 : decode cX4_behindUnit 110 = .ok (.iload_n 1, 1) := dk_27 (dk_at dksX4_behindUnit_4 14 rfl rfl)
theorem dX4_behindUnit_111 : decode cX4_behindUnit 111 = .ok (.iconst 2, 1) := dk_5 (dk_at dksX4_behindUnit_4 15 rfl rfl)
theorem dX4_behindUnit_112 : decode cX4_behindUnit 112 = .ok (.if_icmp .ne 8, 3) := dk_160 0 8 (dk_at dksX4_behindUnit_4 16 rfl rfl)
theorem dX4_behindUnit_115 : decode cX4_behindUnit 115 = .ok (.bipush 38, 2) := dk_16 38 (dk_at dksX4_behindUnit_4 19 rfl rfl)
theorem dX4_behindUnit_117 : decode cX4_behindUnit 117 = .ok (.goto 21, 3) := dk_167 0 21 (dk_at dksX4_behindUnit_4 21 rfl rfl)
theorem dX4_behindUnit_120 : decode cX4_behindUnit 120 = .ok (.iload_n 1, 1) := dk_27 (dk_at dksX4_behindUnit_5 0 rfl rfl)
theorem dX4_behindUnit_121 : decode cX4_behindUnit 121 = .ok (.iconst 1, 1) := dk_4 (dk_at dksX4_behindUnit_5 1 rfl rfl)
theorem dX4_behindUnit_122 : decode cX4_behindUnit 122 = .ok (.if_icmp .ne 8, 3) := dk_160 0 8 (dk_at dksX4_behindUnit_5 2 rfl rfl)
theorem dX4_behindUnit_125 : decode cX4_behindUnit 125 = .ok (.bipush 124, 2) := dk_16 124 (dk_at dksX4_behindUnit_5 5 rfl rfl)
theorem dX4_behindUnit_127 : decode cX4_behindUnit 127 = .ok (.goto 11, 3) := dk_167 0 11 (dk_at dksX4_behindUnit_5 7 rfl rfl)
theorem dX4_behindUnit_130 : decode cX4_behindUnit 130 = .ok (.aload_n 0, 1) := dk_42 (dk_at dksX4_behindUnit_5 10 rfl rfl)
theorem dX4_behindUnit_131 : decode cX4_behindUnit 131 = .ok (.aload_n 0, 1) := dk_42 (dk_at dksX4_behindUnit_5 11 rfl rfl)
theorem dX4_behindUnit_132 : decode cX4_behindUnit 132 = .ok (.getfield 188, 3) := dk_180 0 188 (dk_at dksX4_behindUnit_5 12 rfl rfl)
theorem dX4_behindUnit_135 : decode cX4_behindUnit 135 = .ok (.invokevirtual 191, 3) := dk_182 0 191 (dk_at dksX4_behindUnit_5 15 rfl rfl)
theorem dX4_behindUnit_138 : decode cX4_behindUnit 138 = .ok (.invokevirtual 309, 3) := dk_182 1 53 (dk_at dksX4_behindUnit_5 18 rfl rfl)
theorem dX4_behindUnit_141 : decode cX4_behindUnit 141 = .ok (.aload_n 0, 1) := dk_42 (dk_at dksX4_behindUnit_5 21 rfl rfl)
theorem dX4_behindUnit_142 : decode cX4_behindUnit 142 = .ok (.invokevirtual 227, 3) := dk_182 0 227 (dk_at dksX4_behindUnit_6 0 rfl rfl)
theorem dX4_behindUnit_145 : decode cX4_behindUnit 145 = .ok (.iconst 1, 1) := dk_4 (dk_at dksX4_behindUnit_6 3 rfl rfl)
theorem dX4_behindUnit_146 : decode cX4_behindUnit 146 = .ok (.ireturn, 1) := dk_172 (dk_at dksX4_behindUnit_6 4 rfl rfl)
theorem dX4_behindUnit_147 : decode cX4_behindUnit 147 = .ok (.aload_n 0, 1) := dk_42 (dk_at dksX4_behindUnit_6 5 rfl rfl)
theorem dX4_behindUnit_148 : decode cX4_behindUnit 148 = .ok (.dup, 1) := dk_89 (dk_at dksX4_behindUnit_6 6 rfl rfl)
theorem dX4_behindUnit_149 : decode cX4_behindUnit 149 = .ok (.getfield 303, 3) := dk_180 1 47 (dk_at dksX4_behindUnit_6 7 rfl rfl)
theorem dX4_behindUnit_152 : decode cX4_behindUnit 152 = .ok (.iconst 1, 1) := dk_4 (dk_at dksX4_behindUnit_6 10 rfl rfl)
theorem dX4_behindUnit_153 : decode cX4_behindUnit 153 = .ok (.isub, 1) := dk_100 (dk_at dksX4_behindUnit_6 11 rfl rfl)
theorem dX4_behindUnit_154 : decode cX4_behindUnit 154 = .ok (.putfield 303, 3) := dk_181 1 47 (dk_at dksX4_behindUnit_6 12 rfl rfl)
theorem dX4_behindUnit_157 : decode cX4_behindUnit 157 = .ok (.aload_n 0, 1) := dk_42 (dk_at dksX4_behindUnit_6 15 rfl rfl)
theorem dX4_behindUnit_158 : decode cX4_behindUnit 158 = .ok (.getfield 79, 3) := dk_180 0 79 (dk_at dksX4_behindUnit_6 16 rfl rfl)
theorem dX4_behindUnit_161 : decode cX4_behindUnit 161 = .ok (.aload_n 0, 1) := dk_42 (dk_at dksX4_behindUnit_6 19 rfl rfl)
theorem dX4_behindUnit_162 : decode cX4_behindUnit 162 = .ok (.getfield 303, 3) := dk_180 1 47 (dk_at dksX4_behindUnit_6 20 rfl rfl)
theorem dX4_behindUnit_165 : decode cX4_behindUnit 165 = .ok (.iaload, 1) := dk_46 (dk_at dksX4_behindUnit_6 23 rfl rfl)
theorem dX4_behindUnit_166 : decode cX4_behindUnit 166 = .ok (.bipush 7, 2) := dk_16 7 (dk_at dksX4_behindUnit_7 0 rfl rfl)
theorem dX4_behindUnit_168 : decode cX4_behindUnit 168 = .ok (.if_icmp .ne 23, 3) := dk_160 0 23 (dk_at dksX4_behindUnit_7 2 rfl rfl)
theorem dX4_behindUnit_171 : decode cX4_behindUnit 171 = .ok (.aload_n 0, 1) := dk_42 (dk_at dksX4_behindUnit_7 5 rfl rfl)
theorem dX4_behindUnit_172 : decode cX4_behindUnit 172 = .ok (.dup, 1) := dk_89 (dk_at dksX4_behindUnit_7 6 rfl rfl)
theorem dX4_behindUnit_173 : decode cX4_behindUnit 173 = .ok (.getfield 306, 3) := dk_180 1 50 (dk_at dksX4_behindUnit_7 7 rfl rfl)
theorem dX4_behindUnit_176 : decode cX4_behindUnit 176 = .ok (.iconst 1, 1) := dk_4 (dk_at dksX4_behindUnit_7 10 rfl rfl)
theorem dX4_behindUnit_177 : decode cX4_behindUnit 177 = .ok (.isub, 1) := dk_100 (dk_at dksX4_behindUnit_7 11 rfl rfl)
theorem dX4_behindUnit_178 : decode cX4_behindUnit 178 = .ok (.putfield 306, 3) := dk_181 1 50 (dk_at dksX4_behindUnit_7 12 rfl rfl)
theorem dX4_behindUnit_181 : decode cX4_behindUnit 181 = .ok (.aload_n 0, 1) := dk_42 (dk_at dksX4_behindUnit_7 15 rfl rfl)
theorem dX4_behindUnit_182 : decode cX4_behindUnit 182 = .ok (.aload_n 0, 1) := dk_42 (dk_at dksX4_behindUnit_7 16 rfl rfl)
theorem dX4_behindUnit_183 : decode cX4_behindUnit 183 = .ok (.bipush 41, 2) := dk_16 41 (dk_at dksX4_behindUnit_7 17 rfl rfl)
theorem dX4_behindUnit_185 : decode cX4_behindUnit 185 = .ok (.invokevirtual 287, 3) := dk_182 1 31 (dk_at dksX4_behindUnit_7 19 rfl rfl)
theorem dX4_behindUnit_188 : decode cX4_behindUnit 188 = .ok (.invokevirtual 236, 3) := dk_182 0 236 (dk_at dksX4_behindUnit_8 0 rfl rfl)
theorem dX4_behindUnit_191 : decode cX4_behindUnit 191 = .ok (.iconst 0, 1) := dk_3 (dk_at dksX4_behindUnit_8 3 rfl rfl)
theorem dX4_behindUnit_192 : decode cX4_behindUnit 192 = .ok (.ireturn, 1) := dk_172 (dk_at dksX4_behindUnit_8 4 rfl rfl)
abbrev cX4_rankHere : ByteArray := prog_23_method_32_code
def yX4_rankHere : MethodName := ⟨RX4, "rankHere", "()I"⟩
def dkwX4_rankHere_4 : List UInt8 := [182, 1, 31, 153, 0, 8, 16, 6, 167, 0, 4, 3, 172]
abbrev dktX4_rankHere_4 : List UInt8 := dkwX4_rankHere_4 ++ []
def dkwX4_rankHere_3 : List UInt8 := [172, 42, 16, 42, 182, 1, 31, 154, 0, 21, 42, 16, 47, 182, 1, 31, 154, 0, 12, 42, 16, 37]
abbrev dktX4_rankHere_3 : List UInt8 := dkwX4_rankHere_3 ++ dktX4_rankHere_4
def dkwX4_rankHere_2 : List UInt8 := [153, 0, 5, 7, 172, 42, 16, 43, 182, 1, 31, 154, 0, 12, 42, 16, 45, 182, 1, 31, 153, 0, 5, 8]
abbrev dktX4_rankHere_2 : List UInt8 := dkwX4_rankHere_2 ++ dktX4_rankHere_3
def dkwX4_rankHere_1 : List UInt8 := [42, 16, 60, 182, 1, 31, 154, 0, 21, 42, 16, 62, 182, 1, 31, 154, 0, 12, 42, 16, 61, 182, 1, 31]
abbrev dktX4_rankHere_1 : List UInt8 := dkwX4_rankHere_1 ++ dktX4_rankHere_2
def dkwX4_rankHere_0 : List UInt8 := [42, 20, 0, 181, 182, 0, 233, 153, 0, 5, 5, 172, 42, 20, 0, 179, 182, 0, 233, 153, 0, 5, 4, 172]
abbrev dktX4_rankHere_0 : List UInt8 := dkwX4_rankHere_0 ++ dktX4_rankHere_1
theorem dksX4_rankHere_0 : cX4_rankHere.data.toList.drop 0 = dktX4_rankHere_0 := by decide +kernel
theorem dksX4_rankHere_1 : cX4_rankHere.data.toList.drop 24 = dktX4_rankHere_1 := dk_seg dksX4_rankHere_0 24 rfl rfl
theorem dksX4_rankHere_2 : cX4_rankHere.data.toList.drop 48 = dktX4_rankHere_2 := dk_seg dksX4_rankHere_1 24 rfl rfl
theorem dksX4_rankHere_3 : cX4_rankHere.data.toList.drop 72 = dktX4_rankHere_3 := dk_seg dksX4_rankHere_2 24 rfl rfl
theorem dksX4_rankHere_4 : cX4_rankHere.data.toList.drop 94 = dktX4_rankHere_4 := dk_seg dksX4_rankHere_3 22 rfl rfl
theorem dX4_rankHere_0 : decode cX4_rankHere 0 = .ok (.aload_n 0, 1) := dk_42 (dk_at dksX4_rankHere_0 0 rfl rfl)
theorem dX4_rankHere_1 : decode cX4_rankHere 1 = .ok (.ldc2_w 181, 3) := dk_20 0 181 (dk_at dksX4_rankHere_0 1 rfl rfl)
theorem dX4_rankHere_4 : decode cX4_rankHere 4 = .ok (.invokevirtual 233, 3) := dk_182 0 233 (dk_at dksX4_rankHere_0 4 rfl rfl)
theorem dX4_rankHere_7 : decode cX4_rankHere 7 = .ok (.ifCond .eq 5, 3) := dk_153 0 5 (dk_at dksX4_rankHere_0 7 rfl rfl)
theorem dX4_rankHere_10 : decode cX4_rankHere 10 = .ok (.iconst 2, 1) := dk_5 (dk_at dksX4_rankHere_0 10 rfl rfl)
theorem dX4_rankHere_11 : decode cX4_rankHere 11 = .ok (.ireturn, 1) := dk_172 (dk_at dksX4_rankHere_0 11 rfl rfl)
theorem dX4_rankHere_12 : decode cX4_rankHere 12 = .ok (.aload_n 0, 1) := dk_42 (dk_at dksX4_rankHere_0 12 rfl rfl)
theorem dX4_rankHere_13 : decode cX4_rankHere 13 = .ok (.ldc2_w 179, 3) := dk_20 0 179 (dk_at dksX4_rankHere_0 13 rfl rfl)
theorem dX4_rankHere_16 : decode cX4_rankHere 16 = .ok (.invokevirtual 233, 3) := dk_182 0 233 (dk_at dksX4_rankHere_0 16 rfl rfl)
theorem dX4_rankHere_19 : decode cX4_rankHere 19 = .ok (.ifCond .eq 5, 3) := dk_153 0 5 (dk_at dksX4_rankHere_0 19 rfl rfl)
theorem dX4_rankHere_22 : decode cX4_rankHere 22 = .ok (.iconst 1, 1) := dk_4 (dk_at dksX4_rankHere_0 22 rfl rfl)
theorem dX4_rankHere_23 : decode cX4_rankHere 23 = .ok (.ireturn, 1) := dk_172 (dk_at dksX4_rankHere_0 23 rfl rfl)
theorem dX4_rankHere_24 : decode cX4_rankHere 24 = .ok (.aload_n 0, 1) := dk_42 (dk_at dksX4_rankHere_1 0 rfl rfl)
theorem dX4_rankHere_25 : decode cX4_rankHere 25 = .ok (.bipush 60, 2) := dk_16 60 (dk_at dksX4_rankHere_1 1 rfl rfl)
theorem dX4_rankHere_27 : decode cX4_rankHere 27 = .ok (.invokevirtual 287, 3) := dk_182 1 31 (dk_at dksX4_rankHere_1 3 rfl rfl)
theorem dX4_rankHere_30 : decode cX4_rankHere 30 = .ok (.ifCond .ne 21, 3) := dk_154 0 21 (dk_at dksX4_rankHere_1 6 rfl rfl)
theorem dX4_rankHere_33 : decode cX4_rankHere 33 = .ok (.aload_n 0, 1) := dk_42 (dk_at dksX4_rankHere_1 9 rfl rfl)
theorem dX4_rankHere_34 : decode cX4_rankHere 34 = .ok (.bipush 62, 2) := dk_16 62 (dk_at dksX4_rankHere_1 10 rfl rfl)
theorem dX4_rankHere_36 : decode cX4_rankHere 36 = .ok (.invokevirtual 287, 3) := dk_182 1 31 (dk_at dksX4_rankHere_1 12 rfl rfl)
theorem dX4_rankHere_39 : decode cX4_rankHere 39 = .ok (.ifCond .ne 12, 3) := dk_154 0 12 (dk_at dksX4_rankHere_1 15 rfl rfl)
theorem dX4_rankHere_42 : decode cX4_rankHere 42 = .ok (.aload_n 0, 1) := dk_42 (dk_at dksX4_rankHere_1 18 rfl rfl)
theorem dX4_rankHere_43 : decode cX4_rankHere 43 = .ok (.bipush 61, 2) := dk_16 61 (dk_at dksX4_rankHere_1 19 rfl rfl)
theorem dX4_rankHere_45 : decode cX4_rankHere 45 = .ok (.invokevirtual 287, 3) := dk_182 1 31 (dk_at dksX4_rankHere_1 21 rfl rfl)
theorem dX4_rankHere_48 : decode cX4_rankHere 48 = .ok (.ifCond .eq 5, 3) := dk_153 0 5 (dk_at dksX4_rankHere_2 0 rfl rfl)
theorem dX4_rankHere_51 : decode cX4_rankHere 51 = .ok (.iconst 4, 1) := dk_7 (dk_at dksX4_rankHere_2 3 rfl rfl)
theorem dX4_rankHere_52 : decode cX4_rankHere 52 = .ok (.ireturn, 1) := dk_172 (dk_at dksX4_rankHere_2 4 rfl rfl)
theorem dX4_rankHere_53 : decode cX4_rankHere 53 = .ok (.aload_n 0, 1) := dk_42 (dk_at dksX4_rankHere_2 5 rfl rfl)
theorem dX4_rankHere_54 : decode cX4_rankHere 54 = .ok (.bipush 43, 2) := dk_16 43 (dk_at dksX4_rankHere_2 6 rfl rfl)
theorem dX4_rankHere_56 : decode cX4_rankHere 56 = .ok (.invokevirtual 287, 3) := dk_182 1 31 (dk_at dksX4_rankHere_2 8 rfl rfl)
theorem dX4_rankHere_59 : decode cX4_rankHere 59 = .ok (.ifCond .ne 12, 3) := dk_154 0 12 (dk_at dksX4_rankHere_2 11 rfl rfl)
theorem dX4_rankHere_62 : decode cX4_rankHere 62 = .ok (.aload_n 0, 1) := dk_42 (dk_at dksX4_rankHere_2 14 rfl rfl)
theorem dX4_rankHere_63 : decode cX4_rankHere 63 = .ok (.bipush 45, 2) := dk_16 45 (dk_at dksX4_rankHere_2 15 rfl rfl)
theorem dX4_rankHere_65 : decode cX4_rankHere 65 = .ok (.invokevirtual 287, 3) := dk_182 1 31 (dk_at dksX4_rankHere_2 17 rfl rfl)
theorem dX4_rankHere_68 : decode cX4_rankHere 68 = .ok (.ifCond .eq 5, 3) := dk_153 0 5 (dk_at dksX4_rankHere_2 20 rfl rfl)
theorem dX4_rankHere_71 : decode cX4_rankHere 71 = .ok (.iconst 5, 1) := dk_8 (dk_at dksX4_rankHere_2 23 rfl rfl)
theorem dX4_rankHere_72 : decode cX4_rankHere 72 = .ok (.ireturn, 1) := dk_172 (dk_at dksX4_rankHere_3 0 rfl rfl)
theorem dX4_rankHere_73 : decode cX4_rankHere 73 = .ok (.aload_n 0, 1) := dk_42 (dk_at dksX4_rankHere_3 1 rfl rfl)
theorem dX4_rankHere_74 : decode cX4_rankHere 74 = .ok (.bipush 42, 2) := dk_16 42 (dk_at dksX4_rankHere_3 2 rfl rfl)
theorem dX4_rankHere_76 : decode cX4_rankHere 76 = .ok (.invokevirtual 287, 3) := dk_182 1 31 (dk_at dksX4_rankHere_3 4 rfl rfl)
theorem dX4_rankHere_79 : decode cX4_rankHere 79 = .ok (.ifCond .ne 21, 3) := dk_154 0 21 (dk_at dksX4_rankHere_3 7 rfl rfl)
theorem dX4_rankHere_82 : decode cX4_rankHere 82 = .ok (.aload_n 0, 1) := dk_42 (dk_at dksX4_rankHere_3 10 rfl rfl)
theorem dX4_rankHere_83 : decode cX4_rankHere 83 = .ok (.bipush 47, 2) := dk_16 47 (dk_at dksX4_rankHere_3 11 rfl rfl)
theorem dX4_rankHere_85 : decode cX4_rankHere 85 = .ok (.invokevirtual 287, 3) := dk_182 1 31 (dk_at dksX4_rankHere_3 13 rfl rfl)
theorem dX4_rankHere_88 : decode cX4_rankHere 88 = .ok (.ifCond .ne 12, 3) := dk_154 0 12 (dk_at dksX4_rankHere_3 16 rfl rfl)
theorem dX4_rankHere_91 : decode cX4_rankHere 91 = .ok (.aload_n 0, 1) := dk_42 (dk_at dksX4_rankHere_3 19 rfl rfl)
theorem dX4_rankHere_92 : decode cX4_rankHere 92 = .ok (.bipush 37, 2) := dk_16 37 (dk_at dksX4_rankHere_3 20 rfl rfl)
theorem dX4_rankHere_94 : decode cX4_rankHere 94 = .ok (.invokevirtual 287, 3) := dk_182 1 31 (dk_at dksX4_rankHere_4 0 rfl rfl)
theorem dX4_rankHere_97 : decode cX4_rankHere 97 = .ok (.ifCond .eq 8, 3) := dk_153 0 8 (dk_at dksX4_rankHere_4 3 rfl rfl)
theorem dX4_rankHere_100 : decode cX4_rankHere 100 = .ok (.bipush 6, 2) := dk_16 6 (dk_at dksX4_rankHere_4 6 rfl rfl)
theorem dX4_rankHere_102 : decode cX4_rankHere 102 = .ok (.goto 4, 3) := dk_167 0 4 (dk_at dksX4_rankHere_4 8 rfl rfl)
theorem dX4_rankHere_105 : decode cX4_rankHere 105 = .ok (.iconst 0, 1) := dk_3 (dk_at dksX4_rankHere_4 11 rfl rfl)
theorem dX4_rankHere_106 : decode cX4_rankHere 106 = .ok (.ireturn, 1) := dk_172 (dk_at dksX4_rankHere_4 12 rfl rfl)
abbrev cX4_isCompared : ByteArray := prog_23_method_33_code
def yX4_isCompared : MethodName := ⟨RX4, "isCompared", "()Z"⟩
def dkwX4_isCompared_2 : List UInt8 := [167, 0, 4, 3, 172]
abbrev dktX4_isCompared_2 : List UInt8 := dkwX4_isCompared_2 ++ []
def dkwX4_isCompared_1 : List UInt8 := [16, 6, 160, 0, 9, 132, 1, 255, 167, 255, 232, 42, 180, 0, 79, 27, 46, 7, 160, 0, 7, 4]
abbrev dktX4_isCompared_1 : List UInt8 := dkwX4_isCompared_1 ++ dktX4_isCompared_2
def dkwX4_isCompared_0 : List UInt8 := [42, 180, 1, 47, 4, 100, 60, 42, 180, 0, 79, 27, 46, 8, 159, 0, 14, 42, 180, 0, 79, 27, 46]
abbrev dktX4_isCompared_0 : List UInt8 := dkwX4_isCompared_0 ++ dktX4_isCompared_1
theorem dksX4_isCompared_0 : cX4_isCompared.data.toList.drop 0 = dktX4_isCompared_0 := by decide +kernel
theorem dksX4_isCompared_1 : cX4_isCompared.data.toList.drop 23 = dktX4_isCompared_1 := dk_seg dksX4_isCompared_0 23 rfl rfl
theorem dksX4_isCompared_2 : cX4_isCompared.data.toList.drop 45 = dktX4_isCompared_2 := dk_seg dksX4_isCompared_1 22 rfl rfl
theorem dX4_isCompared_0 : decode cX4_isCompared 0 = .ok (.aload_n 0, 1) := dk_42 (dk_at dksX4_isCompared_0 0 rfl rfl)
theorem dX4_isCompared_1 : decode cX4_isCompared 1 = .ok (.getfield 303, 3) := dk_180 1 47 (dk_at dksX4_isCompared_0 1 rfl rfl)
theorem dX4_isCompared_4 : decode cX4_isCompared 4 = .ok (.iconst 1, 1) := dk_4 (dk_at dksX4_isCompared_0 4 rfl rfl)
theorem dX4_isCompared_5 : decode cX4_isCompared 5 = .ok (.isub, 1) := dk_100 (dk_at dksX4_isCompared_0 5 rfl rfl)
theorem dX4_isCompared_6 : decode cX4_isCompared 6 = .ok (.istore_n 1, 1) := dk_60 (dk_at dksX4_isCompared_0 6 rfl rfl)
theorem dX4_isCompared_7 : decode cX4_isCompared 7 = .ok (.aload_n 0, 1) := dk_42 (dk_at dksX4_isCompared_0 7 rfl rfl)
theorem dX4_isCompared_8 : decode cX4_isCompared 8 = .ok (.getfield 79, 3) := dk_180 0 79 (dk_at dksX4_isCompared_0 8 rfl rfl)
theorem dX4_isCompared_11 : decode cX4_isCompared 11 = .ok (.iload_n 1, 1) := dk_27 (dk_at dksX4_isCompared_0 11 rfl rfl)
theorem dX4_isCompared_12 : decode cX4_isCompared 12 = .ok (.iaload, 1) := dk_46 (dk_at dksX4_isCompared_0 12 rfl rfl)
theorem dX4_isCompared_13 : decode cX4_isCompared 13 = .ok (.iconst 5, 1) := dk_8 (dk_at dksX4_isCompared_0 13 rfl rfl)
theorem dX4_isCompared_14 : decode cX4_isCompared 14 = .ok (.if_icmp .eq 14, 3) := dk_159 0 14 (dk_at dksX4_isCompared_0 14 rfl rfl)
theorem dX4_isCompared_17 : decode cX4_isCompared 17 = .ok (.aload_n 0, 1) := dk_42 (dk_at dksX4_isCompared_0 17 rfl rfl)
theorem dX4_isCompared_18 : decode cX4_isCompared 18 = .ok (.getfield 79, 3) := dk_180 0 79 (dk_at dksX4_isCompared_0 18 rfl rfl)
theorem dX4_isCompared_21 : decode cX4_isCompared 21 = .ok (.iload_n 1, 1) := dk_27 (dk_at dksX4_isCompared_0 21 rfl rfl)
theorem dX4_isCompared_22 : decode cX4_isCompared 22 = .ok (.iaload, 1) := dk_46 (dk_at dksX4_isCompared_0 22 rfl rfl)
theorem dX4_isCompared_23 : decode cX4_isCompared 23 = .ok (.bipush 6, 2) := dk_16 6 (dk_at dksX4_isCompared_1 0 rfl rfl)
theorem dX4_isCompared_25 : decode cX4_isCompared 25 = .ok (.if_icmp .ne 9, 3) := dk_160 0 9 (dk_at dksX4_isCompared_1 2 rfl rfl)
theorem dX4_isCompared_28 : decode cX4_isCompared 28 = .ok (.iinc 1 (-1), 3) := dk_132 1 255 (dk_at dksX4_isCompared_1 5 rfl rfl)
theorem dX4_isCompared_31 : decode cX4_isCompared 31 = .ok (.goto (-24), 3) := dk_167 255 232 (dk_at dksX4_isCompared_1 8 rfl rfl)
theorem dX4_isCompared_34 : decode cX4_isCompared 34 = .ok (.aload_n 0, 1) := dk_42 (dk_at dksX4_isCompared_1 11 rfl rfl)
theorem dX4_isCompared_35 : decode cX4_isCompared 35 = .ok (.getfield 79, 3) := dk_180 0 79 (dk_at dksX4_isCompared_1 12 rfl rfl)
theorem dX4_isCompared_38 : decode cX4_isCompared 38 = .ok (.iload_n 1, 1) := dk_27 (dk_at dksX4_isCompared_1 15 rfl rfl)
theorem dX4_isCompared_39 : decode cX4_isCompared 39 = .ok (.iaload, 1) := dk_46 (dk_at dksX4_isCompared_1 16 rfl rfl)
theorem dX4_isCompared_40 : decode cX4_isCompared 40 = .ok (.iconst 4, 1) := dk_7 (dk_at dksX4_isCompared_1 17 rfl rfl)
theorem dX4_isCompared_41 : decode cX4_isCompared 41 = .ok (.if_icmp .ne 7, 3) := dk_160 0 7 (dk_at dksX4_isCompared_1 18 rfl rfl)
theorem dX4_isCompared_44 : decode cX4_isCompared 44 = .ok (.iconst 1, 1) := dk_4 (dk_at dksX4_isCompared_1 21 rfl rfl)
theorem dX4_isCompared_45 : decode cX4_isCompared 45 = .ok (.goto 4, 3) := dk_167 0 4 (dk_at dksX4_isCompared_2 0 rfl rfl)
theorem dX4_isCompared_48 : decode cX4_isCompared 48 = .ok (.iconst 0, 1) := dk_3 (dk_at dksX4_isCompared_2 3 rfl rfl)
theorem dX4_isCompared_49 : decode cX4_isCompared 49 = .ok (.ireturn, 1) := dk_172 (dk_at dksX4_isCompared_2 4 rfl rfl)
abbrev cX4_fault : ByteArray := prog_23_method_38_code
def yX4_fault : MethodName := ⟨RX4, "fault", "(I)I"⟩
def dkwX4_fault_1 : List UInt8 := [172]
abbrev dktX4_fault_1 : List UInt8 := dkwX4_fault_1 ++ []
def dkwX4_fault_0 : List UInt8 := [27, 154, 0, 10, 42, 180, 0, 146, 167, 0, 16, 27, 4, 160, 0, 10, 42, 180, 0, 16, 167, 0, 4, 2]
abbrev dktX4_fault_0 : List UInt8 := dkwX4_fault_0 ++ dktX4_fault_1
theorem dksX4_fault_0 : cX4_fault.data.toList.drop 0 = dktX4_fault_0 := by decide +kernel
theorem dksX4_fault_1 : cX4_fault.data.toList.drop 24 = dktX4_fault_1 := dk_seg dksX4_fault_0 24 rfl rfl
theorem dX4_fault_0 : decode cX4_fault 0 = .ok (.iload_n 1, 1) := dk_27 (dk_at dksX4_fault_0 0 rfl rfl)
theorem dX4_fault_1 : decode cX4_fault 1 = .ok (.ifCond .ne 10, 3) := dk_154 0 10 (dk_at dksX4_fault_0 1 rfl rfl)
theorem dX4_fault_4 : decode cX4_fault 4 = .ok (.aload_n 0, 1) := dk_42 (dk_at dksX4_fault_0 4 rfl rfl)
theorem dX4_fault_5 : decode cX4_fault 5 = .ok (.getfield 146, 3) := dk_180 0 146 (dk_at dksX4_fault_0 5 rfl rfl)
theorem dX4_fault_8 : decode cX4_fault 8 = .ok (.goto 16, 3) := dk_167 0 16 (dk_at dksX4_fault_0 8 rfl rfl)
theorem dX4_fault_11 : decode cX4_fault 11 = .ok (.iload_n 1, 1) := dk_27 (dk_at dksX4_fault_0 11 rfl rfl)
theorem dX4_fault_12 : decode cX4_fault 12 = .ok (.iconst 1, 1) := dk_4 (dk_at dksX4_fault_0 12 rfl rfl)
theorem dX4_fault_13 : decode cX4_fault 13 = .ok (.if_icmp .ne 10, 3) := dk_160 0 10 (dk_at dksX4_fault_0 13 rfl rfl)
theorem dX4_fault_16 : decode cX4_fault 16 = .ok (.aload_n 0, 1) := dk_42 (dk_at dksX4_fault_0 16 rfl rfl)
theorem dX4_fault_17 : decode cX4_fault 17 = .ok (.getfield 16, 3) := dk_180 0 16 (dk_at dksX4_fault_0 17 rfl rfl)
theorem dX4_fault_20 : decode cX4_fault 20 = .ok (.goto 4, 3) := dk_167 0 4 (dk_at dksX4_fault_0 20 rfl rfl)
theorem dX4_fault_23 : decode cX4_fault 23 = .ok (.iconst (-1), 1) := dk_2 (dk_at dksX4_fault_0 23 rfl rfl)
theorem dX4_fault_24 : decode cX4_fault 24 = .ok (.ireturn, 1) := dk_172 (dk_at dksX4_fault_1 0 rfl rfl)
abbrev cX4_person : ByteArray := prog_23_method_68_code
def yX4_person : MethodName := ⟨RX4, "person", "(II)I"⟩
def dkwX4_person_4 : List UInt8 := [42, 27, 182, 1, 163, 42, 180, 0, 88, 4, 46, 126, 172, 16, 254, 172]
abbrev dktX4_person_4 : List UInt8 := dkwX4_person_4 ++ []
def dkwX4_person_3 : List UInt8 := [126, 172, 42, 27, 182, 1, 157, 42, 182, 1, 160, 126, 172, 42, 27, 182, 1, 163, 42, 182, 1, 160, 126, 172]
abbrev dktX4_person_3 : List UInt8 := dkwX4_person_3 ++ dktX4_person_4
def dkwX4_person_2 : List UInt8 := [42, 180, 0, 42, 16, 6, 42, 180, 0, 253, 104, 27, 96, 46, 172, 42, 180, 0, 88, 3, 46, 27, 122, 4]
abbrev dktX4_person_2 : List UInt8 := dkwX4_person_2 ++ dktX4_person_3
def dkwX4_person_1 : List UInt8 := [170, 0, 0, 0, 0, 0, 0, 97, 0, 0, 0, 0, 0, 0, 0, 4, 0, 0, 0, 36, 0, 0, 0, 51, 0, 0, 0, 62, 0, 0, 0, 73, 0, 0, 0, 84]
abbrev dktX4_person_1 : List UInt8 := dkwX4_person_1 ++ dktX4_person_2
def dkwX4_person_0 : List UInt8 := [42, 27, 182, 1, 154, 154, 0, 6, 16, 254, 172, 28]
abbrev dktX4_person_0 : List UInt8 := dkwX4_person_0 ++ dktX4_person_1
theorem dksX4_person_0 : cX4_person.data.toList.drop 0 = dktX4_person_0 := by decide +kernel
theorem dksX4_person_1 : cX4_person.data.toList.drop 12 = dktX4_person_1 := dk_seg dksX4_person_0 12 rfl rfl
theorem dksX4_person_2 : cX4_person.data.toList.drop 48 = dktX4_person_2 := dk_seg dksX4_person_1 36 rfl rfl
theorem dksX4_person_3 : cX4_person.data.toList.drop 72 = dktX4_person_3 := dk_seg dksX4_person_2 24 rfl rfl
theorem dksX4_person_4 : cX4_person.data.toList.drop 96 = dktX4_person_4 := dk_seg dksX4_person_3 24 rfl rfl
theorem dX4_person_0 : decode cX4_person 0 = .ok (.aload_n 0, 1) := dk_42 (dk_at dksX4_person_0 0 rfl rfl)
theorem dX4_person_1 : decode cX4_person 1 = .ok (.iload_n 1, 1) := dk_27 (dk_at dksX4_person_0 1 rfl rfl)
theorem dX4_person_2 : decode cX4_person 2 = .ok (.invokevirtual 410, 3) := dk_182 1 154 (dk_at dksX4_person_0 2 rfl rfl)
theorem dX4_person_5 : decode cX4_person 5 = .ok (.ifCond .ne 6, 3) := dk_154 0 6 (dk_at dksX4_person_0 5 rfl rfl)
theorem dX4_person_8 : decode cX4_person 8 = .ok (.bipush (-2), 2) := dk_16 254 (dk_at dksX4_person_0 8 rfl rfl)
theorem dX4_person_10 : decode cX4_person 10 = .ok (.ireturn, 1) := dk_172 (dk_at dksX4_person_0 10 rfl rfl)
theorem dX4_person_11 : decode cX4_person 11 = .ok (.iload_n 2, 1) := dk_28 (dk_at dksX4_person_0 11 rfl rfl)
theorem dX4_person_12 : decode cX4_person 12 = .ok (.tableswitch 97 0 4 #[36, 51, 62, 73, 84], 36) := by decide +kernel
theorem dX4_person_48 : decode cX4_person 48 = .ok (.aload_n 0, 1) := dk_42 (dk_at dksX4_person_2 0 rfl rfl)
theorem dX4_person_49 : decode cX4_person 49 = .ok (.getfield 42, 3) := dk_180 0 42 (dk_at dksX4_person_2 1 rfl rfl)
theorem dX4_person_52 : decode cX4_person 52 = .ok (.bipush 6, 2) := dk_16 6 (dk_at dksX4_person_2 4 rfl rfl)
theorem dX4_person_54 : decode cX4_person 54 = .ok (.aload_n 0, 1) := dk_42 (dk_at dksX4_person_2 6 rfl rfl)
theorem dX4_person_55 : decode cX4_person 55 = .ok (.getfield 253, 3) := dk_180 0 253 (dk_at dksX4_person_2 7 rfl rfl)
theorem dX4_person_58 : decode cX4_person 58 = .ok (.imul, 1) := dk_104 (dk_at dksX4_person_2 10 rfl rfl)
theorem dX4_person_59 : decode cX4_person 59 = .ok (.iload_n 1, 1) := dk_27 (dk_at dksX4_person_2 11 rfl rfl)
theorem dX4_person_60 : decode cX4_person 60 = .ok (.iadd, 1) := dk_96 (dk_at dksX4_person_2 12 rfl rfl)
theorem dX4_person_61 : decode cX4_person 61 = .ok (.iaload, 1) := dk_46 (dk_at dksX4_person_2 13 rfl rfl)
theorem dX4_person_62 : decode cX4_person 62 = .ok (.ireturn, 1) := dk_172 (dk_at dksX4_person_2 14 rfl rfl)
theorem dX4_person_63 : decode cX4_person 63 = .ok (.aload_n 0, 1) := dk_42 (dk_at dksX4_person_2 15 rfl rfl)
theorem dX4_person_64 : decode cX4_person 64 = .ok (.getfield 88, 3) := dk_180 0 88 (dk_at dksX4_person_2 16 rfl rfl)
theorem dX4_person_67 : decode cX4_person 67 = .ok (.iconst 0, 1) := dk_3 (dk_at dksX4_person_2 19 rfl rfl)
theorem dX4_person_68 : decode cX4_person 68 = .ok (.iaload, 1) := dk_46 (dk_at dksX4_person_2 20 rfl rfl)
theorem dX4_person_69 : decode cX4_person 69 = .ok (.iload_n 1, 1) := dk_27 (dk_at dksX4_person_2 21 rfl rfl)
theorem dX4_person_70 : decode cX4_person 70 = .ok (.ishr, 1) := dk_122 (dk_at dksX4_person_2 22 rfl rfl)
theorem dX4_person_71 : decode cX4_person 71 = .ok (.iconst 1, 1) := dk_4 (dk_at dksX4_person_2 23 rfl rfl)
theorem dX4_person_72 : decode cX4_person 72 = .ok (.iand, 1) := dk_126 (dk_at dksX4_person_3 0 rfl rfl)
theorem dX4_person_73 : decode cX4_person 73 = .ok (.ireturn, 1) := dk_172 (dk_at dksX4_person_3 1 rfl rfl)
theorem dX4_person_74 : decode cX4_person 74 = .ok (.aload_n 0, 1) := dk_42 (dk_at dksX4_person_3 2 rfl rfl)
theorem dX4_person_75 : decode cX4_person 75 = .ok (.iload_n 1, 1) := dk_27 (dk_at dksX4_person_3 3 rfl rfl)
theorem dX4_person_76 : decode cX4_person 76 = .ok (.invokevirtual 413, 3) := dk_182 1 157 (dk_at dksX4_person_3 4 rfl rfl)
theorem dX4_person_79 : decode cX4_person 79 = .ok (.aload_n 0, 1) := dk_42 (dk_at dksX4_person_3 7 rfl rfl)
theorem dX4_person_80 : decode cX4_person 80 = .ok (.invokevirtual 416, 3) := dk_182 1 160 (dk_at dksX4_person_3 8 rfl rfl)
theorem dX4_person_83 : decode cX4_person 83 = .ok (.iand, 1) := dk_126 (dk_at dksX4_person_3 11 rfl rfl)
theorem dX4_person_84 : decode cX4_person 84 = .ok (.ireturn, 1) := dk_172 (dk_at dksX4_person_3 12 rfl rfl)
theorem dX4_person_85 : decode cX4_person 85 = .ok (.aload_n 0, 1) := dk_42 (dk_at dksX4_person_3 13 rfl rfl)
theorem dX4_person_86 : decode cX4_person 86 = .ok (.iload_n 1, 1) := dk_27 (dk_at dksX4_person_3 14 rfl rfl)
theorem dX4_person_87 : decode cX4_person 87 = .ok (.invokevirtual 419, 3) := dk_182 1 163 (dk_at dksX4_person_3 15 rfl rfl)
theorem dX4_person_90 : decode cX4_person 90 = .ok (.aload_n 0, 1) := dk_42 (dk_at dksX4_person_3 18 rfl rfl)
theorem dX4_person_91 : decode cX4_person 91 = .ok (.invokevirtual 416, 3) := dk_182 1 160 (dk_at dksX4_person_3 19 rfl rfl)
theorem dX4_person_94 : decode cX4_person 94 = .ok (.iand, 1) := dk_126 (dk_at dksX4_person_3 22 rfl rfl)
theorem dX4_person_95 : decode cX4_person 95 = .ok (.ireturn, 1) := dk_172 (dk_at dksX4_person_3 23 rfl rfl)
theorem dX4_person_96 : decode cX4_person 96 = .ok (.aload_n 0, 1) := dk_42 (dk_at dksX4_person_4 0 rfl rfl)
theorem dX4_person_97 : decode cX4_person 97 = .ok (.iload_n 1, 1) := dk_27 (dk_at dksX4_person_4 1 rfl rfl)
theorem dX4_person_98 : decode cX4_person 98 = .ok (.invokevirtual 419, 3) := dk_182 1 163 (dk_at dksX4_person_4 2 rfl rfl)
theorem dX4_person_101 : decode cX4_person 101 = .ok (.aload_n 0, 1) := dk_42 (dk_at dksX4_person_4 5 rfl rfl)
theorem dX4_person_102 : decode cX4_person 102 = .ok (.getfield 88, 3) := dk_180 0 88 (dk_at dksX4_person_4 6 rfl rfl)
theorem dX4_person_105 : decode cX4_person 105 = .ok (.iconst 1, 1) := dk_4 (dk_at dksX4_person_4 9 rfl rfl)
theorem dX4_person_106 : decode cX4_person 106 = .ok (.iaload, 1) := dk_46 (dk_at dksX4_person_4 10 rfl rfl)
theorem dX4_person_107 : decode cX4_person 107 = .ok (.iand, 1) := dk_126 (dk_at dksX4_person_4 11 rfl rfl)
theorem dX4_person_108 : decode cX4_person 108 = .ok (.ireturn, 1) := dk_172 (dk_at dksX4_person_4 12 rfl rfl)
theorem dX4_person_109 : decode cX4_person 109 = .ok (.bipush (-2), 2) := dk_16 254 (dk_at dksX4_person_4 13 rfl rfl)
theorem dX4_person_111 : decode cX4_person 111 = .ok (.ireturn, 1) := dk_172 (dk_at dksX4_person_4 15 rfl rfl)
abbrev cX4_isPerson : ByteArray := prog_23_method_47_code
def yX4_isPerson : MethodName := ⟨RX4, "isPerson", "(I)Z"⟩
def dkwX4_isPerson_0 : List UInt8 := [27, 3, 42, 182, 1, 102, 4, 100, 184, 1, 105, 172]
abbrev dktX4_isPerson_0 : List UInt8 := dkwX4_isPerson_0 ++ []
theorem dksX4_isPerson_0 : cX4_isPerson.data.toList.drop 0 = dktX4_isPerson_0 := by decide +kernel
theorem dX4_isPerson_0 : decode cX4_isPerson 0 = .ok (.iload_n 1, 1) := dk_27 (dk_at dksX4_isPerson_0 0 rfl rfl)
theorem dX4_isPerson_1 : decode cX4_isPerson 1 = .ok (.iconst 0, 1) := dk_3 (dk_at dksX4_isPerson_0 1 rfl rfl)
theorem dX4_isPerson_2 : decode cX4_isPerson 2 = .ok (.aload_n 0, 1) := dk_42 (dk_at dksX4_isPerson_0 2 rfl rfl)
theorem dX4_isPerson_3 : decode cX4_isPerson 3 = .ok (.invokevirtual 358, 3) := dk_182 1 102 (dk_at dksX4_isPerson_0 3 rfl rfl)
theorem dX4_isPerson_6 : decode cX4_isPerson 6 = .ok (.iconst 1, 1) := dk_4 (dk_at dksX4_isPerson_0 6 rfl rfl)
theorem dX4_isPerson_7 : decode cX4_isPerson 7 = .ok (.isub, 1) := dk_100 (dk_at dksX4_isPerson_0 7 rfl rfl)
theorem dX4_isPerson_8 : decode cX4_isPerson 8 = .ok (.invokestatic 361, 3) := dk_184 1 105 (dk_at dksX4_isPerson_0 8 rfl rfl)
theorem dX4_isPerson_11 : decode cX4_isPerson 11 = .ok (.ireturn, 1) := dk_172 (dk_at dksX4_isPerson_0 11 rfl rfl)
abbrev cX4_folk : ByteArray := prog_23_method_44_code
def yX4_folk : MethodName := ⟨RX4, "folk", "()I"⟩
def dkwX4_folk_0 : List UInt8 := [42, 180, 0, 20, 42, 180, 0, 253, 46, 172]
abbrev dktX4_folk_0 : List UInt8 := dkwX4_folk_0 ++ []
theorem dksX4_folk_0 : cX4_folk.data.toList.drop 0 = dktX4_folk_0 := by decide +kernel
theorem dX4_folk_0 : decode cX4_folk 0 = .ok (.aload_n 0, 1) := dk_42 (dk_at dksX4_folk_0 0 rfl rfl)
theorem dX4_folk_1 : decode cX4_folk 1 = .ok (.getfield 20, 3) := dk_180 0 20 (dk_at dksX4_folk_0 1 rfl rfl)
theorem dX4_folk_4 : decode cX4_folk 4 = .ok (.aload_n 0, 1) := dk_42 (dk_at dksX4_folk_0 4 rfl rfl)
theorem dX4_folk_5 : decode cX4_folk 5 = .ok (.getfield 253, 3) := dk_180 0 253 (dk_at dksX4_folk_0 5 rfl rfl)
theorem dX4_folk_8 : decode cX4_folk 8 = .ok (.iaload, 1) := dk_46 (dk_at dksX4_folk_0 8 rfl rfl)
theorem dX4_folk_9 : decode cX4_folk 9 = .ok (.ireturn, 1) := dk_172 (dk_at dksX4_folk_0 9 rfl rfl)
abbrev cX4_isIn : ByteArray := prog_23_method_39_code
def yX4_isIn : MethodName := ⟨RX4, "isIn", "(III)Z"⟩
def dkwX4_isIn_0 : List UInt8 := [26, 27, 161, 0, 12, 26, 28, 163, 0, 7, 4, 167, 0, 4, 3, 172]
abbrev dktX4_isIn_0 : List UInt8 := dkwX4_isIn_0 ++ []
theorem dksX4_isIn_0 : cX4_isIn.data.toList.drop 0 = dktX4_isIn_0 := by decide +kernel
theorem dX4_isIn_0 : decode cX4_isIn 0 = .ok (.iload_n 0, 1) := dk_26 (dk_at dksX4_isIn_0 0 rfl rfl)
theorem dX4_isIn_1 : decode cX4_isIn 1 = .ok (.iload_n 1, 1) := dk_27 (dk_at dksX4_isIn_0 1 rfl rfl)
theorem dX4_isIn_2 : decode cX4_isIn 2 = .ok (.if_icmp .lt 12, 3) := dk_161 0 12 (dk_at dksX4_isIn_0 2 rfl rfl)
theorem dX4_isIn_5 : decode cX4_isIn 5 = .ok (.iload_n 0, 1) := dk_26 (dk_at dksX4_isIn_0 5 rfl rfl)
theorem dX4_isIn_6 : decode cX4_isIn 6 = .ok (.iload_n 2, 1) := dk_28 (dk_at dksX4_isIn_0 6 rfl rfl)
theorem dX4_isIn_7 : decode cX4_isIn 7 = .ok (.if_icmp .gt 7, 3) := dk_163 0 7 (dk_at dksX4_isIn_0 7 rfl rfl)
theorem dX4_isIn_10 : decode cX4_isIn 10 = .ok (.iconst 1, 1) := dk_4 (dk_at dksX4_isIn_0 10 rfl rfl)
theorem dX4_isIn_11 : decode cX4_isIn 11 = .ok (.goto 4, 3) := dk_167 0 4 (dk_at dksX4_isIn_0 11 rfl rfl)
theorem dX4_isIn_14 : decode cX4_isIn 14 = .ok (.iconst 0, 1) := dk_3 (dk_at dksX4_isIn_0 14 rfl rfl)
theorem dX4_isIn_15 : decode cX4_isIn 15 = .ok (.ireturn, 1) := dk_172 (dk_at dksX4_isIn_0 15 rfl rfl)
abbrev cX4_byOf : ByteArray := prog_23_method_59_code
def yX4_byOf : MethodName := ⟨RX4, "byOf", "(I)I"⟩
def dkwX4_byOf_1 : List UInt8 := [120, 128, 61, 132, 3, 1, 167, 255, 230, 28, 172]
abbrev dktX4_byOf_1 : List UInt8 := dkwX4_byOf_1 ++ []
def dkwX4_byOf_0 : List UInt8 := [3, 61, 3, 62, 29, 42, 182, 1, 112, 162, 0, 24, 42, 29, 182, 1, 133, 27, 160, 0, 9, 28, 4, 29]
abbrev dktX4_byOf_0 : List UInt8 := dkwX4_byOf_0 ++ dktX4_byOf_1
theorem dksX4_byOf_0 : cX4_byOf.data.toList.drop 0 = dktX4_byOf_0 := by decide +kernel
theorem dksX4_byOf_1 : cX4_byOf.data.toList.drop 24 = dktX4_byOf_1 := dk_seg dksX4_byOf_0 24 rfl rfl
theorem dX4_byOf_0 : decode cX4_byOf 0 = .ok (.iconst 0, 1) := dk_3 (dk_at dksX4_byOf_0 0 rfl rfl)
theorem dX4_byOf_1 : decode cX4_byOf 1 = .ok (.istore_n 2, 1) := dk_61 (dk_at dksX4_byOf_0 1 rfl rfl)
theorem dX4_byOf_2 : decode cX4_byOf 2 = .ok (.iconst 0, 1) := dk_3 (dk_at dksX4_byOf_0 2 rfl rfl)
theorem dX4_byOf_3 : decode cX4_byOf 3 = .ok (.istore_n 3, 1) := dk_62 (dk_at dksX4_byOf_0 3 rfl rfl)
theorem dX4_byOf_4 : decode cX4_byOf 4 = .ok (.iload_n 3, 1) := dk_29 (dk_at dksX4_byOf_0 4 rfl rfl)
theorem dX4_byOf_5 : decode cX4_byOf 5 = .ok (.aload_n 0, 1) := dk_42 (dk_at dksX4_byOf_0 5 rfl rfl)
theorem dX4_byOf_6 : decode cX4_byOf 6 = .ok (.invokevirtual 368, 3) := dk_182 1 112 (dk_at dksX4_byOf_0 6 rfl rfl)
theorem dX4_byOf_9 : decode cX4_byOf 9 = .ok (.if_icmp .ge 24, 3) := dk_162 0 24 (dk_at dksX4_byOf_0 9 rfl rfl)
theorem dX4_byOf_12 : decode cX4_byOf 12 = .ok (.aload_n 0, 1) := dk_42 (dk_at dksX4_byOf_0 12 rfl rfl)
theorem dX4_byOf_13 : decode cX4_byOf 13 = .ok (.iload_n 3, 1) := dk_29 (dk_at dksX4_byOf_0 13 rfl rfl)
theorem dX4_byOf_14 : decode cX4_byOf 14 = .ok (.invokevirtual 389, 3) := dk_182 1 133 (dk_at dksX4_byOf_0 14 rfl rfl)
theorem dX4_byOf_17 : decode cX4_byOf 17 = .ok (.iload_n 1, 1) := dk_27 (dk_at dksX4_byOf_0 17 rfl rfl)
theorem dX4_byOf_18 : decode cX4_byOf 18 = .ok (.if_icmp .ne 9, 3) := dk_160 0 9 (dk_at dksX4_byOf_0 18 rfl rfl)
theorem dX4_byOf_21 : decode cX4_byOf 21 = .ok (.iload_n 2, 1) := dk_28 (dk_at dksX4_byOf_0 21 rfl rfl)
theorem dX4_byOf_22 : decode cX4_byOf 22 = .ok (.iconst 1, 1) := dk_4 (dk_at dksX4_byOf_0 22 rfl rfl)
theorem dX4_byOf_23 : decode cX4_byOf 23 = .ok (.iload_n 3, 1) := dk_29 (dk_at dksX4_byOf_0 23 rfl rfl)
theorem dX4_byOf_24 : decode cX4_byOf 24 = .ok (.ishl, 1) := dk_120 (dk_at dksX4_byOf_1 0 rfl rfl)
theorem dX4_byOf_25 : decode cX4_byOf 25 = .ok (.ior, 1) := dk_128 (dk_at dksX4_byOf_1 1 rfl rfl)
theorem dX4_byOf_26 : decode cX4_byOf 26 = .ok (.istore_n 2, 1) := dk_61 (dk_at dksX4_byOf_1 2 rfl rfl)
theorem dX4_byOf_27 : decode cX4_byOf 27 = .ok (.iinc 3 1, 3) := dk_132 3 1 (dk_at dksX4_byOf_1 3 rfl rfl)
theorem dX4_byOf_30 : decode cX4_byOf 30 = .ok (.goto (-26), 3) := dk_167 255 230 (dk_at dksX4_byOf_1 6 rfl rfl)
theorem dX4_byOf_33 : decode cX4_byOf 33 = .ok (.iload_n 2, 1) := dk_28 (dk_at dksX4_byOf_1 9 rfl rfl)
theorem dX4_byOf_34 : decode cX4_byOf 34 = .ok (.ireturn, 1) := dk_172 (dk_at dksX4_byOf_1 10 rfl rfl)
abbrev cX4_fromOf : ByteArray := prog_23_method_50_code
def yX4_fromOf : MethodName := ⟨RX4, "fromOf", "(I)I"⟩
def dkwX4_fromOf_0 : List UInt8 := [42, 180, 0, 45, 16, 10, 42, 180, 0, 253, 104, 27, 96, 46, 172]
abbrev dktX4_fromOf_0 : List UInt8 := dkwX4_fromOf_0 ++ []
theorem dksX4_fromOf_0 : cX4_fromOf.data.toList.drop 0 = dktX4_fromOf_0 := by decide +kernel
theorem dX4_fromOf_0 : decode cX4_fromOf 0 = .ok (.aload_n 0, 1) := dk_42 (dk_at dksX4_fromOf_0 0 rfl rfl)
theorem dX4_fromOf_1 : decode cX4_fromOf 1 = .ok (.getfield 45, 3) := dk_180 0 45 (dk_at dksX4_fromOf_0 1 rfl rfl)
theorem dX4_fromOf_4 : decode cX4_fromOf 4 = .ok (.bipush 10, 2) := dk_16 10 (dk_at dksX4_fromOf_0 4 rfl rfl)
theorem dX4_fromOf_6 : decode cX4_fromOf 6 = .ok (.aload_n 0, 1) := dk_42 (dk_at dksX4_fromOf_0 6 rfl rfl)
theorem dX4_fromOf_7 : decode cX4_fromOf 7 = .ok (.getfield 253, 3) := dk_180 0 253 (dk_at dksX4_fromOf_0 7 rfl rfl)
theorem dX4_fromOf_10 : decode cX4_fromOf 10 = .ok (.imul, 1) := dk_104 (dk_at dksX4_fromOf_0 10 rfl rfl)
theorem dX4_fromOf_11 : decode cX4_fromOf 11 = .ok (.iload_n 1, 1) := dk_27 (dk_at dksX4_fromOf_0 11 rfl rfl)
theorem dX4_fromOf_12 : decode cX4_fromOf 12 = .ok (.iadd, 1) := dk_96 (dk_at dksX4_fromOf_0 12 rfl rfl)
theorem dX4_fromOf_13 : decode cX4_fromOf 13 = .ok (.iaload, 1) := dk_46 (dk_at dksX4_fromOf_0 13 rfl rfl)
theorem dX4_fromOf_14 : decode cX4_fromOf 14 = .ok (.ireturn, 1) := dk_172 (dk_at dksX4_fromOf_0 14 rfl rfl)
abbrev cX4_keptNow : ByteArray := prog_23_method_58_code
def yX4_keptNow : MethodName := ⟨RX4, "keptNow", "()I"⟩
def dkwX4_keptNow_0 : List UInt8 := [4, 42, 182, 1, 112, 120, 4, 100, 42, 180, 0, 88, 4, 46, 2, 130, 126, 172]
abbrev dktX4_keptNow_0 : List UInt8 := dkwX4_keptNow_0 ++ []
theorem dksX4_keptNow_0 : cX4_keptNow.data.toList.drop 0 = dktX4_keptNow_0 := by decide +kernel
theorem dX4_keptNow_0 : decode cX4_keptNow 0 = .ok (.iconst 1, 1) := dk_4 (dk_at dksX4_keptNow_0 0 rfl rfl)
theorem dX4_keptNow_1 : decode cX4_keptNow 1 = .ok (.aload_n 0, 1) := dk_42 (dk_at dksX4_keptNow_0 1 rfl rfl)
theorem dX4_keptNow_2 : decode cX4_keptNow 2 = .ok (.invokevirtual 368, 3) := dk_182 1 112 (dk_at dksX4_keptNow_0 2 rfl rfl)
theorem dX4_keptNow_5 : decode cX4_keptNow 5 = .ok (.ishl, 1) := dk_120 (dk_at dksX4_keptNow_0 5 rfl rfl)
theorem dX4_keptNow_6 : decode cX4_keptNow 6 = .ok (.iconst 1, 1) := dk_4 (dk_at dksX4_keptNow_0 6 rfl rfl)
theorem dX4_keptNow_7 : decode cX4_keptNow 7 = .ok (.isub, 1) := dk_100 (dk_at dksX4_keptNow_0 7 rfl rfl)
theorem dX4_keptNow_8 : decode cX4_keptNow 8 = .ok (.aload_n 0, 1) := dk_42 (dk_at dksX4_keptNow_0 8 rfl rfl)
theorem dX4_keptNow_9 : decode cX4_keptNow 9 = .ok (.getfield 88, 3) := dk_180 0 88 (dk_at dksX4_keptNow_0 9 rfl rfl)
theorem dX4_keptNow_12 : decode cX4_keptNow 12 = .ok (.iconst 1, 1) := dk_4 (dk_at dksX4_keptNow_0 12 rfl rfl)
theorem dX4_keptNow_13 : decode cX4_keptNow 13 = .ok (.iaload, 1) := dk_46 (dk_at dksX4_keptNow_0 13 rfl rfl)
theorem dX4_keptNow_14 : decode cX4_keptNow 14 = .ok (.iconst (-1), 1) := dk_2 (dk_at dksX4_keptNow_0 14 rfl rfl)
theorem dX4_keptNow_15 : decode cX4_keptNow 15 = .ok (.ixor, 1) := dk_130 (dk_at dksX4_keptNow_0 15 rfl rfl)
theorem dX4_keptNow_16 : decode cX4_keptNow 16 = .ok (.iand, 1) := dk_126 (dk_at dksX4_keptNow_0 16 rfl rfl)
theorem dX4_keptNow_17 : decode cX4_keptNow 17 = .ok (.ireturn, 1) := dk_172 (dk_at dksX4_keptNow_0 17 rfl rfl)
abbrev cX4_toOf : ByteArray := prog_23_method_60_code
def yX4_toOf : MethodName := ⟨RX4, "toOf", "(I)I"⟩
def dkwX4_toOf_1 : List UInt8 := [120, 128, 61, 132, 3, 1, 167, 255, 230, 28, 172]
abbrev dktX4_toOf_1 : List UInt8 := dkwX4_toOf_1 ++ []
def dkwX4_toOf_0 : List UInt8 := [3, 61, 3, 62, 29, 42, 182, 1, 112, 162, 0, 24, 42, 29, 182, 1, 136, 27, 160, 0, 9, 28, 4, 29]
abbrev dktX4_toOf_0 : List UInt8 := dkwX4_toOf_0 ++ dktX4_toOf_1
theorem dksX4_toOf_0 : cX4_toOf.data.toList.drop 0 = dktX4_toOf_0 := by decide +kernel
theorem dksX4_toOf_1 : cX4_toOf.data.toList.drop 24 = dktX4_toOf_1 := dk_seg dksX4_toOf_0 24 rfl rfl
theorem dX4_toOf_0 : decode cX4_toOf 0 = .ok (.iconst 0, 1) := dk_3 (dk_at dksX4_toOf_0 0 rfl rfl)
theorem dX4_toOf_1 : decode cX4_toOf 1 = .ok (.istore_n 2, 1) := dk_61 (dk_at dksX4_toOf_0 1 rfl rfl)
theorem dX4_toOf_2 : decode cX4_toOf 2 = .ok (.iconst 0, 1) := dk_3 (dk_at dksX4_toOf_0 2 rfl rfl)
theorem dX4_toOf_3 : decode cX4_toOf 3 = .ok (.istore_n 3, 1) := dk_62 (dk_at dksX4_toOf_0 3 rfl rfl)
theorem dX4_toOf_4 : decode cX4_toOf 4 = .ok (.iload_n 3, 1) := dk_29 (dk_at dksX4_toOf_0 4 rfl rfl)
theorem dX4_toOf_5 : decode cX4_toOf 5 = .ok (.aload_n 0, 1) := dk_42 (dk_at dksX4_toOf_0 5 rfl rfl)
theorem dX4_toOf_6 : decode cX4_toOf 6 = .ok (.invokevirtual 368, 3) := dk_182 1 112 (dk_at dksX4_toOf_0 6 rfl rfl)
theorem dX4_toOf_9 : decode cX4_toOf 9 = .ok (.if_icmp .ge 24, 3) := dk_162 0 24 (dk_at dksX4_toOf_0 9 rfl rfl)
theorem dX4_toOf_12 : decode cX4_toOf 12 = .ok (.aload_n 0, 1) := dk_42 (dk_at dksX4_toOf_0 12 rfl rfl)
theorem dX4_toOf_13 : decode cX4_toOf 13 = .ok (.iload_n 3, 1) := dk_29 (dk_at dksX4_toOf_0 13 rfl rfl)
theorem dX4_toOf_14 : decode cX4_toOf 14 = .ok (.invokevirtual 392, 3) := dk_182 1 136 (dk_at dksX4_toOf_0 14 rfl rfl)
theorem dX4_toOf_17 : decode cX4_toOf 17 = .ok (.iload_n 1, 1) := dk_27 (dk_at dksX4_toOf_0 17 rfl rfl)
theorem dX4_toOf_18 : decode cX4_toOf 18 = .ok (.if_icmp .ne 9, 3) := dk_160 0 9 (dk_at dksX4_toOf_0 18 rfl rfl)
theorem dX4_toOf_21 : decode cX4_toOf 21 = .ok (.iload_n 2, 1) := dk_28 (dk_at dksX4_toOf_0 21 rfl rfl)
theorem dX4_toOf_22 : decode cX4_toOf 22 = .ok (.iconst 1, 1) := dk_4 (dk_at dksX4_toOf_0 22 rfl rfl)
theorem dX4_toOf_23 : decode cX4_toOf 23 = .ok (.iload_n 3, 1) := dk_29 (dk_at dksX4_toOf_0 23 rfl rfl)
theorem dX4_toOf_24 : decode cX4_toOf 24 = .ok (.ishl, 1) := dk_120 (dk_at dksX4_toOf_1 0 rfl rfl)
theorem dX4_toOf_25 : decode cX4_toOf 25 = .ok (.ior, 1) := dk_128 (dk_at dksX4_toOf_1 1 rfl rfl)
theorem dX4_toOf_26 : decode cX4_toOf 26 = .ok (.istore_n 2, 1) := dk_61 (dk_at dksX4_toOf_1 2 rfl rfl)
theorem dX4_toOf_27 : decode cX4_toOf 27 = .ok (.iinc 3 1, 3) := dk_132 3 1 (dk_at dksX4_toOf_1 3 rfl rfl)
theorem dX4_toOf_30 : decode cX4_toOf 30 = .ok (.goto (-26), 3) := dk_167 255 230 (dk_at dksX4_toOf_1 6 rfl rfl)
theorem dX4_toOf_33 : decode cX4_toOf 33 = .ok (.iload_n 2, 1) := dk_28 (dk_at dksX4_toOf_1 9 rfl rfl)
theorem dX4_toOf_34 : decode cX4_toOf 34 = .ok (.ireturn, 1) := dk_172 (dk_at dksX4_toOf_1 10 rfl rfl)
abbrev cX4_whomOf : ByteArray := prog_23_method_51_code
def yX4_whomOf : MethodName := ⟨RX4, "whomOf", "(I)I"⟩
def dkwX4_whomOf_0 : List UInt8 := [42, 180, 0, 48, 16, 10, 42, 180, 0, 253, 104, 27, 96, 46, 172]
abbrev dktX4_whomOf_0 : List UInt8 := dkwX4_whomOf_0 ++ []
theorem dksX4_whomOf_0 : cX4_whomOf.data.toList.drop 0 = dktX4_whomOf_0 := by decide +kernel
theorem dX4_whomOf_0 : decode cX4_whomOf 0 = .ok (.aload_n 0, 1) := dk_42 (dk_at dksX4_whomOf_0 0 rfl rfl)
theorem dX4_whomOf_1 : decode cX4_whomOf 1 = .ok (.getfield 48, 3) := dk_180 0 48 (dk_at dksX4_whomOf_0 1 rfl rfl)
theorem dX4_whomOf_4 : decode cX4_whomOf 4 = .ok (.bipush 10, 2) := dk_16 10 (dk_at dksX4_whomOf_0 4 rfl rfl)
theorem dX4_whomOf_6 : decode cX4_whomOf 6 = .ok (.aload_n 0, 1) := dk_42 (dk_at dksX4_whomOf_0 6 rfl rfl)
theorem dX4_whomOf_7 : decode cX4_whomOf 7 = .ok (.getfield 253, 3) := dk_180 0 253 (dk_at dksX4_whomOf_0 7 rfl rfl)
theorem dX4_whomOf_10 : decode cX4_whomOf 10 = .ok (.imul, 1) := dk_104 (dk_at dksX4_whomOf_0 10 rfl rfl)
theorem dX4_whomOf_11 : decode cX4_whomOf 11 = .ok (.iload_n 1, 1) := dk_27 (dk_at dksX4_whomOf_0 11 rfl rfl)
theorem dX4_whomOf_12 : decode cX4_whomOf 12 = .ok (.iadd, 1) := dk_96 (dk_at dksX4_whomOf_0 12 rfl rfl)
theorem dX4_whomOf_13 : decode cX4_whomOf 13 = .ok (.iaload, 1) := dk_46 (dk_at dksX4_whomOf_0 13 rfl rfl)
theorem dX4_whomOf_14 : decode cX4_whomOf 14 = .ok (.ireturn, 1) := dk_172 (dk_at dksX4_whomOf_0 14 rfl rfl)
abbrev cX4_thing : ByteArray := prog_23_method_69_code
def yX4_thing : MethodName := ⟨RX4, "thing", "(II)I"⟩
def dkwX4_thing_3 : List UInt8 := [96, 46, 172, 42, 180, 0, 88, 4, 46, 27, 122, 4, 126, 172, 16, 254, 172]
abbrev dktX4_thing_3 : List UInt8 := dkwX4_thing_3 ++ []
def dkwX4_thing_2 : List UInt8 := [42, 27, 182, 1, 133, 172, 42, 27, 182, 1, 136, 172, 42, 27, 182, 1, 77, 172, 42, 180, 0, 88, 5, 27]
abbrev dktX4_thing_2 : List UInt8 := dkwX4_thing_2 ++ dktX4_thing_3
def dkwX4_thing_1 : List UInt8 := [170, 0, 0, 0, 0, 0, 0, 74, 0, 0, 0, 0, 0, 0, 0, 4, 0, 0, 0, 36, 0, 0, 0, 42, 0, 0, 0, 48, 0, 0, 0, 54, 0, 0, 0, 63]
abbrev dktX4_thing_1 : List UInt8 := dkwX4_thing_1 ++ dktX4_thing_2
def dkwX4_thing_0 : List UInt8 := [42, 27, 182, 1, 166, 154, 0, 6, 16, 254, 172, 28]
abbrev dktX4_thing_0 : List UInt8 := dkwX4_thing_0 ++ dktX4_thing_1
theorem dksX4_thing_0 : cX4_thing.data.toList.drop 0 = dktX4_thing_0 := by decide +kernel
theorem dksX4_thing_1 : cX4_thing.data.toList.drop 12 = dktX4_thing_1 := dk_seg dksX4_thing_0 12 rfl rfl
theorem dksX4_thing_2 : cX4_thing.data.toList.drop 48 = dktX4_thing_2 := dk_seg dksX4_thing_1 36 rfl rfl
theorem dksX4_thing_3 : cX4_thing.data.toList.drop 72 = dktX4_thing_3 := dk_seg dksX4_thing_2 24 rfl rfl
theorem dX4_thing_0 : decode cX4_thing 0 = .ok (.aload_n 0, 1) := dk_42 (dk_at dksX4_thing_0 0 rfl rfl)
theorem dX4_thing_1 : decode cX4_thing 1 = .ok (.iload_n 1, 1) := dk_27 (dk_at dksX4_thing_0 1 rfl rfl)
theorem dX4_thing_2 : decode cX4_thing 2 = .ok (.invokevirtual 422, 3) := dk_182 1 166 (dk_at dksX4_thing_0 2 rfl rfl)
theorem dX4_thing_5 : decode cX4_thing 5 = .ok (.ifCond .ne 6, 3) := dk_154 0 6 (dk_at dksX4_thing_0 5 rfl rfl)
theorem dX4_thing_8 : decode cX4_thing 8 = .ok (.bipush (-2), 2) := dk_16 254 (dk_at dksX4_thing_0 8 rfl rfl)
theorem dX4_thing_10 : decode cX4_thing 10 = .ok (.ireturn, 1) := dk_172 (dk_at dksX4_thing_0 10 rfl rfl)
theorem dX4_thing_11 : decode cX4_thing 11 = .ok (.iload_n 2, 1) := dk_28 (dk_at dksX4_thing_0 11 rfl rfl)
theorem dX4_thing_12 : decode cX4_thing 12 = .ok (.tableswitch 74 0 4 #[36, 42, 48, 54, 63], 36) := by decide +kernel
theorem dX4_thing_48 : decode cX4_thing 48 = .ok (.aload_n 0, 1) := dk_42 (dk_at dksX4_thing_2 0 rfl rfl)
theorem dX4_thing_49 : decode cX4_thing 49 = .ok (.iload_n 1, 1) := dk_27 (dk_at dksX4_thing_2 1 rfl rfl)
theorem dX4_thing_50 : decode cX4_thing 50 = .ok (.invokevirtual 389, 3) := dk_182 1 133 (dk_at dksX4_thing_2 2 rfl rfl)
theorem dX4_thing_53 : decode cX4_thing 53 = .ok (.ireturn, 1) := dk_172 (dk_at dksX4_thing_2 5 rfl rfl)
theorem dX4_thing_54 : decode cX4_thing 54 = .ok (.aload_n 0, 1) := dk_42 (dk_at dksX4_thing_2 6 rfl rfl)
theorem dX4_thing_55 : decode cX4_thing 55 = .ok (.iload_n 1, 1) := dk_27 (dk_at dksX4_thing_2 7 rfl rfl)
theorem dX4_thing_56 : decode cX4_thing 56 = .ok (.invokevirtual 392, 3) := dk_182 1 136 (dk_at dksX4_thing_2 8 rfl rfl)
theorem dX4_thing_59 : decode cX4_thing 59 = .ok (.ireturn, 1) := dk_172 (dk_at dksX4_thing_2 11 rfl rfl)
theorem dX4_thing_60 : decode cX4_thing 60 = .ok (.aload_n 0, 1) := dk_42 (dk_at dksX4_thing_2 12 rfl rfl)
theorem dX4_thing_61 : decode cX4_thing 61 = .ok (.iload_n 1, 1) := dk_27 (dk_at dksX4_thing_2 13 rfl rfl)
theorem dX4_thing_62 : decode cX4_thing 62 = .ok (.invokevirtual 333, 3) := dk_182 1 77 (dk_at dksX4_thing_2 14 rfl rfl)
theorem dX4_thing_65 : decode cX4_thing 65 = .ok (.ireturn, 1) := dk_172 (dk_at dksX4_thing_2 17 rfl rfl)
theorem dX4_thing_66 : decode cX4_thing 66 = .ok (.aload_n 0, 1) := dk_42 (dk_at dksX4_thing_2 18 rfl rfl)
theorem dX4_thing_67 : decode cX4_thing 67 = .ok (.getfield 88, 3) := dk_180 0 88 (dk_at dksX4_thing_2 19 rfl rfl)
theorem dX4_thing_70 : decode cX4_thing 70 = .ok (.iconst 2, 1) := dk_5 (dk_at dksX4_thing_2 22 rfl rfl)
theorem dX4_thing_71 : decode cX4_thing 71 = .ok (.iload_n 1, 1) := dk_27 (dk_at dksX4_thing_2 23 rfl rfl)
theorem dX4_thing_72 : decode cX4_thing 72 = .ok (.iadd, 1) := dk_96 (dk_at dksX4_thing_3 0 rfl rfl)
theorem dX4_thing_73 : decode cX4_thing 73 = .ok (.iaload, 1) := dk_46 (dk_at dksX4_thing_3 1 rfl rfl)
theorem dX4_thing_74 : decode cX4_thing 74 = .ok (.ireturn, 1) := dk_172 (dk_at dksX4_thing_3 2 rfl rfl)
theorem dX4_thing_75 : decode cX4_thing 75 = .ok (.aload_n 0, 1) := dk_42 (dk_at dksX4_thing_3 3 rfl rfl)
theorem dX4_thing_76 : decode cX4_thing 76 = .ok (.getfield 88, 3) := dk_180 0 88 (dk_at dksX4_thing_3 4 rfl rfl)
theorem dX4_thing_79 : decode cX4_thing 79 = .ok (.iconst 1, 1) := dk_4 (dk_at dksX4_thing_3 7 rfl rfl)
theorem dX4_thing_80 : decode cX4_thing 80 = .ok (.iaload, 1) := dk_46 (dk_at dksX4_thing_3 8 rfl rfl)
theorem dX4_thing_81 : decode cX4_thing 81 = .ok (.iload_n 1, 1) := dk_27 (dk_at dksX4_thing_3 9 rfl rfl)
theorem dX4_thing_82 : decode cX4_thing 82 = .ok (.ishr, 1) := dk_122 (dk_at dksX4_thing_3 10 rfl rfl)
theorem dX4_thing_83 : decode cX4_thing 83 = .ok (.iconst 1, 1) := dk_4 (dk_at dksX4_thing_3 11 rfl rfl)
theorem dX4_thing_84 : decode cX4_thing 84 = .ok (.iand, 1) := dk_126 (dk_at dksX4_thing_3 12 rfl rfl)
theorem dX4_thing_85 : decode cX4_thing 85 = .ok (.ireturn, 1) := dk_172 (dk_at dksX4_thing_3 13 rfl rfl)
theorem dX4_thing_86 : decode cX4_thing 86 = .ok (.bipush (-2), 2) := dk_16 254 (dk_at dksX4_thing_3 14 rfl rfl)
theorem dX4_thing_88 : decode cX4_thing 88 = .ok (.ireturn, 1) := dk_172 (dk_at dksX4_thing_3 16 rfl rfl)
abbrev cX4_isThing : ByteArray := prog_23_method_49_code
def yX4_isThing : MethodName := ⟨RX4, "isThing", "(I)Z"⟩
def dkwX4_isThing_0 : List UInt8 := [27, 3, 42, 182, 1, 112, 4, 100, 184, 1, 105, 172]
abbrev dktX4_isThing_0 : List UInt8 := dkwX4_isThing_0 ++ []
theorem dksX4_isThing_0 : cX4_isThing.data.toList.drop 0 = dktX4_isThing_0 := by decide +kernel
theorem dX4_isThing_0 : decode cX4_isThing 0 = .ok (.iload_n 1, 1) := dk_27 (dk_at dksX4_isThing_0 0 rfl rfl)
theorem dX4_isThing_1 : decode cX4_isThing 1 = .ok (.iconst 0, 1) := dk_3 (dk_at dksX4_isThing_0 1 rfl rfl)
theorem dX4_isThing_2 : decode cX4_isThing 2 = .ok (.aload_n 0, 1) := dk_42 (dk_at dksX4_isThing_0 2 rfl rfl)
theorem dX4_isThing_3 : decode cX4_isThing 3 = .ok (.invokevirtual 368, 3) := dk_182 1 112 (dk_at dksX4_isThing_0 3 rfl rfl)
theorem dX4_isThing_6 : decode cX4_isThing 6 = .ok (.iconst 1, 1) := dk_4 (dk_at dksX4_isThing_0 6 rfl rfl)
theorem dX4_isThing_7 : decode cX4_isThing 7 = .ok (.isub, 1) := dk_100 (dk_at dksX4_isThing_0 7 rfl rfl)
theorem dX4_isThing_8 : decode cX4_isThing 8 = .ok (.invokestatic 361, 3) := dk_184 1 105 (dk_at dksX4_isThing_0 8 rfl rfl)
theorem dX4_isThing_11 : decode cX4_isThing 11 = .ok (.ireturn, 1) := dk_172 (dk_at dksX4_isThing_0 11 rfl rfl)
abbrev cX4_hotOf : ByteArray := prog_23_method_52_code
def yX4_hotOf : MethodName := ⟨RX4, "hotOf", "(I)I"⟩
def dkwX4_hotOf_0 : List UInt8 := [42, 180, 0, 51, 16, 10, 42, 180, 0, 253, 104, 27, 96, 46, 172]
abbrev dktX4_hotOf_0 : List UInt8 := dkwX4_hotOf_0 ++ []
theorem dksX4_hotOf_0 : cX4_hotOf.data.toList.drop 0 = dktX4_hotOf_0 := by decide +kernel
theorem dX4_hotOf_0 : decode cX4_hotOf 0 = .ok (.aload_n 0, 1) := dk_42 (dk_at dksX4_hotOf_0 0 rfl rfl)
theorem dX4_hotOf_1 : decode cX4_hotOf 1 = .ok (.getfield 51, 3) := dk_180 0 51 (dk_at dksX4_hotOf_0 1 rfl rfl)
theorem dX4_hotOf_4 : decode cX4_hotOf 4 = .ok (.bipush 10, 2) := dk_16 10 (dk_at dksX4_hotOf_0 4 rfl rfl)
theorem dX4_hotOf_6 : decode cX4_hotOf 6 = .ok (.aload_n 0, 1) := dk_42 (dk_at dksX4_hotOf_0 6 rfl rfl)
theorem dX4_hotOf_7 : decode cX4_hotOf 7 = .ok (.getfield 253, 3) := dk_180 0 253 (dk_at dksX4_hotOf_0 7 rfl rfl)
theorem dX4_hotOf_10 : decode cX4_hotOf 10 = .ok (.imul, 1) := dk_104 (dk_at dksX4_hotOf_0 10 rfl rfl)
theorem dX4_hotOf_11 : decode cX4_hotOf 11 = .ok (.iload_n 1, 1) := dk_27 (dk_at dksX4_hotOf_0 11 rfl rfl)
theorem dX4_hotOf_12 : decode cX4_hotOf 12 = .ok (.iadd, 1) := dk_96 (dk_at dksX4_hotOf_0 12 rfl rfl)
theorem dX4_hotOf_13 : decode cX4_hotOf 13 = .ok (.iaload, 1) := dk_46 (dk_at dksX4_hotOf_0 13 rfl rfl)
theorem dX4_hotOf_14 : decode cX4_hotOf 14 = .ok (.ireturn, 1) := dk_172 (dk_at dksX4_hotOf_0 14 rfl rfl)
abbrev cX4_sack : ByteArray := prog_23_method_70_code
def yX4_sack : MethodName := ⟨RX4, "sack", "(II)I"⟩
def dkwX4_sack_3 : List UInt8 := [46, 172, 2, 172]
abbrev dktX4_sack_3 : List UInt8 := dkwX4_sack_3 ++ []
def dkwX4_sack_2 : List UInt8 := [42, 42, 27, 182, 1, 89, 182, 1, 92, 172, 42, 27, 182, 1, 89, 172, 42, 180, 0, 88, 16, 12, 27, 96]
abbrev dktX4_sack_2 : List UInt8 := dkwX4_sack_2 ++ dktX4_sack_3
def dkwX4_sack_1 : List UInt8 := [170, 0, 0, 0, 51, 0, 0, 0, 0, 0, 0, 0, 2, 0, 0, 0, 25, 0, 0, 0, 35, 0, 0, 0, 41]
abbrev dktX4_sack_1 : List UInt8 := dkwX4_sack_1 ++ dktX4_sack_2
def dkwX4_sack_0 : List UInt8 := [42, 27, 182, 1, 169, 154, 0, 5, 2, 172, 28]
abbrev dktX4_sack_0 : List UInt8 := dkwX4_sack_0 ++ dktX4_sack_1
theorem dksX4_sack_0 : cX4_sack.data.toList.drop 0 = dktX4_sack_0 := by decide +kernel
theorem dksX4_sack_1 : cX4_sack.data.toList.drop 11 = dktX4_sack_1 := dk_seg dksX4_sack_0 11 rfl rfl
theorem dksX4_sack_2 : cX4_sack.data.toList.drop 36 = dktX4_sack_2 := dk_seg dksX4_sack_1 25 rfl rfl
theorem dksX4_sack_3 : cX4_sack.data.toList.drop 60 = dktX4_sack_3 := dk_seg dksX4_sack_2 24 rfl rfl
theorem dX4_sack_0 : decode cX4_sack 0 = .ok (.aload_n 0, 1) := dk_42 (dk_at dksX4_sack_0 0 rfl rfl)
theorem dX4_sack_1 : decode cX4_sack 1 = .ok (.iload_n 1, 1) := dk_27 (dk_at dksX4_sack_0 1 rfl rfl)
theorem dX4_sack_2 : decode cX4_sack 2 = .ok (.invokevirtual 425, 3) := dk_182 1 169 (dk_at dksX4_sack_0 2 rfl rfl)
theorem dX4_sack_5 : decode cX4_sack 5 = .ok (.ifCond .ne 5, 3) := dk_154 0 5 (dk_at dksX4_sack_0 5 rfl rfl)
theorem dX4_sack_8 : decode cX4_sack 8 = .ok (.iconst (-1), 1) := dk_2 (dk_at dksX4_sack_0 8 rfl rfl)
theorem dX4_sack_9 : decode cX4_sack 9 = .ok (.ireturn, 1) := dk_172 (dk_at dksX4_sack_0 9 rfl rfl)
theorem dX4_sack_10 : decode cX4_sack 10 = .ok (.iload_n 2, 1) := dk_28 (dk_at dksX4_sack_0 10 rfl rfl)
theorem dX4_sack_11 : decode cX4_sack 11 = .ok (.tableswitch 51 0 2 #[25, 35, 41], 25) := by decide +kernel
theorem dX4_sack_36 : decode cX4_sack 36 = .ok (.aload_n 0, 1) := dk_42 (dk_at dksX4_sack_2 0 rfl rfl)
theorem dX4_sack_37 : decode cX4_sack 37 = .ok (.aload_n 0, 1) := dk_42 (dk_at dksX4_sack_2 1 rfl rfl)
theorem dX4_sack_38 : decode cX4_sack 38 = .ok (.iload_n 1, 1) := dk_27 (dk_at dksX4_sack_2 2 rfl rfl)
theorem dX4_sack_39 : decode cX4_sack 39 = .ok (.invokevirtual 345, 3) := dk_182 1 89 (dk_at dksX4_sack_2 3 rfl rfl)
theorem dX4_sack_42 : decode cX4_sack 42 = .ok (.invokevirtual 348, 3) := dk_182 1 92 (dk_at dksX4_sack_2 6 rfl rfl)
theorem dX4_sack_45 : decode cX4_sack 45 = .ok (.ireturn, 1) := dk_172 (dk_at dksX4_sack_2 9 rfl rfl)
theorem dX4_sack_46 : decode cX4_sack 46 = .ok (.aload_n 0, 1) := dk_42 (dk_at dksX4_sack_2 10 rfl rfl)
theorem dX4_sack_47 : decode cX4_sack 47 = .ok (.iload_n 1, 1) := dk_27 (dk_at dksX4_sack_2 11 rfl rfl)
theorem dX4_sack_48 : decode cX4_sack 48 = .ok (.invokevirtual 345, 3) := dk_182 1 89 (dk_at dksX4_sack_2 12 rfl rfl)
theorem dX4_sack_51 : decode cX4_sack 51 = .ok (.ireturn, 1) := dk_172 (dk_at dksX4_sack_2 15 rfl rfl)
theorem dX4_sack_52 : decode cX4_sack 52 = .ok (.aload_n 0, 1) := dk_42 (dk_at dksX4_sack_2 16 rfl rfl)
theorem dX4_sack_53 : decode cX4_sack 53 = .ok (.getfield 88, 3) := dk_180 0 88 (dk_at dksX4_sack_2 17 rfl rfl)
theorem dX4_sack_56 : decode cX4_sack 56 = .ok (.bipush 12, 2) := dk_16 12 (dk_at dksX4_sack_2 20 rfl rfl)
theorem dX4_sack_58 : decode cX4_sack 58 = .ok (.iload_n 1, 1) := dk_27 (dk_at dksX4_sack_2 22 rfl rfl)
theorem dX4_sack_59 : decode cX4_sack 59 = .ok (.iadd, 1) := dk_96 (dk_at dksX4_sack_2 23 rfl rfl)
theorem dX4_sack_60 : decode cX4_sack 60 = .ok (.iaload, 1) := dk_46 (dk_at dksX4_sack_3 0 rfl rfl)
theorem dX4_sack_61 : decode cX4_sack 61 = .ok (.ireturn, 1) := dk_172 (dk_at dksX4_sack_3 1 rfl rfl)
theorem dX4_sack_62 : decode cX4_sack 62 = .ok (.iconst (-1), 1) := dk_2 (dk_at dksX4_sack_3 2 rfl rfl)
theorem dX4_sack_63 : decode cX4_sack 63 = .ok (.ireturn, 1) := dk_172 (dk_at dksX4_sack_3 3 rfl rfl)
abbrev cX4_isSack : ByteArray := prog_23_method_48_code
def yX4_isSack : MethodName := ⟨RX4, "isSack", "(I)Z"⟩
def dkwX4_isSack_0 : List UInt8 := [27, 3, 42, 182, 1, 109, 4, 100, 184, 1, 105, 172]
abbrev dktX4_isSack_0 : List UInt8 := dkwX4_isSack_0 ++ []
theorem dksX4_isSack_0 : cX4_isSack.data.toList.drop 0 = dktX4_isSack_0 := by decide +kernel
theorem dX4_isSack_0 : decode cX4_isSack 0 = .ok (.iload_n 1, 1) := dk_27 (dk_at dksX4_isSack_0 0 rfl rfl)
theorem dX4_isSack_1 : decode cX4_isSack 1 = .ok (.iconst 0, 1) := dk_3 (dk_at dksX4_isSack_0 1 rfl rfl)
theorem dX4_isSack_2 : decode cX4_isSack 2 = .ok (.aload_n 0, 1) := dk_42 (dk_at dksX4_isSack_0 2 rfl rfl)
theorem dX4_isSack_3 : decode cX4_isSack 3 = .ok (.invokevirtual 365, 3) := dk_182 1 109 (dk_at dksX4_isSack_0 3 rfl rfl)
theorem dX4_isSack_6 : decode cX4_isSack 6 = .ok (.iconst 1, 1) := dk_4 (dk_at dksX4_isSack_0 6 rfl rfl)
theorem dX4_isSack_7 : decode cX4_isSack 7 = .ok (.isub, 1) := dk_100 (dk_at dksX4_isSack_0 7 rfl rfl)
theorem dX4_isSack_8 : decode cX4_isSack 8 = .ok (.invokestatic 361, 3) := dk_184 1 105 (dk_at dksX4_isSack_0 8 rfl rfl)
theorem dX4_isSack_11 : decode cX4_isSack 11 = .ok (.ireturn, 1) := dk_172 (dk_at dksX4_isSack_0 11 rfl rfl)
abbrev cX4_bags : ByteArray := prog_23_method_45_code
def yX4_bags : MethodName := ⟨RX4, "bags", "()I"⟩
def dkwX4_bags_0 : List UInt8 := [42, 180, 0, 24, 42, 180, 0, 253, 46, 172]
abbrev dktX4_bags_0 : List UInt8 := dkwX4_bags_0 ++ []
theorem dksX4_bags_0 : cX4_bags.data.toList.drop 0 = dktX4_bags_0 := by decide +kernel
theorem dX4_bags_0 : decode cX4_bags 0 = .ok (.aload_n 0, 1) := dk_42 (dk_at dksX4_bags_0 0 rfl rfl)
theorem dX4_bags_1 : decode cX4_bags 1 = .ok (.getfield 24, 3) := dk_180 0 24 (dk_at dksX4_bags_0 1 rfl rfl)
theorem dX4_bags_4 : decode cX4_bags 4 = .ok (.aload_n 0, 1) := dk_42 (dk_at dksX4_bags_0 4 rfl rfl)
theorem dX4_bags_5 : decode cX4_bags 5 = .ok (.getfield 253, 3) := dk_180 0 253 (dk_at dksX4_bags_0 5 rfl rfl)
theorem dX4_bags_8 : decode cX4_bags 8 = .ok (.iaload, 1) := dk_46 (dk_at dksX4_bags_0 8 rfl rfl)
theorem dX4_bags_9 : decode cX4_bags 9 = .ok (.ireturn, 1) := dk_172 (dk_at dksX4_bags_0 9 rfl rfl)
abbrev cX4_inOf : ByteArray := prog_23_method_56_code
def yX4_inOf : MethodName := ⟨RX4, "inOf", "(I)I"⟩
def dkwX4_inOf_1 : List UInt8 := [5, 29, 96, 46, 27, 160, 0, 9, 28, 4, 29, 120, 128, 61, 132, 3, 1, 167, 255, 219, 28, 172]
abbrev dktX4_inOf_1 : List UInt8 := dkwX4_inOf_1 ++ []
def dkwX4_inOf_0 : List UInt8 := [3, 61, 3, 62, 29, 42, 182, 1, 112, 162, 0, 35, 42, 29, 182, 1, 130, 153, 0, 21, 42, 180, 0, 88]
abbrev dktX4_inOf_0 : List UInt8 := dkwX4_inOf_0 ++ dktX4_inOf_1
theorem dksX4_inOf_0 : cX4_inOf.data.toList.drop 0 = dktX4_inOf_0 := by decide +kernel
theorem dksX4_inOf_1 : cX4_inOf.data.toList.drop 24 = dktX4_inOf_1 := dk_seg dksX4_inOf_0 24 rfl rfl
theorem dX4_inOf_0 : decode cX4_inOf 0 = .ok (.iconst 0, 1) := dk_3 (dk_at dksX4_inOf_0 0 rfl rfl)
theorem dX4_inOf_1 : decode cX4_inOf 1 = .ok (.istore_n 2, 1) := dk_61 (dk_at dksX4_inOf_0 1 rfl rfl)
theorem dX4_inOf_2 : decode cX4_inOf 2 = .ok (.iconst 0, 1) := dk_3 (dk_at dksX4_inOf_0 2 rfl rfl)
theorem dX4_inOf_3 : decode cX4_inOf 3 = .ok (.istore_n 3, 1) := dk_62 (dk_at dksX4_inOf_0 3 rfl rfl)
theorem dX4_inOf_4 : decode cX4_inOf 4 = .ok (.iload_n 3, 1) := dk_29 (dk_at dksX4_inOf_0 4 rfl rfl)
theorem dX4_inOf_5 : decode cX4_inOf 5 = .ok (.aload_n 0, 1) := dk_42 (dk_at dksX4_inOf_0 5 rfl rfl)
theorem dX4_inOf_6 : decode cX4_inOf 6 = .ok (.invokevirtual 368, 3) := dk_182 1 112 (dk_at dksX4_inOf_0 6 rfl rfl)
theorem dX4_inOf_9 : decode cX4_inOf 9 = .ok (.if_icmp .ge 35, 3) := dk_162 0 35 (dk_at dksX4_inOf_0 9 rfl rfl)
theorem dX4_inOf_12 : decode cX4_inOf 12 = .ok (.aload_n 0, 1) := dk_42 (dk_at dksX4_inOf_0 12 rfl rfl)
theorem dX4_inOf_13 : decode cX4_inOf 13 = .ok (.iload_n 3, 1) := dk_29 (dk_at dksX4_inOf_0 13 rfl rfl)
theorem dX4_inOf_14 : decode cX4_inOf 14 = .ok (.invokevirtual 386, 3) := dk_182 1 130 (dk_at dksX4_inOf_0 14 rfl rfl)
theorem dX4_inOf_17 : decode cX4_inOf 17 = .ok (.ifCond .eq 21, 3) := dk_153 0 21 (dk_at dksX4_inOf_0 17 rfl rfl)
theorem dX4_inOf_20 : decode cX4_inOf 20 = .ok (.aload_n 0, 1) := dk_42 (dk_at dksX4_inOf_0 20 rfl rfl)
theorem dX4_inOf_21 : decode cX4_inOf 21 = .ok (.getfield 88, 3) := dk_180 0 88 (dk_at dksX4_inOf_0 21 rfl rfl)
theorem dX4_inOf_24 : decode cX4_inOf 24 = .ok (.iconst 2, 1) := dk_5 (dk_at dksX4_inOf_1 0 rfl rfl)
theorem dX4_inOf_25 : decode cX4_inOf 25 = .ok (.iload_n 3, 1) := dk_29 (dk_at dksX4_inOf_1 1 rfl rfl)
theorem dX4_inOf_26 : decode cX4_inOf 26 = .ok (.iadd, 1) := dk_96 (dk_at dksX4_inOf_1 2 rfl rfl)
theorem dX4_inOf_27 : decode cX4_inOf 27 = .ok (.iaload, 1) := dk_46 (dk_at dksX4_inOf_1 3 rfl rfl)
theorem dX4_inOf_28 : decode cX4_inOf 28 = .ok (.iload_n 1, 1) := dk_27 (dk_at dksX4_inOf_1 4 rfl rfl)
theorem dX4_inOf_29 : decode cX4_inOf 29 = .ok (.if_icmp .ne 9, 3) := dk_160 0 9 (dk_at dksX4_inOf_1 5 rfl rfl)
theorem dX4_inOf_32 : decode cX4_inOf 32 = .ok (.iload_n 2, 1) := dk_28 (dk_at dksX4_inOf_1 8 rfl rfl)
theorem dX4_inOf_33 : decode cX4_inOf 33 = .ok (.iconst 1, 1) := dk_4 (dk_at dksX4_inOf_1 9 rfl rfl)
theorem dX4_inOf_34 : decode cX4_inOf 34 = .ok (.iload_n 3, 1) := dk_29 (dk_at dksX4_inOf_1 10 rfl rfl)
theorem dX4_inOf_35 : decode cX4_inOf 35 = .ok (.ishl, 1) := dk_120 (dk_at dksX4_inOf_1 11 rfl rfl)
theorem dX4_inOf_36 : decode cX4_inOf 36 = .ok (.ior, 1) := dk_128 (dk_at dksX4_inOf_1 12 rfl rfl)
theorem dX4_inOf_37 : decode cX4_inOf 37 = .ok (.istore_n 2, 1) := dk_61 (dk_at dksX4_inOf_1 13 rfl rfl)
theorem dX4_inOf_38 : decode cX4_inOf 38 = .ok (.iinc 3 1, 3) := dk_132 3 1 (dk_at dksX4_inOf_1 14 rfl rfl)
theorem dX4_inOf_41 : decode cX4_inOf 41 = .ok (.goto (-37), 3) := dk_167 255 219 (dk_at dksX4_inOf_1 17 rfl rfl)
theorem dX4_inOf_44 : decode cX4_inOf 44 = .ok (.iload_n 2, 1) := dk_28 (dk_at dksX4_inOf_1 20 rfl rfl)
theorem dX4_inOf_45 : decode cX4_inOf 45 = .ok (.ireturn, 1) := dk_172 (dk_at dksX4_inOf_1 21 rfl rfl)
abbrev cX4_isStill : ByteArray := prog_23_method_55_code
def yX4_isStill : MethodName := ⟨RX4, "isStill", "(I)Z"⟩
def dkwX4_isStill_0 : List UInt8 := [42, 180, 0, 88, 4, 46, 27, 184, 1, 3, 154, 0, 7, 4, 167, 0, 4, 3, 172]
abbrev dktX4_isStill_0 : List UInt8 := dkwX4_isStill_0 ++ []
theorem dksX4_isStill_0 : cX4_isStill.data.toList.drop 0 = dktX4_isStill_0 := by decide +kernel
theorem dX4_isStill_0 : decode cX4_isStill 0 = .ok (.aload_n 0, 1) := dk_42 (dk_at dksX4_isStill_0 0 rfl rfl)
theorem dX4_isStill_1 : decode cX4_isStill 1 = .ok (.getfield 88, 3) := dk_180 0 88 (dk_at dksX4_isStill_0 1 rfl rfl)
theorem dX4_isStill_4 : decode cX4_isStill 4 = .ok (.iconst 1, 1) := dk_4 (dk_at dksX4_isStill_0 4 rfl rfl)
theorem dX4_isStill_5 : decode cX4_isStill 5 = .ok (.iaload, 1) := dk_46 (dk_at dksX4_isStill_0 5 rfl rfl)
theorem dX4_isStill_6 : decode cX4_isStill 6 = .ok (.iload_n 1, 1) := dk_27 (dk_at dksX4_isStill_0 6 rfl rfl)
theorem dX4_isStill_7 : decode cX4_isStill 7 = .ok (.invokestatic 259, 3) := dk_184 1 3 (dk_at dksX4_isStill_0 7 rfl rfl)
theorem dX4_isStill_10 : decode cX4_isStill 10 = .ok (.ifCond .ne 7, 3) := dk_154 0 7 (dk_at dksX4_isStill_0 10 rfl rfl)
theorem dX4_isStill_13 : decode cX4_isStill 13 = .ok (.iconst 1, 1) := dk_4 (dk_at dksX4_isStill_0 13 rfl rfl)
theorem dX4_isStill_14 : decode cX4_isStill 14 = .ok (.goto 4, 3) := dk_167 0 4 (dk_at dksX4_isStill_0 14 rfl rfl)
theorem dX4_isStill_17 : decode cX4_isStill 17 = .ok (.iconst 0, 1) := dk_3 (dk_at dksX4_isStill_0 17 rfl rfl)
theorem dX4_isStill_18 : decode cX4_isStill 18 = .ok (.ireturn, 1) := dk_172 (dk_at dksX4_isStill_0 18 rfl rfl)
abbrev cX4_heatOf : ByteArray := prog_23_method_57_code
def yX4_heatOf : MethodName := ⟨RX4, "heatOf", "(I)I"⟩
def dkwX4_heatOf_1 : List UInt8 := [182, 1, 77, 167, 0, 4, 3, 96, 61, 132, 3, 1, 167, 255, 225, 28, 172]
abbrev dktX4_heatOf_1 : List UInt8 := dkwX4_heatOf_1 ++ []
def dkwX4_heatOf_0 : List UInt8 := [3, 61, 3, 62, 29, 42, 182, 1, 112, 162, 0, 29, 28, 27, 29, 184, 1, 3, 153, 0, 11, 42, 29]
abbrev dktX4_heatOf_0 : List UInt8 := dkwX4_heatOf_0 ++ dktX4_heatOf_1
theorem dksX4_heatOf_0 : cX4_heatOf.data.toList.drop 0 = dktX4_heatOf_0 := by decide +kernel
theorem dksX4_heatOf_1 : cX4_heatOf.data.toList.drop 23 = dktX4_heatOf_1 := dk_seg dksX4_heatOf_0 23 rfl rfl
theorem dX4_heatOf_0 : decode cX4_heatOf 0 = .ok (.iconst 0, 1) := dk_3 (dk_at dksX4_heatOf_0 0 rfl rfl)
theorem dX4_heatOf_1 : decode cX4_heatOf 1 = .ok (.istore_n 2, 1) := dk_61 (dk_at dksX4_heatOf_0 1 rfl rfl)
theorem dX4_heatOf_2 : decode cX4_heatOf 2 = .ok (.iconst 0, 1) := dk_3 (dk_at dksX4_heatOf_0 2 rfl rfl)
theorem dX4_heatOf_3 : decode cX4_heatOf 3 = .ok (.istore_n 3, 1) := dk_62 (dk_at dksX4_heatOf_0 3 rfl rfl)
theorem dX4_heatOf_4 : decode cX4_heatOf 4 = .ok (.iload_n 3, 1) := dk_29 (dk_at dksX4_heatOf_0 4 rfl rfl)
theorem dX4_heatOf_5 : decode cX4_heatOf 5 = .ok (.aload_n 0, 1) := dk_42 (dk_at dksX4_heatOf_0 5 rfl rfl)
theorem dX4_heatOf_6 : decode cX4_heatOf 6 = .ok (.invokevirtual 368, 3) := dk_182 1 112 (dk_at dksX4_heatOf_0 6 rfl rfl)
theorem dX4_heatOf_9 : decode cX4_heatOf 9 = .ok (.if_icmp .ge 29, 3) := dk_162 0 29 (dk_at dksX4_heatOf_0 9 rfl rfl)
theorem dX4_heatOf_12 : decode cX4_heatOf 12 = .ok (.iload_n 2, 1) := dk_28 (dk_at dksX4_heatOf_0 12 rfl rfl)
theorem dX4_heatOf_13 : decode cX4_heatOf 13 = .ok (.iload_n 1, 1) := dk_27 (dk_at dksX4_heatOf_0 13 rfl rfl)
theorem dX4_heatOf_14 : decode cX4_heatOf 14 = .ok (.iload_n 3, 1) := dk_29 (dk_at dksX4_heatOf_0 14 rfl rfl)
theorem dX4_heatOf_15 : decode cX4_heatOf 15 = .ok (.invokestatic 259, 3) := dk_184 1 3 (dk_at dksX4_heatOf_0 15 rfl rfl)
theorem dX4_heatOf_18 : decode cX4_heatOf 18 = .ok (.ifCond .eq 11, 3) := dk_153 0 11 (dk_at dksX4_heatOf_0 18 rfl rfl)
theorem dX4_heatOf_21 : decode cX4_heatOf 21 = .ok (.aload_n 0, 1) := dk_42 (dk_at dksX4_heatOf_0 21 rfl rfl)
theorem dX4_heatOf_22 : decode cX4_heatOf 22 = .ok (.iload_n 3, 1) := dk_29 (dk_at dksX4_heatOf_0 22 rfl rfl)
theorem dX4_heatOf_23 : decode cX4_heatOf 23 = .ok (.invokevirtual 333, 3) := dk_182 1 77 (dk_at dksX4_heatOf_1 0 rfl rfl)
theorem dX4_heatOf_26 : decode cX4_heatOf 26 = .ok (.goto 4, 3) := dk_167 0 4 (dk_at dksX4_heatOf_1 3 rfl rfl)
theorem dX4_heatOf_29 : decode cX4_heatOf 29 = .ok (.iconst 0, 1) := dk_3 (dk_at dksX4_heatOf_1 6 rfl rfl)
theorem dX4_heatOf_30 : decode cX4_heatOf 30 = .ok (.iadd, 1) := dk_96 (dk_at dksX4_heatOf_1 7 rfl rfl)
theorem dX4_heatOf_31 : decode cX4_heatOf 31 = .ok (.istore_n 2, 1) := dk_61 (dk_at dksX4_heatOf_1 8 rfl rfl)
theorem dX4_heatOf_32 : decode cX4_heatOf 32 = .ok (.iinc 3 1, 3) := dk_132 3 1 (dk_at dksX4_heatOf_1 9 rfl rfl)
theorem dX4_heatOf_35 : decode cX4_heatOf 35 = .ok (.goto (-31), 3) := dk_167 255 225 (dk_at dksX4_heatOf_1 12 rfl rfl)
theorem dX4_heatOf_38 : decode cX4_heatOf 38 = .ok (.iload_n 2, 1) := dk_28 (dk_at dksX4_heatOf_1 15 rfl rfl)
theorem dX4_heatOf_39 : decode cX4_heatOf 39 = .ok (.ireturn, 1) := dk_172 (dk_at dksX4_heatOf_1 16 rfl rfl)
abbrev cX4_would : ByteArray := prog_23_method_71_code
def yX4_would : MethodName := ⟨RX4, "would", "(I)I"⟩
def dkwX4_would_0 : List UInt8 := [42, 27, 182, 1, 169, 153, 0, 11, 42, 27, 182, 1, 151, 167, 0, 4, 2, 172]
abbrev dktX4_would_0 : List UInt8 := dkwX4_would_0 ++ []
theorem dksX4_would_0 : cX4_would.data.toList.drop 0 = dktX4_would_0 := by decide +kernel
theorem dX4_would_0 : decode cX4_would 0 = .ok (.aload_n 0, 1) := dk_42 (dk_at dksX4_would_0 0 rfl rfl)
theorem dX4_would_1 : decode cX4_would 1 = .ok (.iload_n 1, 1) := dk_27 (dk_at dksX4_would_0 1 rfl rfl)
theorem dX4_would_2 : decode cX4_would 2 = .ok (.invokevirtual 425, 3) := dk_182 1 169 (dk_at dksX4_would_0 2 rfl rfl)
theorem dX4_would_5 : decode cX4_would 5 = .ok (.ifCond .eq 11, 3) := dk_153 0 11 (dk_at dksX4_would_0 5 rfl rfl)
theorem dX4_would_8 : decode cX4_would 8 = .ok (.aload_n 0, 1) := dk_42 (dk_at dksX4_would_0 8 rfl rfl)
theorem dX4_would_9 : decode cX4_would 9 = .ok (.iload_n 1, 1) := dk_27 (dk_at dksX4_would_0 9 rfl rfl)
theorem dX4_would_10 : decode cX4_would 10 = .ok (.invokevirtual 407, 3) := dk_182 1 151 (dk_at dksX4_would_0 10 rfl rfl)
theorem dX4_would_13 : decode cX4_would 13 = .ok (.goto 4, 3) := dk_167 0 4 (dk_at dksX4_would_0 13 rfl rfl)
theorem dX4_would_16 : decode cX4_would 16 = .ok (.iconst (-1), 1) := dk_2 (dk_at dksX4_would_0 16 rfl rfl)
theorem dX4_would_17 : decode cX4_would 17 = .ok (.ireturn, 1) := dk_172 (dk_at dksX4_would_0 17 rfl rfl)
abbrev cX4_wouldOf : ByteArray := prog_23_method_63_code
def yX4_wouldOf : MethodName := ⟨RX4, "wouldOf", "(I)I"⟩
def dkwX4_wouldOf_2 : List UInt8 := [132, 4, 1, 167, 255, 218, 29, 172]
abbrev dktX4_wouldOf_2 : List UInt8 := dkwX4_wouldOf_2 ++ []
def dkwX4_wouldOf_1 : List UInt8 := [184, 1, 3, 153, 0, 20, 42, 21, 4, 27, 182, 1, 148, 153, 0, 10, 29, 4, 21, 4, 120, 128, 62]
abbrev dktX4_wouldOf_1 : List UInt8 := dkwX4_wouldOf_1 ++ dktX4_wouldOf_2
def dkwX4_wouldOf_0 : List UInt8 := [42, 27, 182, 1, 89, 61, 3, 62, 3, 54, 4, 21, 4, 42, 182, 1, 112, 162, 0, 35, 28, 21, 4]
abbrev dktX4_wouldOf_0 : List UInt8 := dkwX4_wouldOf_0 ++ dktX4_wouldOf_1
theorem dksX4_wouldOf_0 : cX4_wouldOf.data.toList.drop 0 = dktX4_wouldOf_0 := by decide +kernel
theorem dksX4_wouldOf_1 : cX4_wouldOf.data.toList.drop 23 = dktX4_wouldOf_1 := dk_seg dksX4_wouldOf_0 23 rfl rfl
theorem dksX4_wouldOf_2 : cX4_wouldOf.data.toList.drop 46 = dktX4_wouldOf_2 := dk_seg dksX4_wouldOf_1 23 rfl rfl
theorem dX4_wouldOf_0 : decode cX4_wouldOf 0 = .ok (.aload_n 0, 1) := dk_42 (dk_at dksX4_wouldOf_0 0 rfl rfl)
theorem dX4_wouldOf_1 : decode cX4_wouldOf 1 = .ok (.iload_n 1, 1) := dk_27 (dk_at dksX4_wouldOf_0 1 rfl rfl)
theorem dX4_wouldOf_2 : decode cX4_wouldOf 2 = .ok (.invokevirtual 345, 3) := dk_182 1 89 (dk_at dksX4_wouldOf_0 2 rfl rfl)
theorem dX4_wouldOf_5 : decode cX4_wouldOf 5 = .ok (.istore_n 2, 1) := dk_61 (dk_at dksX4_wouldOf_0 5 rfl rfl)
theorem dX4_wouldOf_6 : decode cX4_wouldOf 6 = .ok (.iconst 0, 1) := dk_3 (dk_at dksX4_wouldOf_0 6 rfl rfl)
theorem dX4_wouldOf_7 : decode cX4_wouldOf 7 = .ok (.istore_n 3, 1) := dk_62 (dk_at dksX4_wouldOf_0 7 rfl rfl)
theorem dX4_wouldOf_8 : decode cX4_wouldOf 8 = .ok (.iconst 0, 1) := dk_3 (dk_at dksX4_wouldOf_0 8 rfl rfl)
theorem dX4_wouldOf_9 : decode cX4_wouldOf 9 = .ok (.istore 4, 2) := dk_54 4 (dk_at dksX4_wouldOf_0 9 rfl rfl)
theorem dX4_wouldOf_11 : decode cX4_wouldOf 11 = .ok (.iload 4, 2) := dk_21 4 (dk_at dksX4_wouldOf_0 11 rfl rfl)
theorem dX4_wouldOf_13 : decode cX4_wouldOf 13 = .ok (.aload_n 0, 1) := dk_42 (dk_at dksX4_wouldOf_0 13 rfl rfl)
theorem dX4_wouldOf_14 : decode cX4_wouldOf 14 = .ok (.invokevirtual 368, 3) := dk_182 1 112 (dk_at dksX4_wouldOf_0 14 rfl rfl)
theorem dX4_wouldOf_17 : decode cX4_wouldOf 17 = .ok (.if_icmp .ge 35, 3) := dk_162 0 35 (dk_at dksX4_wouldOf_0 17 rfl rfl)
theorem dX4_wouldOf_20 : decode cX4_wouldOf 20 = .ok (.iload_n 2, 1) := dk_28 (dk_at dksX4_wouldOf_0 20 rfl rfl)
theorem dX4_wouldOf_21 : decode cX4_wouldOf 21 = .ok (.iload 4, 2) := dk_21 4 (dk_at dksX4_wouldOf_0 21 rfl rfl)
theorem dX4_wouldOf_23 : decode cX4_wouldOf 23 = .ok (.invokestatic 259, 3) := dk_184 1 3 (dk_at dksX4_wouldOf_1 0 rfl rfl)
theorem dX4_wouldOf_26 : decode cX4_wouldOf 26 = .ok (.ifCond .eq 20, 3) := dk_153 0 20 (dk_at dksX4_wouldOf_1 3 rfl rfl)
theorem dX4_wouldOf_29 : decode cX4_wouldOf 29 = .ok (.aload_n 0, 1) := dk_42 (dk_at dksX4_wouldOf_1 6 rfl rfl)
theorem dX4_wouldOf_30 : decode cX4_wouldOf 30 = .ok (.iload 4, 2) := dk_21 4 (dk_at dksX4_wouldOf_1 7 rfl rfl)
theorem dX4_wouldOf_32 : decode cX4_wouldOf 32 = .ok (.iload_n 1, 1) := dk_27 (dk_at dksX4_wouldOf_1 9 rfl rfl)
theorem dX4_wouldOf_33 : decode cX4_wouldOf 33 = .ok (.invokevirtual 404, 3) := dk_182 1 148 (dk_at dksX4_wouldOf_1 10 rfl rfl)
theorem dX4_wouldOf_36 : decode cX4_wouldOf 36 = .ok (.ifCond .eq 10, 3) := dk_153 0 10 (dk_at dksX4_wouldOf_1 13 rfl rfl)
theorem dX4_wouldOf_39 : decode cX4_wouldOf 39 = .ok (.iload_n 3, 1) := dk_29 (dk_at dksX4_wouldOf_1 16 rfl rfl)
theorem dX4_wouldOf_40 : decode cX4_wouldOf 40 = .ok (.iconst 1, 1) := dk_4 (dk_at dksX4_wouldOf_1 17 rfl rfl)
theorem dX4_wouldOf_41 : decode cX4_wouldOf 41 = .ok (.iload 4, 2) := dk_21 4 (dk_at dksX4_wouldOf_1 18 rfl rfl)
theorem dX4_wouldOf_43 : decode cX4_wouldOf 43 = .ok (.ishl, 1) := dk_120 (dk_at dksX4_wouldOf_1 20 rfl rfl)
theorem dX4_wouldOf_44 : decode cX4_wouldOf 44 = .ok (.ior, 1) := dk_128 (dk_at dksX4_wouldOf_1 21 rfl rfl)
theorem dX4_wouldOf_45 : decode cX4_wouldOf 45 = .ok (.istore_n 3, 1) := dk_62 (dk_at dksX4_wouldOf_1 22 rfl rfl)
theorem dX4_wouldOf_46 : decode cX4_wouldOf 46 = .ok (.iinc 4 1, 3) := dk_132 4 1 (dk_at dksX4_wouldOf_2 0 rfl rfl)
theorem dX4_wouldOf_49 : decode cX4_wouldOf 49 = .ok (.goto (-38), 3) := dk_167 255 218 (dk_at dksX4_wouldOf_2 3 rfl rfl)
theorem dX4_wouldOf_52 : decode cX4_wouldOf 52 = .ok (.iload_n 3, 1) := dk_29 (dk_at dksX4_wouldOf_2 6 rfl rfl)
theorem dX4_wouldOf_53 : decode cX4_wouldOf 53 = .ok (.ireturn, 1) := dk_172 (dk_at dksX4_wouldOf_2 7 rfl rfl)
abbrev cX4_isLetOut : ByteArray := prog_23_method_62_code
def yX4_isLetOut : MethodName := ⟨RX4, "isLetOut", "(II)Z"⟩
def dkwX4_isLetOut_4 : List UInt8 := [180, 1, 80, 164, 0, 7, 4, 167, 0, 4, 3, 172]
abbrev dktX4_isLetOut_4 : List UInt8 := dkwX4_isLetOut_4 ++ []
def dkwX4_isLetOut_3 : List UInt8 := [153, 0, 18, 42, 182, 1, 145, 153, 0, 7, 4, 167, 0, 24, 3, 167, 0, 20, 42, 27, 182, 1, 77, 42]
abbrev dktX4_isLetOut_3 : List UInt8 := dkwX4_isLetOut_3 ++ dktX4_isLetOut_4
def dkwX4_isLetOut_2 : List UInt8 := [42, 27, 182, 1, 133, 96, 46, 181, 1, 80, 42, 180, 0, 39, 42, 180, 0, 253, 46, 3, 184, 1, 3]
abbrev dktX4_isLetOut_2 : List UInt8 := dkwX4_isLetOut_2 ++ dktX4_isLetOut_3
def dkwX4_isLetOut_1 : List UInt8 := [180, 0, 91, 160, 0, 10, 42, 180, 1, 142, 167, 0, 21, 42, 180, 0, 42, 16, 6, 42, 180, 0, 253, 104]
abbrev dktX4_isLetOut_1 : List UInt8 := dkwX4_isLetOut_1 ++ dktX4_isLetOut_2
def dkwX4_isLetOut_0 : List UInt8 := [42, 27, 182, 1, 139, 154, 0, 5, 3, 172, 42, 27, 181, 1, 74, 42, 28, 181, 1, 86, 42, 27, 42]
abbrev dktX4_isLetOut_0 : List UInt8 := dkwX4_isLetOut_0 ++ dktX4_isLetOut_1
theorem dksX4_isLetOut_0 : cX4_isLetOut.data.toList.drop 0 = dktX4_isLetOut_0 := by decide +kernel
theorem dksX4_isLetOut_1 : cX4_isLetOut.data.toList.drop 23 = dktX4_isLetOut_1 := dk_seg dksX4_isLetOut_0 23 rfl rfl
theorem dksX4_isLetOut_2 : cX4_isLetOut.data.toList.drop 47 = dktX4_isLetOut_2 := dk_seg dksX4_isLetOut_1 24 rfl rfl
theorem dksX4_isLetOut_3 : cX4_isLetOut.data.toList.drop 70 = dktX4_isLetOut_3 := dk_seg dksX4_isLetOut_2 23 rfl rfl
theorem dksX4_isLetOut_4 : cX4_isLetOut.data.toList.drop 94 = dktX4_isLetOut_4 := dk_seg dksX4_isLetOut_3 24 rfl rfl
theorem dX4_isLetOut_0 : decode cX4_isLetOut 0 = .ok (.aload_n 0, 1) := dk_42 (dk_at dksX4_isLetOut_0 0 rfl rfl)
theorem dX4_isLetOut_1 : decode cX4_isLetOut 1 = .ok (.iload_n 1, 1) := dk_27 (dk_at dksX4_isLetOut_0 1 rfl rfl)
theorem dX4_isLetOut_2 : decode cX4_isLetOut 2 = .ok (.invokevirtual 395, 3) := dk_182 1 139 (dk_at dksX4_isLetOut_0 2 rfl rfl)
theorem dX4_isLetOut_5 : decode cX4_isLetOut 5 = .ok (.ifCond .ne 5, 3) := dk_154 0 5 (dk_at dksX4_isLetOut_0 5 rfl rfl)
theorem dX4_isLetOut_8 : decode cX4_isLetOut 8 = .ok (.iconst 0, 1) := dk_3 (dk_at dksX4_isLetOut_0 8 rfl rfl)
theorem dX4_isLetOut_9 : decode cX4_isLetOut 9 = .ok (.ireturn, 1) := dk_172 (dk_at dksX4_isLetOut_0 9 rfl rfl)
theorem dX4_isLetOut_10 : decode cX4_isLetOut 10 = .ok (.aload_n 0, 1) := dk_42 (dk_at dksX4_isLetOut_0 10 rfl rfl)
theorem dX4_isLetOut_11 : decode cX4_isLetOut 11 = .ok (.iload_n 1, 1) := dk_27 (dk_at dksX4_isLetOut_0 11 rfl rfl)
theorem dX4_isLetOut_12 : decode cX4_isLetOut 12 = .ok (.putfield 330, 3) := dk_181 1 74 (dk_at dksX4_isLetOut_0 12 rfl rfl)
theorem dX4_isLetOut_15 : decode cX4_isLetOut 15 = .ok (.aload_n 0, 1) := dk_42 (dk_at dksX4_isLetOut_0 15 rfl rfl)
theorem dX4_isLetOut_16 : decode cX4_isLetOut 16 = .ok (.iload_n 2, 1) := dk_28 (dk_at dksX4_isLetOut_0 16 rfl rfl)
theorem dX4_isLetOut_17 : decode cX4_isLetOut 17 = .ok (.putfield 342, 3) := dk_181 1 86 (dk_at dksX4_isLetOut_0 17 rfl rfl)
theorem dX4_isLetOut_20 : decode cX4_isLetOut 20 = .ok (.aload_n 0, 1) := dk_42 (dk_at dksX4_isLetOut_0 20 rfl rfl)
theorem dX4_isLetOut_21 : decode cX4_isLetOut 21 = .ok (.iload_n 1, 1) := dk_27 (dk_at dksX4_isLetOut_0 21 rfl rfl)
theorem dX4_isLetOut_22 : decode cX4_isLetOut 22 = .ok (.aload_n 0, 1) := dk_42 (dk_at dksX4_isLetOut_0 22 rfl rfl)
theorem dX4_isLetOut_23 : decode cX4_isLetOut 23 = .ok (.getfield 91, 3) := dk_180 0 91 (dk_at dksX4_isLetOut_1 0 rfl rfl)
theorem dX4_isLetOut_26 : decode cX4_isLetOut 26 = .ok (.if_icmp .ne 10, 3) := dk_160 0 10 (dk_at dksX4_isLetOut_1 3 rfl rfl)
theorem dX4_isLetOut_29 : decode cX4_isLetOut 29 = .ok (.aload_n 0, 1) := dk_42 (dk_at dksX4_isLetOut_1 6 rfl rfl)
theorem dX4_isLetOut_30 : decode cX4_isLetOut 30 = .ok (.getfield 398, 3) := dk_180 1 142 (dk_at dksX4_isLetOut_1 7 rfl rfl)
theorem dX4_isLetOut_33 : decode cX4_isLetOut 33 = .ok (.goto 21, 3) := dk_167 0 21 (dk_at dksX4_isLetOut_1 10 rfl rfl)
theorem dX4_isLetOut_36 : decode cX4_isLetOut 36 = .ok (.aload_n 0, 1) := dk_42 (dk_at dksX4_isLetOut_1 13 rfl rfl)
theorem dX4_isLetOut_37 : decode cX4_isLetOut 37 = .ok (.getfield 42, 3) := dk_180 0 42 (dk_at dksX4_isLetOut_1 14 rfl rfl)
theorem dX4_isLetOut_40 : decode cX4_isLetOut 40 = .ok (.bipush 6, 2) := dk_16 6 (dk_at dksX4_isLetOut_1 17 rfl rfl)
theorem dX4_isLetOut_42 : decode cX4_isLetOut 42 = .ok (.aload_n 0, 1) := dk_42 (dk_at dksX4_isLetOut_1 19 rfl rfl)
theorem dX4_isLetOut_43 : decode cX4_isLetOut 43 = .ok (.getfield 253, 3) := dk_180 0 253 (dk_at dksX4_isLetOut_1 20 rfl rfl)
theorem dX4_isLetOut_46 : decode cX4_isLetOut 46 = .ok (.imul, 1) := dk_104 (dk_at dksX4_isLetOut_1 23 rfl rfl)
theorem dX4_isLetOut_47 : decode cX4_isLetOut 47 = .ok (.aload_n 0, 1) := dk_42 (dk_at dksX4_isLetOut_2 0 rfl rfl)
theorem dX4_isLetOut_48 : decode cX4_isLetOut 48 = .ok (.iload_n 1, 1) := dk_27 (dk_at dksX4_isLetOut_2 1 rfl rfl)
theorem dX4_isLetOut_49 : decode cX4_isLetOut 49 = .ok (.invokevirtual 389, 3) := dk_182 1 133 (dk_at dksX4_isLetOut_2 2 rfl rfl)
theorem dX4_isLetOut_52 : decode cX4_isLetOut 52 = .ok (.iadd, 1) := dk_96 (dk_at dksX4_isLetOut_2 5 rfl rfl)
theorem dX4_isLetOut_53 : decode cX4_isLetOut 53 = .ok (.iaload, 1) := dk_46 (dk_at dksX4_isLetOut_2 6 rfl rfl)
theorem dX4_isLetOut_54 : decode cX4_isLetOut 54 = .ok (.putfield 336, 3) := dk_181 1 80 (dk_at dksX4_isLetOut_2 7 rfl rfl)
theorem dX4_isLetOut_57 : decode cX4_isLetOut 57 = .ok (.aload_n 0, 1) := dk_42 (dk_at dksX4_isLetOut_2 10 rfl rfl)
theorem dX4_isLetOut_58 : decode cX4_isLetOut 58 = .ok (.getfield 39, 3) := dk_180 0 39 (dk_at dksX4_isLetOut_2 11 rfl rfl)
theorem dX4_isLetOut_61 : decode cX4_isLetOut 61 = .ok (.aload_n 0, 1) := dk_42 (dk_at dksX4_isLetOut_2 14 rfl rfl)
theorem dX4_isLetOut_62 : decode cX4_isLetOut 62 = .ok (.getfield 253, 3) := dk_180 0 253 (dk_at dksX4_isLetOut_2 15 rfl rfl)
theorem dX4_isLetOut_65 : decode cX4_isLetOut 65 = .ok (.iaload, 1) := dk_46 (dk_at dksX4_isLetOut_2 18 rfl rfl)
theorem dX4_isLetOut_66 : decode cX4_isLetOut 66 = .ok (.iconst 0, 1) := dk_3 (dk_at dksX4_isLetOut_2 19 rfl rfl)
theorem dX4_isLetOut_67 : decode cX4_isLetOut 67 = .ok (.invokestatic 259, 3) := dk_184 1 3 (dk_at dksX4_isLetOut_2 20 rfl rfl)
theorem dX4_isLetOut_70 : decode cX4_isLetOut 70 = .ok (.ifCond .eq 18, 3) := dk_153 0 18 (dk_at dksX4_isLetOut_3 0 rfl rfl)
theorem dX4_isLetOut_73 : decode cX4_isLetOut 73 = .ok (.aload_n 0, 1) := dk_42 (dk_at dksX4_isLetOut_3 3 rfl rfl)
theorem dX4_isLetOut_74 : decode cX4_isLetOut 74 = .ok (.invokevirtual 401, 3) := dk_182 1 145 (dk_at dksX4_isLetOut_3 4 rfl rfl)
theorem dX4_isLetOut_77 : decode cX4_isLetOut 77 = .ok (.ifCond .eq 7, 3) := dk_153 0 7 (dk_at dksX4_isLetOut_3 7 rfl rfl)
theorem dX4_isLetOut_80 : decode cX4_isLetOut 80 = .ok (.iconst 1, 1) := dk_4 (dk_at dksX4_isLetOut_3 10 rfl rfl)
theorem dX4_isLetOut_81 : decode cX4_isLetOut 81 = .ok (.goto 24, 3) := dk_167 0 24 (dk_at dksX4_isLetOut_3 11 rfl rfl)
theorem dX4_isLetOut_84 : decode cX4_isLetOut 84 = .ok (.iconst 0, 1) := dk_3 (dk_at dksX4_isLetOut_3 14 rfl rfl)
theorem dX4_isLetOut_85 : decode cX4_isLetOut 85 = .ok (.goto 20, 3) := dk_167 0 20 (dk_at dksX4_isLetOut_3 15 rfl rfl)
theorem dX4_isLetOut_88 : decode cX4_isLetOut 88 = .ok (.aload_n 0, 1) := dk_42 (dk_at dksX4_isLetOut_3 18 rfl rfl)
theorem dX4_isLetOut_89 : decode cX4_isLetOut 89 = .ok (.iload_n 1, 1) := dk_27 (dk_at dksX4_isLetOut_3 19 rfl rfl)
theorem dX4_isLetOut_90 : decode cX4_isLetOut 90 = .ok (.invokevirtual 333, 3) := dk_182 1 77 (dk_at dksX4_isLetOut_3 20 rfl rfl)
theorem dX4_isLetOut_93 : decode cX4_isLetOut 93 = .ok (.aload_n 0, 1) := dk_42 (dk_at dksX4_isLetOut_3 23 rfl rfl)
theorem dX4_isLetOut_94 : decode cX4_isLetOut 94 = .ok (.getfield 336, 3) := dk_180 1 80 (dk_at dksX4_isLetOut_4 0 rfl rfl)
theorem dX4_isLetOut_97 : decode cX4_isLetOut 97 = .ok (.if_icmp .le 7, 3) := dk_164 0 7 (dk_at dksX4_isLetOut_4 3 rfl rfl)
theorem dX4_isLetOut_100 : decode cX4_isLetOut 100 = .ok (.iconst 1, 1) := dk_4 (dk_at dksX4_isLetOut_4 6 rfl rfl)
theorem dX4_isLetOut_101 : decode cX4_isLetOut 101 = .ok (.goto 4, 3) := dk_167 0 4 (dk_at dksX4_isLetOut_4 7 rfl rfl)
theorem dX4_isLetOut_104 : decode cX4_isLetOut 104 = .ok (.iconst 0, 1) := dk_3 (dk_at dksX4_isLetOut_4 10 rfl rfl)
theorem dX4_isLetOut_105 : decode cX4_isLetOut 105 = .ok (.ireturn, 1) := dk_172 (dk_at dksX4_isLetOut_4 11 rfl rfl)
abbrev cX4_doBothSit : ByteArray := prog_23_method_61_code
def yX4_doBothSit : MethodName := ⟨RX4, "doBothSit", "(I)Z"⟩
def dkwX4_doBothSit_1 : List UInt8 := [27, 182, 1, 136, 184, 1, 3, 153, 0, 7, 4, 167, 0, 4, 3, 172]
abbrev dktX4_doBothSit_1 : List UInt8 := dkwX4_doBothSit_1 ++ []
def dkwX4_doBothSit_0 : List UInt8 := [42, 180, 0, 88, 3, 46, 42, 27, 182, 1, 133, 184, 1, 3, 153, 0, 24, 42, 180, 0, 88, 3, 46, 42]
abbrev dktX4_doBothSit_0 : List UInt8 := dkwX4_doBothSit_0 ++ dktX4_doBothSit_1
theorem dksX4_doBothSit_0 : cX4_doBothSit.data.toList.drop 0 = dktX4_doBothSit_0 := by decide +kernel
theorem dksX4_doBothSit_1 : cX4_doBothSit.data.toList.drop 24 = dktX4_doBothSit_1 := dk_seg dksX4_doBothSit_0 24 rfl rfl
theorem dX4_doBothSit_0 : decode cX4_doBothSit 0 = .ok (.aload_n 0, 1) := dk_42 (dk_at dksX4_doBothSit_0 0 rfl rfl)
theorem dX4_doBothSit_1 : decode cX4_doBothSit 1 = .ok (.getfield 88, 3) := dk_180 0 88 (dk_at dksX4_doBothSit_0 1 rfl rfl)
theorem dX4_doBothSit_4 : decode cX4_doBothSit 4 = .ok (.iconst 0, 1) := dk_3 (dk_at dksX4_doBothSit_0 4 rfl rfl)
theorem dX4_doBothSit_5 : decode cX4_doBothSit 5 = .ok (.iaload, 1) := dk_46 (dk_at dksX4_doBothSit_0 5 rfl rfl)
theorem dX4_doBothSit_6 : decode cX4_doBothSit 6 = .ok (.aload_n 0, 1) := dk_42 (dk_at dksX4_doBothSit_0 6 rfl rfl)
theorem dX4_doBothSit_7 : decode cX4_doBothSit 7 = .ok (.iload_n 1, 1) := dk_27 (dk_at dksX4_doBothSit_0 7 rfl rfl)
theorem dX4_doBothSit_8 : decode cX4_doBothSit 8 = .ok (.invokevirtual 389, 3) := dk_182 1 133 (dk_at dksX4_doBothSit_0 8 rfl rfl)
theorem dX4_doBothSit_11 : decode cX4_doBothSit 11 = .ok (.invokestatic 259, 3) := dk_184 1 3 (dk_at dksX4_doBothSit_0 11 rfl rfl)
theorem dX4_doBothSit_14 : decode cX4_doBothSit 14 = .ok (.ifCond .eq 24, 3) := dk_153 0 24 (dk_at dksX4_doBothSit_0 14 rfl rfl)
theorem dX4_doBothSit_17 : decode cX4_doBothSit 17 = .ok (.aload_n 0, 1) := dk_42 (dk_at dksX4_doBothSit_0 17 rfl rfl)
theorem dX4_doBothSit_18 : decode cX4_doBothSit 18 = .ok (.getfield 88, 3) := dk_180 0 88 (dk_at dksX4_doBothSit_0 18 rfl rfl)
theorem dX4_doBothSit_21 : decode cX4_doBothSit 21 = .ok (.iconst 0, 1) := dk_3 (dk_at dksX4_doBothSit_0 21 rfl rfl)
theorem dX4_doBothSit_22 : decode cX4_doBothSit 22 = .ok (.iaload, 1) := dk_46 (dk_at dksX4_doBothSit_0 22 rfl rfl)
theorem dX4_doBothSit_23 : decode cX4_doBothSit 23 = .ok (.aload_n 0, 1) := dk_42 (dk_at dksX4_doBothSit_0 23 rfl rfl)
theorem dX4_doBothSit_24 : decode cX4_doBothSit 24 = .ok (.iload_n 1, 1) := dk_27 (dk_at dksX4_doBothSit_1 0 rfl rfl)
theorem dX4_doBothSit_25 : decode cX4_doBothSit 25 = .ok (.invokevirtual 392, 3) := dk_182 1 136 (dk_at dksX4_doBothSit_1 1 rfl rfl)
theorem dX4_doBothSit_28 : decode cX4_doBothSit 28 = .ok (.invokestatic 259, 3) := dk_184 1 3 (dk_at dksX4_doBothSit_1 4 rfl rfl)
theorem dX4_doBothSit_31 : decode cX4_doBothSit 31 = .ok (.ifCond .eq 7, 3) := dk_153 0 7 (dk_at dksX4_doBothSit_1 7 rfl rfl)
theorem dX4_doBothSit_34 : decode cX4_doBothSit 34 = .ok (.iconst 1, 1) := dk_4 (dk_at dksX4_doBothSit_1 10 rfl rfl)
theorem dX4_doBothSit_35 : decode cX4_doBothSit 35 = .ok (.goto 4, 3) := dk_167 0 4 (dk_at dksX4_doBothSit_1 11 rfl rfl)
theorem dX4_doBothSit_38 : decode cX4_doBothSit 38 = .ok (.iconst 0, 1) := dk_3 (dk_at dksX4_doBothSit_1 14 rfl rfl)
theorem dX4_doBothSit_39 : decode cX4_doBothSit 39 = .ok (.ireturn, 1) := dk_172 (dk_at dksX4_doBothSit_1 15 rfl rfl)
abbrev cX4_comes : ByteArray := prog_23_method_37_code
def yX4_comes : MethodName := ⟨RX4, "comes", "()I"⟩
def dkwX4_comes_5 : List UInt8 := [180, 0, 85, 27, 46, 184, 1, 98, 79, 132, 2, 1, 167, 255, 141, 42, 180, 0, 85, 3, 46, 172]
abbrev dktX4_comes_5 : List UInt8 := dkwX4_comes_5 ++ []
def dkwX4_comes_4 : List UInt8 := [167, 0, 32, 132, 1, 255, 42, 180, 0, 85, 27, 4, 100, 29, 42, 180, 0, 85, 27, 4, 100, 46, 42]
abbrev dktX4_comes_4 : List UInt8 := dkwX4_comes_4 ++ dktX4_comes_5
def dkwX4_comes_3 : List UInt8 := [153, 0, 26, 42, 180, 0, 85, 27, 42, 29, 42, 180, 0, 76, 28, 46, 182, 1, 95, 79, 132, 1, 1]
abbrev dktX4_comes_3 : List UInt8 := dkwX4_comes_3 ++ dktX4_comes_4
def dkwX4_comes_2 : List UInt8 := [180, 0, 85, 27, 4, 100, 46, 154, 0, 7, 4, 167, 0, 4, 3, 79, 167, 0, 62, 29, 184, 0, 198]
abbrev dktX4_comes_2 : List UInt8 := dkwX4_comes_2 ++ dktX4_comes_3
def dkwX4_comes_1 : List UInt8 := [162, 0, 108, 42, 180, 0, 73, 28, 46, 62, 29, 16, 126, 160, 0, 30, 42, 180, 0, 85, 27, 4, 100, 42]
abbrev dktX4_comes_1 : List UInt8 := dkwX4_comes_1 ++ dktX4_comes_2
def dkwX4_comes_0 : List UInt8 := [3, 60, 42, 180, 0, 57, 42, 180, 0, 253, 46, 61, 28, 42, 180, 0, 60, 42, 180, 0, 253, 46]
abbrev dktX4_comes_0 : List UInt8 := dkwX4_comes_0 ++ dktX4_comes_1
theorem dksX4_comes_0 : cX4_comes.data.toList.drop 0 = dktX4_comes_0 := by decide +kernel
theorem dksX4_comes_1 : cX4_comes.data.toList.drop 22 = dktX4_comes_1 := dk_seg dksX4_comes_0 22 rfl rfl
theorem dksX4_comes_2 : cX4_comes.data.toList.drop 46 = dktX4_comes_2 := dk_seg dksX4_comes_1 24 rfl rfl
theorem dksX4_comes_3 : cX4_comes.data.toList.drop 69 = dktX4_comes_3 := dk_seg dksX4_comes_2 23 rfl rfl
theorem dksX4_comes_4 : cX4_comes.data.toList.drop 92 = dktX4_comes_4 := dk_seg dksX4_comes_3 23 rfl rfl
theorem dksX4_comes_5 : cX4_comes.data.toList.drop 115 = dktX4_comes_5 := dk_seg dksX4_comes_4 23 rfl rfl
theorem dX4_comes_0 : decode cX4_comes 0 = .ok (.iconst 0, 1) := dk_3 (dk_at dksX4_comes_0 0 rfl rfl)
theorem dX4_comes_1 : decode cX4_comes 1 = .ok (.istore_n 1, 1) := dk_60 (dk_at dksX4_comes_0 1 rfl rfl)
theorem dX4_comes_2 : decode cX4_comes 2 = .ok (.aload_n 0, 1) := dk_42 (dk_at dksX4_comes_0 2 rfl rfl)
theorem dX4_comes_3 : decode cX4_comes 3 = .ok (.getfield 57, 3) := dk_180 0 57 (dk_at dksX4_comes_0 3 rfl rfl)
theorem dX4_comes_6 : decode cX4_comes 6 = .ok (.aload_n 0, 1) := dk_42 (dk_at dksX4_comes_0 6 rfl rfl)
theorem dX4_comes_7 : decode cX4_comes 7 = .ok (.getfield 253, 3) := dk_180 0 253 (dk_at dksX4_comes_0 7 rfl rfl)
theorem dX4_comes_10 : decode cX4_comes 10 = .ok (.iaload, 1) := dk_46 (dk_at dksX4_comes_0 10 rfl rfl)
theorem dX4_comes_11 : decode cX4_comes 11 = .ok (.istore_n 2, 1) := dk_61 (dk_at dksX4_comes_0 11 rfl rfl)
theorem dX4_comes_12 : decode cX4_comes 12 = .ok (.iload_n 2, 1) := dk_28 (dk_at dksX4_comes_0 12 rfl rfl)
theorem dX4_comes_13 : decode cX4_comes 13 = .ok (.aload_n 0, 1) := dk_42 (dk_at dksX4_comes_0 13 rfl rfl)
theorem dX4_comes_14 : decode cX4_comes 14 = .ok (.getfield 60, 3) := dk_180 0 60 (dk_at dksX4_comes_0 14 rfl rfl)
theorem dX4_comes_17 : decode cX4_comes 17 = .ok (.aload_n 0, 1) := dk_42 (dk_at dksX4_comes_0 17 rfl rfl)
theorem dX4_comes_18 : decode cX4_comes 18 = .ok (.getfield 253, 3) := dk_180 0 253 (dk_at dksX4_comes_0 18 rfl rfl)
theorem dX4_comes_21 : decode cX4_comes 21 = .ok (.iaload, 1) := dk_46 (dk_at dksX4_comes_0 21 rfl rfl)
theorem dX4_comes_22 : decode cX4_comes 22 = .ok (.if_icmp .ge 108, 3) := dk_162 0 108 (dk_at dksX4_comes_1 0 rfl rfl)
theorem dX4_comes_25 : decode cX4_comes 25 = .ok (.aload_n 0, 1) := dk_42 (dk_at dksX4_comes_1 3 rfl rfl)
theorem dX4_comes_26 : decode cX4_comes 26 = .ok (.getfield 73, 3) := dk_180 0 73 (dk_at dksX4_comes_1 4 rfl rfl)
theorem dX4_comes_29 : decode cX4_comes 29 = .ok (.iload_n 2, 1) := dk_28 (dk_at dksX4_comes_1 7 rfl rfl)
theorem dX4_comes_30 : decode cX4_comes 30 = .ok (.iaload, 1) := dk_46 (dk_at dksX4_comes_1 8 rfl rfl)
theorem dX4_comes_31 : decode cX4_comes 31 = .ok (.istore_n 3, 1) := dk_62 (dk_at dksX4_comes_1 9 rfl rfl)
theorem dX4_comes_32 : decode cX4_comes 32 = .ok (.iload_n 3, 1) := dk_29 (dk_at dksX4_comes_1 10 rfl rfl)
theorem dX4_comes_33 : decode cX4_comes 33 = .ok (.bipush 126, 2) := dk_16 126 (dk_at dksX4_comes_1 11 rfl rfl)
theorem dX4_comes_35 : decode cX4_comes 35 = .ok (.if_icmp .ne 30, 3) := dk_160 0 30 (dk_at dksX4_comes_1 13 rfl rfl)
theorem dX4_comes_38 : decode cX4_comes 38 = .ok (.aload_n 0, 1) := dk_42 (dk_at dksX4_comes_1 16 rfl rfl)
theorem dX4_comes_39 : decode cX4_comes 39 = .ok (.getfield 85, 3) := dk_180 0 85 (dk_at dksX4_comes_1 17 rfl rfl)
theorem dX4_comes_42 : decode cX4_comes 42 = .ok (.iload_n 1, 1) := dk_27 (dk_at dksX4_comes_1 20 rfl rfl)
theorem dX4_comes_43 : decode cX4_comes 43 = .ok (.iconst 1, 1) := dk_4 (dk_at dksX4_comes_1 21 rfl rfl)
theorem dX4_comes_44 : decode cX4_comes 44 = .ok (.isub, 1) := dk_100 (dk_at dksX4_comes_1 22 rfl rfl)
theorem dX4_comes_45 : decode cX4_comes 45 = .ok (.aload_n 0, 1) := dk_42 (dk_at dksX4_comes_1 23 rfl rfl)
theorem dX4_comes_46 : decode cX4_comes 46 = .ok (.getfield 85, 3) := dk_180 0 85 (dk_at dksX4_comes_2 0 rfl rfl)
theorem dX4_comes_49 : decode cX4_comes 49 = .ok (.iload_n 1, 1) := dk_27 (dk_at dksX4_comes_2 3 rfl rfl)
theorem dX4_comes_50 : decode cX4_comes 50 = .ok (.iconst 1, 1) := dk_4 (dk_at dksX4_comes_2 4 rfl rfl)
theorem dX4_comes_51 : decode cX4_comes 51 = .ok (.isub, 1) := dk_100 (dk_at dksX4_comes_2 5 rfl rfl)
theorem dX4_comes_52 : decode cX4_comes 52 = .ok (.iaload, 1) := dk_46 (dk_at dksX4_comes_2 6 rfl rfl)
theorem dX4_comes_53 : decode cX4_comes 53 = .ok (.ifCond .ne 7, 3) := dk_154 0 7 (dk_at dksX4_comes_2 7 rfl rfl)
theorem dX4_comes_56 : decode cX4_comes 56 = .ok (.iconst 1, 1) := dk_4 (dk_at dksX4_comes_2 10 rfl rfl)
theorem dX4_comes_57 : decode cX4_comes 57 = .ok (.goto 4, 3) := dk_167 0 4 (dk_at dksX4_comes_2 11 rfl rfl)
theorem dX4_comes_60 : decode cX4_comes 60 = .ok (.iconst 0, 1) := dk_3 (dk_at dksX4_comes_2 14 rfl rfl)
theorem dX4_comes_61 : decode cX4_comes 61 = .ok (.iastore, 1) := dk_79 (dk_at dksX4_comes_2 15 rfl rfl)
theorem dX4_comes_62 : decode cX4_comes 62 = .ok (.goto 62, 3) := dk_167 0 62 (dk_at dksX4_comes_2 16 rfl rfl)
theorem dX4_comes_65 : decode cX4_comes 65 = .ok (.iload_n 3, 1) := dk_29 (dk_at dksX4_comes_2 19 rfl rfl)
theorem dX4_comes_66 : decode cX4_comes 66 = .ok (.invokestatic 198, 3) := dk_184 0 198 (dk_at dksX4_comes_2 20 rfl rfl)
theorem dX4_comes_69 : decode cX4_comes 69 = .ok (.ifCond .eq 26, 3) := dk_153 0 26 (dk_at dksX4_comes_3 0 rfl rfl)
theorem dX4_comes_72 : decode cX4_comes 72 = .ok (.aload_n 0, 1) := dk_42 (dk_at dksX4_comes_3 3 rfl rfl)
theorem dX4_comes_73 : decode cX4_comes 73 = .ok (.getfield 85, 3) := dk_180 0 85 (dk_at dksX4_comes_3 4 rfl rfl)
theorem dX4_comes_76 : decode cX4_comes 76 = .ok (.iload_n 1, 1) := dk_27 (dk_at dksX4_comes_3 7 rfl rfl)
theorem dX4_comes_77 : decode cX4_comes 77 = .ok (.aload_n 0, 1) := dk_42 (dk_at dksX4_comes_3 8 rfl rfl)
theorem dX4_comes_78 : decode cX4_comes 78 = .ok (.iload_n 3, 1) := dk_29 (dk_at dksX4_comes_3 9 rfl rfl)
theorem dX4_comes_79 : decode cX4_comes 79 = .ok (.aload_n 0, 1) := dk_42 (dk_at dksX4_comes_3 10 rfl rfl)
theorem dX4_comes_80 : decode cX4_comes 80 = .ok (.getfield 76, 3) := dk_180 0 76 (dk_at dksX4_comes_3 11 rfl rfl)
theorem dX4_comes_83 : decode cX4_comes 83 = .ok (.iload_n 2, 1) := dk_28 (dk_at dksX4_comes_3 14 rfl rfl)
theorem dX4_comes_84 : decode cX4_comes 84 = .ok (.iaload, 1) := dk_46 (dk_at dksX4_comes_3 15 rfl rfl)
theorem dX4_comes_85 : decode cX4_comes 85 = .ok (.invokevirtual 351, 3) := dk_182 1 95 (dk_at dksX4_comes_3 16 rfl rfl)
theorem dX4_comes_88 : decode cX4_comes 88 = .ok (.iastore, 1) := dk_79 (dk_at dksX4_comes_3 19 rfl rfl)
theorem dX4_comes_89 : decode cX4_comes 89 = .ok (.iinc 1 1, 3) := dk_132 1 1 (dk_at dksX4_comes_3 20 rfl rfl)
theorem dX4_comes_92 : decode cX4_comes 92 = .ok (.goto 32, 3) := dk_167 0 32 (dk_at dksX4_comes_4 0 rfl rfl)
theorem dX4_comes_95 : decode cX4_comes 95 = .ok (.iinc 1 (-1), 3) := dk_132 1 255 (dk_at dksX4_comes_4 3 rfl rfl)
theorem dX4_comes_98 : decode cX4_comes 98 = .ok (.aload_n 0, 1) := dk_42 (dk_at dksX4_comes_4 6 rfl rfl)
theorem dX4_comes_99 : decode cX4_comes 99 = .ok (.getfield 85, 3) := dk_180 0 85 (dk_at dksX4_comes_4 7 rfl rfl)
theorem dX4_comes_102 : decode cX4_comes 102 = .ok (.iload_n 1, 1) := dk_27 (dk_at dksX4_comes_4 10 rfl rfl)
theorem dX4_comes_103 : decode cX4_comes 103 = .ok (.iconst 1, 1) := dk_4 (dk_at dksX4_comes_4 11 rfl rfl)
theorem dX4_comes_104 : decode cX4_comes 104 = .ok (.isub, 1) := dk_100 (dk_at dksX4_comes_4 12 rfl rfl)
theorem dX4_comes_105 : decode cX4_comes 105 = .ok (.iload_n 3, 1) := dk_29 (dk_at dksX4_comes_4 13 rfl rfl)
theorem dX4_comes_106 : decode cX4_comes 106 = .ok (.aload_n 0, 1) := dk_42 (dk_at dksX4_comes_4 14 rfl rfl)
theorem dX4_comes_107 : decode cX4_comes 107 = .ok (.getfield 85, 3) := dk_180 0 85 (dk_at dksX4_comes_4 15 rfl rfl)
theorem dX4_comes_110 : decode cX4_comes 110 = .ok (.iload_n 1, 1) := dk_27 (dk_at dksX4_comes_4 18 rfl rfl)
theorem dX4_comes_111 : decode cX4_comes 111 = .ok (.iconst 1, 1) := dk_4 (dk_at dksX4_comes_4 19 rfl rfl)
theorem dX4_comes_112 : decode cX4_comes 112 = .ok (.isub, 1) := dk_100 (dk_at dksX4_comes_4 20 rfl rfl)
theorem dX4_comes_113 : decode cX4_comes 113 = .ok (.iaload, 1) := dk_46 (dk_at dksX4_comes_4 21 rfl rfl)
theorem dX4_comes_114 : decode cX4_comes 114 = .ok (.aload_n 0, 1) := dk_42 (dk_at dksX4_comes_4 22 rfl rfl)
theorem dX4_comes_115 : decode cX4_comes 115 = .ok (.getfield 85, 3) := dk_180 0 85 (dk_at dksX4_comes_5 0 rfl rfl)
theorem dX4_comes_118 : decode cX4_comes 118 = .ok (.iload_n 1, 1) := dk_27 (dk_at dksX4_comes_5 3 rfl rfl)
theorem dX4_comes_119 : decode cX4_comes 119 = .ok (.iaload, 1) := dk_46 (dk_at dksX4_comes_5 4 rfl rfl)
theorem dX4_comes_120 : decode cX4_comes 120 = .ok (.invokestatic 354, 3) := dk_184 1 98 (dk_at dksX4_comes_5 5 rfl rfl)
theorem dX4_comes_123 : decode cX4_comes 123 = .ok (.iastore, 1) := dk_79 (dk_at dksX4_comes_5 8 rfl rfl)
theorem dX4_comes_124 : decode cX4_comes 124 = .ok (.iinc 2 1, 3) := dk_132 2 1 (dk_at dksX4_comes_5 9 rfl rfl)
theorem dX4_comes_127 : decode cX4_comes 127 = .ok (.goto (-115), 3) := dk_167 255 141 (dk_at dksX4_comes_5 12 rfl rfl)
theorem dX4_comes_130 : decode cX4_comes 130 = .ok (.aload_n 0, 1) := dk_42 (dk_at dksX4_comes_5 15 rfl rfl)
theorem dX4_comes_131 : decode cX4_comes 131 = .ok (.getfield 85, 3) := dk_180 0 85 (dk_at dksX4_comes_5 16 rfl rfl)
theorem dX4_comes_134 : decode cX4_comes 134 = .ok (.iconst 0, 1) := dk_3 (dk_at dksX4_comes_5 19 rfl rfl)
theorem dX4_comes_135 : decode cX4_comes 135 = .ok (.iaload, 1) := dk_46 (dk_at dksX4_comes_5 20 rfl rfl)
theorem dX4_comes_136 : decode cX4_comes 136 = .ok (.ireturn, 1) := dk_172 (dk_at dksX4_comes_5 21 rfl rfl)
abbrev cX4_asked : ByteArray := prog_23_method_36_code
def yX4_asked : MethodName := ⟨RX4, "asked", "(II)I"⟩
def dkwX4_asked_4 : List UInt8 := [182, 1, 92, 172, 42, 180, 0, 88, 16, 17, 46, 172, 28, 172]
abbrev dktX4_asked_4 : List UInt8 := dkwX4_asked_4 ++ []
def dkwX4_asked_3 : List UInt8 := [42, 180, 0, 88, 16, 12, 42, 180, 1, 86, 96, 46, 172, 42, 42, 42, 180, 1, 86, 182, 1, 89]
abbrev dktX4_asked_3 : List UInt8 := dkwX4_asked_3 ++ dktX4_asked_4
def dkwX4_asked_2 : List UInt8 := [42, 42, 180, 1, 74, 182, 1, 77, 172, 42, 180, 1, 80, 172, 42, 180, 0, 88, 3, 46, 184, 1, 83, 172]
abbrev dktX4_asked_2 : List UInt8 := dkwX4_asked_2 ++ dktX4_asked_3
def dkwX4_asked_1 : List UInt8 := [170, 0, 0, 0, 0, 0, 145, 0, 0, 0, 99, 0, 0, 0, 116, 0, 0, 0, 137, 0, 0, 0, 145, 0, 0, 0, 145, 0, 0, 0, 145, 0, 0, 0, 101, 0, 0, 0, 87, 0, 0, 0, 145, 0, 0, 0, 145, 0, 0, 0, 145, 0, 0, 0, 145, 0, 0, 0, 145, 0, 0, 0, 145, 0, 0, 0, 145, 0, 0, 0, 145, 0, 0, 0, 145, 0, 0, 0, 111, 0, 0, 0, 96, 0, 0, 0, 124]
abbrev dktX4_asked_1 : List UInt8 := dkwX4_asked_1 ++ dktX4_asked_2
def dkwX4_asked_0 : List UInt8 := [27]
abbrev dktX4_asked_0 : List UInt8 := dkwX4_asked_0 ++ dktX4_asked_1
theorem dksX4_asked_0 : cX4_asked.data.toList.drop 0 = dktX4_asked_0 := by decide +kernel
theorem dksX4_asked_1 : cX4_asked.data.toList.drop 1 = dktX4_asked_1 := dk_seg dksX4_asked_0 1 rfl rfl
theorem dksX4_asked_2 : cX4_asked.data.toList.drop 88 = dktX4_asked_2 := dk_seg dksX4_asked_1 87 rfl rfl
theorem dksX4_asked_3 : cX4_asked.data.toList.drop 112 = dktX4_asked_3 := dk_seg dksX4_asked_2 24 rfl rfl
theorem dksX4_asked_4 : cX4_asked.data.toList.drop 134 = dktX4_asked_4 := dk_seg dksX4_asked_3 22 rfl rfl
theorem dX4_asked_0 : decode cX4_asked 0 = .ok (.iload_n 1, 1) := dk_27 (dk_at dksX4_asked_0 0 rfl rfl)
theorem dX4_asked_1 : decode cX4_asked 1 = .ok (.tableswitch 145 99 116 #[137, 145, 145, 145, 101, 87, 145, 145, 145, 145, 145, 145, 145, 145, 145, 111, 96, 124], 87) := by decide +kernel
theorem dX4_asked_88 : decode cX4_asked 88 = .ok (.aload_n 0, 1) := dk_42 (dk_at dksX4_asked_2 0 rfl rfl)
theorem dX4_asked_89 : decode cX4_asked 89 = .ok (.aload_n 0, 1) := dk_42 (dk_at dksX4_asked_2 1 rfl rfl)
theorem dX4_asked_90 : decode cX4_asked 90 = .ok (.getfield 330, 3) := dk_180 1 74 (dk_at dksX4_asked_2 2 rfl rfl)
theorem dX4_asked_93 : decode cX4_asked 93 = .ok (.invokevirtual 333, 3) := dk_182 1 77 (dk_at dksX4_asked_2 5 rfl rfl)
theorem dX4_asked_96 : decode cX4_asked 96 = .ok (.ireturn, 1) := dk_172 (dk_at dksX4_asked_2 8 rfl rfl)
theorem dX4_asked_97 : decode cX4_asked 97 = .ok (.aload_n 0, 1) := dk_42 (dk_at dksX4_asked_2 9 rfl rfl)
theorem dX4_asked_98 : decode cX4_asked 98 = .ok (.getfield 336, 3) := dk_180 1 80 (dk_at dksX4_asked_2 10 rfl rfl)
theorem dX4_asked_101 : decode cX4_asked 101 = .ok (.ireturn, 1) := dk_172 (dk_at dksX4_asked_2 13 rfl rfl)
theorem dX4_asked_102 : decode cX4_asked 102 = .ok (.aload_n 0, 1) := dk_42 (dk_at dksX4_asked_2 14 rfl rfl)
theorem dX4_asked_103 : decode cX4_asked 103 = .ok (.getfield 88, 3) := dk_180 0 88 (dk_at dksX4_asked_2 15 rfl rfl)
theorem dX4_asked_106 : decode cX4_asked 106 = .ok (.iconst 0, 1) := dk_3 (dk_at dksX4_asked_2 18 rfl rfl)
theorem dX4_asked_107 : decode cX4_asked 107 = .ok (.iaload, 1) := dk_46 (dk_at dksX4_asked_2 19 rfl rfl)
theorem dX4_asked_108 : decode cX4_asked 108 = .ok (.invokestatic 339, 3) := dk_184 1 83 (dk_at dksX4_asked_2 20 rfl rfl)
theorem dX4_asked_111 : decode cX4_asked 111 = .ok (.ireturn, 1) := dk_172 (dk_at dksX4_asked_2 23 rfl rfl)
theorem dX4_asked_112 : decode cX4_asked 112 = .ok (.aload_n 0, 1) := dk_42 (dk_at dksX4_asked_3 0 rfl rfl)
theorem dX4_asked_113 : decode cX4_asked 113 = .ok (.getfield 88, 3) := dk_180 0 88 (dk_at dksX4_asked_3 1 rfl rfl)
theorem dX4_asked_116 : decode cX4_asked 116 = .ok (.bipush 12, 2) := dk_16 12 (dk_at dksX4_asked_3 4 rfl rfl)
theorem dX4_asked_118 : decode cX4_asked 118 = .ok (.aload_n 0, 1) := dk_42 (dk_at dksX4_asked_3 6 rfl rfl)
theorem dX4_asked_119 : decode cX4_asked 119 = .ok (.getfield 342, 3) := dk_180 1 86 (dk_at dksX4_asked_3 7 rfl rfl)
theorem dX4_asked_122 : decode cX4_asked 122 = .ok (.iadd, 1) := dk_96 (dk_at dksX4_asked_3 10 rfl rfl)
theorem dX4_asked_123 : decode cX4_asked 123 = .ok (.iaload, 1) := dk_46 (dk_at dksX4_asked_3 11 rfl rfl)
theorem dX4_asked_124 : decode cX4_asked 124 = .ok (.ireturn, 1) := dk_172 (dk_at dksX4_asked_3 12 rfl rfl)
theorem dX4_asked_125 : decode cX4_asked 125 = .ok (.aload_n 0, 1) := dk_42 (dk_at dksX4_asked_3 13 rfl rfl)
theorem dX4_asked_126 : decode cX4_asked 126 = .ok (.aload_n 0, 1) := dk_42 (dk_at dksX4_asked_3 14 rfl rfl)
theorem dX4_asked_127 : decode cX4_asked 127 = .ok (.aload_n 0, 1) := dk_42 (dk_at dksX4_asked_3 15 rfl rfl)
theorem dX4_asked_128 : decode cX4_asked 128 = .ok (.getfield 342, 3) := dk_180 1 86 (dk_at dksX4_asked_3 16 rfl rfl)
theorem dX4_asked_131 : decode cX4_asked 131 = .ok (.invokevirtual 345, 3) := dk_182 1 89 (dk_at dksX4_asked_3 19 rfl rfl)
theorem dX4_asked_134 : decode cX4_asked 134 = .ok (.invokevirtual 348, 3) := dk_182 1 92 (dk_at dksX4_asked_4 0 rfl rfl)
theorem dX4_asked_137 : decode cX4_asked 137 = .ok (.ireturn, 1) := dk_172 (dk_at dksX4_asked_4 3 rfl rfl)
theorem dX4_asked_138 : decode cX4_asked 138 = .ok (.aload_n 0, 1) := dk_42 (dk_at dksX4_asked_4 4 rfl rfl)
theorem dX4_asked_139 : decode cX4_asked 139 = .ok (.getfield 88, 3) := dk_180 0 88 (dk_at dksX4_asked_4 5 rfl rfl)
theorem dX4_asked_142 : decode cX4_asked 142 = .ok (.bipush 17, 2) := dk_16 17 (dk_at dksX4_asked_4 8 rfl rfl)
theorem dX4_asked_144 : decode cX4_asked 144 = .ok (.iaload, 1) := dk_46 (dk_at dksX4_asked_4 10 rfl rfl)
theorem dX4_asked_145 : decode cX4_asked 145 = .ok (.ireturn, 1) := dk_172 (dk_at dksX4_asked_4 11 rfl rfl)
theorem dX4_asked_146 : decode cX4_asked 146 = .ok (.iload_n 2, 1) := dk_28 (dk_at dksX4_asked_4 12 rfl rfl)
theorem dX4_asked_147 : decode cX4_asked 147 = .ok (.ireturn, 1) := dk_172 (dk_at dksX4_asked_4 13 rfl rfl)
abbrev cX4_bitsOf : ByteArray := prog_23_method_41_code
def yX4_bitsOf : MethodName := ⟨RX4, "bitsOf", "(I)I"⟩
def dkwX4_bitsOf_0 : List UInt8 := [3, 60, 26, 61, 28, 153, 0, 15, 132, 1, 1, 28, 28, 4, 100, 126, 61, 167, 255, 243, 27, 172]
abbrev dktX4_bitsOf_0 : List UInt8 := dkwX4_bitsOf_0 ++ []
theorem dksX4_bitsOf_0 : cX4_bitsOf.data.toList.drop 0 = dktX4_bitsOf_0 := by decide +kernel
theorem dX4_bitsOf_0 : decode cX4_bitsOf 0 = .ok (.iconst 0, 1) := dk_3 (dk_at dksX4_bitsOf_0 0 rfl rfl)
theorem dX4_bitsOf_1 : decode cX4_bitsOf 1 = .ok (.istore_n 1, 1) := dk_60 (dk_at dksX4_bitsOf_0 1 rfl rfl)
theorem dX4_bitsOf_2 : decode cX4_bitsOf 2 = .ok (.iload_n 0, 1) := dk_26 (dk_at dksX4_bitsOf_0 2 rfl rfl)
theorem dX4_bitsOf_3 : decode cX4_bitsOf 3 = .ok (.istore_n 2, 1) := dk_61 (dk_at dksX4_bitsOf_0 3 rfl rfl)
theorem dX4_bitsOf_4 : decode cX4_bitsOf 4 = .ok (.iload_n 2, 1) := dk_28 (dk_at dksX4_bitsOf_0 4 rfl rfl)
theorem dX4_bitsOf_5 : decode cX4_bitsOf 5 = .ok (.ifCond .eq 15, 3) := dk_153 0 15 (dk_at dksX4_bitsOf_0 5 rfl rfl)
theorem dX4_bitsOf_8 : decode cX4_bitsOf 8 = .ok (.iinc 1 1, 3) := dk_132 1 1 (dk_at dksX4_bitsOf_0 8 rfl rfl)
theorem dX4_bitsOf_11 : decode cX4_bitsOf 11 = .ok (.iload_n 2, 1) := dk_28 (dk_at dksX4_bitsOf_0 11 rfl rfl)
theorem dX4_bitsOf_12 : decode cX4_bitsOf 12 = .ok (.iload_n 2, 1) := dk_28 (dk_at dksX4_bitsOf_0 12 rfl rfl)
theorem dX4_bitsOf_13 : decode cX4_bitsOf 13 = .ok (.iconst 1, 1) := dk_4 (dk_at dksX4_bitsOf_0 13 rfl rfl)
theorem dX4_bitsOf_14 : decode cX4_bitsOf 14 = .ok (.isub, 1) := dk_100 (dk_at dksX4_bitsOf_0 14 rfl rfl)
theorem dX4_bitsOf_15 : decode cX4_bitsOf 15 = .ok (.iand, 1) := dk_126 (dk_at dksX4_bitsOf_0 15 rfl rfl)
theorem dX4_bitsOf_16 : decode cX4_bitsOf 16 = .ok (.istore_n 2, 1) := dk_61 (dk_at dksX4_bitsOf_0 16 rfl rfl)
theorem dX4_bitsOf_17 : decode cX4_bitsOf 17 = .ok (.goto (-13), 3) := dk_167 255 243 (dk_at dksX4_bitsOf_0 17 rfl rfl)
theorem dX4_bitsOf_20 : decode cX4_bitsOf 20 = .ok (.iload_n 1, 1) := dk_27 (dk_at dksX4_bitsOf_0 20 rfl rfl)
theorem dX4_bitsOf_21 : decode cX4_bitsOf 21 = .ok (.ireturn, 1) := dk_172 (dk_at dksX4_bitsOf_0 21 rfl rfl)
abbrev cX4_two : ByteArray := prog_23_method_35_code
def yX4_two : MethodName := ⟨RX4, "two", "(III)I"⟩
def dkwX4_two_6 : List UInt8 := [167, 0, 4, 3, 172]
abbrev dktX4_two_6 : List UInt8 := dkwX4_two_6 ++ []
def dkwX4_two_5 : List UInt8 := [153, 0, 11, 28, 153, 0, 7, 4, 167, 0, 4, 3, 172, 27, 154, 0, 7, 28, 153, 0, 7, 4]
abbrev dktX4_two_5 : List UInt8 := dkwX4_two_5 ++ dktX4_two_6
def dkwX4_two_4 : List UInt8 := [28, 164, 0, 7, 4, 167, 0, 4, 3, 172, 27, 28, 160, 0, 7, 4, 167, 0, 4, 3, 172, 27]
abbrev dktX4_two_4 : List UInt8 := dkwX4_two_4 ++ dktX4_two_5
def dkwX4_two_3 : List UInt8 := [28, 154, 0, 7, 3, 167, 0, 6, 27, 28, 112, 172, 27, 28, 162, 0, 7, 4, 167, 0, 4, 3, 172, 27]
abbrev dktX4_two_3 : List UInt8 := dkwX4_two_3 ++ dktX4_two_4
def dkwX4_two_2 : List UInt8 := [27, 28, 96, 172, 27, 28, 100, 172, 27, 28, 104, 172, 28, 154, 0, 7, 3, 167, 0, 6, 27, 28, 108, 172]
abbrev dktX4_two_2 : List UInt8 := dkwX4_two_2 ++ dktX4_two_3
def dkwX4_two_1 : List UInt8 := [170, 0, 0, 0, 0, 0, 202, 0, 0, 0, 37, 0, 0, 0, 62, 0, 0, 0, 143, 0, 0, 0, 188, 0, 0, 0, 202, 0, 0, 0, 202, 0, 0, 0, 202, 0, 0, 0, 127, 0, 0, 0, 119, 0, 0, 0, 202, 0, 0, 0, 123, 0, 0, 0, 202, 0, 0, 0, 131, 0, 0, 0, 202, 0, 0, 0, 202, 0, 0, 0, 202, 0, 0, 0, 202, 0, 0, 0, 202, 0, 0, 0, 202, 0, 0, 0, 202, 0, 0, 0, 202, 0, 0, 0, 202, 0, 0, 0, 202, 0, 0, 0, 202, 0, 0, 0, 202, 0, 0, 0, 155, 0, 0, 0, 177, 0, 0, 0, 166]
abbrev dktX4_two_1 : List UInt8 := dkwX4_two_1 ++ dktX4_two_2
def dkwX4_two_0 : List UInt8 := [26]
abbrev dktX4_two_0 : List UInt8 := dkwX4_two_0 ++ dktX4_two_1
theorem dksX4_two_0 : cX4_two.data.toList.drop 0 = dktX4_two_0 := by decide +kernel
theorem dksX4_two_1 : cX4_two.data.toList.drop 1 = dktX4_two_1 := dk_seg dksX4_two_0 1 rfl rfl
theorem dksX4_two_2 : cX4_two.data.toList.drop 120 = dktX4_two_2 := dk_seg dksX4_two_1 119 rfl rfl
theorem dksX4_two_3 : cX4_two.data.toList.drop 144 = dktX4_two_3 := dk_seg dksX4_two_2 24 rfl rfl
theorem dksX4_two_4 : cX4_two.data.toList.drop 168 = dktX4_two_4 := dk_seg dksX4_two_3 24 rfl rfl
theorem dksX4_two_5 : cX4_two.data.toList.drop 190 = dktX4_two_5 := dk_seg dksX4_two_4 22 rfl rfl
theorem dksX4_two_6 : cX4_two.data.toList.drop 212 = dktX4_two_6 := dk_seg dksX4_two_5 22 rfl rfl
theorem dX4_two_0 : decode cX4_two 0 = .ok (.iload_n 0, 1) := dk_26 (dk_at dksX4_two_0 0 rfl rfl)
theorem dX4_two_1 : decode cX4_two 1 = .ok (.tableswitch 202 37 62 #[143, 188, 202, 202, 202, 127, 119, 202, 123, 202, 131, 202, 202, 202, 202, 202, 202, 202, 202, 202, 202, 202, 202, 155, 177, 166], 119) := by decide +kernel
theorem dX4_two_120 : decode cX4_two 120 = .ok (.iload_n 1, 1) := dk_27 (dk_at dksX4_two_2 0 rfl rfl)
theorem dX4_two_121 : decode cX4_two 121 = .ok (.iload_n 2, 1) := dk_28 (dk_at dksX4_two_2 1 rfl rfl)
theorem dX4_two_122 : decode cX4_two 122 = .ok (.iadd, 1) := dk_96 (dk_at dksX4_two_2 2 rfl rfl)
theorem dX4_two_123 : decode cX4_two 123 = .ok (.ireturn, 1) := dk_172 (dk_at dksX4_two_2 3 rfl rfl)
theorem dX4_two_124 : decode cX4_two 124 = .ok (.iload_n 1, 1) := dk_27 (dk_at dksX4_two_2 4 rfl rfl)
theorem dX4_two_125 : decode cX4_two 125 = .ok (.iload_n 2, 1) := dk_28 (dk_at dksX4_two_2 5 rfl rfl)
theorem dX4_two_126 : decode cX4_two 126 = .ok (.isub, 1) := dk_100 (dk_at dksX4_two_2 6 rfl rfl)
theorem dX4_two_127 : decode cX4_two 127 = .ok (.ireturn, 1) := dk_172 (dk_at dksX4_two_2 7 rfl rfl)
theorem dX4_two_128 : decode cX4_two 128 = .ok (.iload_n 1, 1) := dk_27 (dk_at dksX4_two_2 8 rfl rfl)
theorem dX4_two_129 : decode cX4_two 129 = .ok (.iload_n 2, 1) := dk_28 (dk_at dksX4_two_2 9 rfl rfl)
theorem dX4_two_130 : decode cX4_two 130 = .ok (.imul, 1) := dk_104 (dk_at dksX4_two_2 10 rfl rfl)
theorem dX4_two_131 : decode cX4_two 131 = .ok (.ireturn, 1) := dk_172 (dk_at dksX4_two_2 11 rfl rfl)
theorem dX4_two_132 : decode cX4_two 132 = .ok (.iload_n 2, 1) := dk_28 (dk_at dksX4_two_2 12 rfl rfl)
theorem dX4_two_133 : decode cX4_two 133 = .ok (.ifCond .ne 7, 3) := dk_154 0 7 (dk_at dksX4_two_2 13 rfl rfl)
theorem dX4_two_136 : decode cX4_two 136 = .ok (.iconst 0, 1) := dk_3 (dk_at dksX4_two_2 16 rfl rfl)
theorem dX4_two_137 : decode cX4_two 137 = .ok (.goto 6, 3) := dk_167 0 6 (dk_at dksX4_two_2 17 rfl rfl)
theorem dX4_two_140 : decode cX4_two 140 = .ok (.iload_n 1, 1) := dk_27 (dk_at dksX4_two_2 20 rfl rfl)
theorem dX4_two_141 : decode cX4_two 141 = .ok (.iload_n 2, 1) := dk_28 (dk_at dksX4_two_2 21 rfl rfl)
theorem dX4_two_142 : decode cX4_two 142 = .ok (.idiv, 1) := dk_108 (dk_at dksX4_two_2 22 rfl rfl)
theorem dX4_two_143 : decode cX4_two 143 = .ok (.ireturn, 1) := dk_172 (dk_at dksX4_two_2 23 rfl rfl)
theorem dX4_two_144 : decode cX4_two 144 = .ok (.iload_n 2, 1) := dk_28 (dk_at dksX4_two_3 0 rfl rfl)
theorem dX4_two_145 : decode cX4_two 145 = .ok (.ifCond .ne 7, 3) := dk_154 0 7 (dk_at dksX4_two_3 1 rfl rfl)
theorem dX4_two_148 : decode cX4_two 148 = .ok (.iconst 0, 1) := dk_3 (dk_at dksX4_two_3 4 rfl rfl)
theorem dX4_two_149 : decode cX4_two 149 = .ok (.goto 6, 3) := dk_167 0 6 (dk_at dksX4_two_3 5 rfl rfl)
theorem dX4_two_152 : decode cX4_two 152 = .ok (.iload_n 1, 1) := dk_27 (dk_at dksX4_two_3 8 rfl rfl)
theorem dX4_two_153 : decode cX4_two 153 = .ok (.iload_n 2, 1) := dk_28 (dk_at dksX4_two_3 9 rfl rfl)
theorem dX4_two_154 : decode cX4_two 154 = .ok (.irem, 1) := dk_112 (dk_at dksX4_two_3 10 rfl rfl)
theorem dX4_two_155 : decode cX4_two 155 = .ok (.ireturn, 1) := dk_172 (dk_at dksX4_two_3 11 rfl rfl)
theorem dX4_two_156 : decode cX4_two 156 = .ok (.iload_n 1, 1) := dk_27 (dk_at dksX4_two_3 12 rfl rfl)
theorem dX4_two_157 : decode cX4_two 157 = .ok (.iload_n 2, 1) := dk_28 (dk_at dksX4_two_3 13 rfl rfl)
theorem dX4_two_158 : decode cX4_two 158 = .ok (.if_icmp .ge 7, 3) := dk_162 0 7 (dk_at dksX4_two_3 14 rfl rfl)
theorem dX4_two_161 : decode cX4_two 161 = .ok (.iconst 1, 1) := dk_4 (dk_at dksX4_two_3 17 rfl rfl)
theorem dX4_two_162 : decode cX4_two 162 = .ok (.goto 4, 3) := dk_167 0 4 (dk_at dksX4_two_3 18 rfl rfl)
theorem dX4_two_165 : decode cX4_two 165 = .ok (.iconst 0, 1) := dk_3 (dk_at dksX4_two_3 21 rfl rfl)
theorem dX4_two_166 : decode cX4_two 166 = .ok (.ireturn, 1) := dk_172 (dk_at dksX4_two_3 22 rfl rfl)
theorem dX4_two_167 : decode cX4_two 167 = .ok (.iload_n 1, 1) := dk_27 (dk_at dksX4_two_3 23 rfl rfl)
theorem dX4_two_168 : decode cX4_two 168 = .ok (.iload_n 2, 1) := dk_28 (dk_at dksX4_two_4 0 rfl rfl)
theorem dX4_two_169 : decode cX4_two 169 = .ok (.if_icmp .le 7, 3) := dk_164 0 7 (dk_at dksX4_two_4 1 rfl rfl)
theorem dX4_two_172 : decode cX4_two 172 = .ok (.iconst 1, 1) := dk_4 (dk_at dksX4_two_4 4 rfl rfl)
theorem dX4_two_173 : decode cX4_two 173 = .ok (.goto 4, 3) := dk_167 0 4 (dk_at dksX4_two_4 5 rfl rfl)
theorem dX4_two_176 : decode cX4_two 176 = .ok (.iconst 0, 1) := dk_3 (dk_at dksX4_two_4 8 rfl rfl)
theorem dX4_two_177 : decode cX4_two 177 = .ok (.ireturn, 1) := dk_172 (dk_at dksX4_two_4 9 rfl rfl)
theorem dX4_two_178 : decode cX4_two 178 = .ok (.iload_n 1, 1) := dk_27 (dk_at dksX4_two_4 10 rfl rfl)
theorem dX4_two_179 : decode cX4_two 179 = .ok (.iload_n 2, 1) := dk_28 (dk_at dksX4_two_4 11 rfl rfl)
theorem dX4_two_180 : decode cX4_two 180 = .ok (.if_icmp .ne 7, 3) := dk_160 0 7 (dk_at dksX4_two_4 12 rfl rfl)
theorem dX4_two_183 : decode cX4_two 183 = .ok (.iconst 1, 1) := dk_4 (dk_at dksX4_two_4 15 rfl rfl)
theorem dX4_two_184 : decode cX4_two 184 = .ok (.goto 4, 3) := dk_167 0 4 (dk_at dksX4_two_4 16 rfl rfl)
theorem dX4_two_187 : decode cX4_two 187 = .ok (.iconst 0, 1) := dk_3 (dk_at dksX4_two_4 19 rfl rfl)
theorem dX4_two_188 : decode cX4_two 188 = .ok (.ireturn, 1) := dk_172 (dk_at dksX4_two_4 20 rfl rfl)
theorem dX4_two_189 : decode cX4_two 189 = .ok (.iload_n 1, 1) := dk_27 (dk_at dksX4_two_4 21 rfl rfl)
theorem dX4_two_190 : decode cX4_two 190 = .ok (.ifCond .eq 11, 3) := dk_153 0 11 (dk_at dksX4_two_5 0 rfl rfl)
theorem dX4_two_193 : decode cX4_two 193 = .ok (.iload_n 2, 1) := dk_28 (dk_at dksX4_two_5 3 rfl rfl)
theorem dX4_two_194 : decode cX4_two 194 = .ok (.ifCond .eq 7, 3) := dk_153 0 7 (dk_at dksX4_two_5 4 rfl rfl)
theorem dX4_two_197 : decode cX4_two 197 = .ok (.iconst 1, 1) := dk_4 (dk_at dksX4_two_5 7 rfl rfl)
theorem dX4_two_198 : decode cX4_two 198 = .ok (.goto 4, 3) := dk_167 0 4 (dk_at dksX4_two_5 8 rfl rfl)
theorem dX4_two_201 : decode cX4_two 201 = .ok (.iconst 0, 1) := dk_3 (dk_at dksX4_two_5 11 rfl rfl)
theorem dX4_two_202 : decode cX4_two 202 = .ok (.ireturn, 1) := dk_172 (dk_at dksX4_two_5 12 rfl rfl)
theorem dX4_two_203 : decode cX4_two 203 = .ok (.iload_n 1, 1) := dk_27 (dk_at dksX4_two_5 13 rfl rfl)
theorem dX4_two_204 : decode cX4_two 204 = .ok (.ifCond .ne 7, 3) := dk_154 0 7 (dk_at dksX4_two_5 14 rfl rfl)
theorem dX4_two_207 : decode cX4_two 207 = .ok (.iload_n 2, 1) := dk_28 (dk_at dksX4_two_5 17 rfl rfl)
theorem dX4_two_208 : decode cX4_two 208 = .ok (.ifCond .eq 7, 3) := dk_153 0 7 (dk_at dksX4_two_5 18 rfl rfl)
theorem dX4_two_211 : decode cX4_two 211 = .ok (.iconst 1, 1) := dk_4 (dk_at dksX4_two_5 21 rfl rfl)
theorem dX4_two_212 : decode cX4_two 212 = .ok (.goto 4, 3) := dk_167 0 4 (dk_at dksX4_two_6 0 rfl rfl)
theorem dX4_two_215 : decode cX4_two 215 = .ok (.iconst 0, 1) := dk_3 (dk_at dksX4_two_6 3 rfl rfl)
theorem dX4_two_216 : decode cX4_two 216 = .ok (.ireturn, 1) := dk_172 (dk_at dksX4_two_6 4 rfl rfl)
abbrev cX4_keeps : ByteArray := prog_23_method_72_code
def yX4_keeps : MethodName := ⟨RX4, "keeps", "(II)I"⟩
def dkwX4_keeps_1 : List UInt8 := [182, 1, 163, 126, 42, 182, 1, 160, 126, 182, 1, 92, 167, 0, 4, 2, 172]
abbrev dktX4_keeps_1 : List UInt8 := dkwX4_keeps_1 ++ []
def dkwX4_keeps_0 : List UInt8 := [42, 27, 182, 1, 154, 153, 0, 34, 42, 28, 182, 1, 154, 153, 0, 26, 42, 42, 27, 182, 1, 157, 42, 28]
abbrev dktX4_keeps_0 : List UInt8 := dkwX4_keeps_0 ++ dktX4_keeps_1
theorem dksX4_keeps_0 : cX4_keeps.data.toList.drop 0 = dktX4_keeps_0 := by decide +kernel
theorem dksX4_keeps_1 : cX4_keeps.data.toList.drop 24 = dktX4_keeps_1 := dk_seg dksX4_keeps_0 24 rfl rfl
theorem dX4_keeps_0 : decode cX4_keeps 0 = .ok (.aload_n 0, 1) := dk_42 (dk_at dksX4_keeps_0 0 rfl rfl)
theorem dX4_keeps_1 : decode cX4_keeps 1 = .ok (.iload_n 1, 1) := dk_27 (dk_at dksX4_keeps_0 1 rfl rfl)
theorem dX4_keeps_2 : decode cX4_keeps 2 = .ok (.invokevirtual 410, 3) := dk_182 1 154 (dk_at dksX4_keeps_0 2 rfl rfl)
theorem dX4_keeps_5 : decode cX4_keeps 5 = .ok (.ifCond .eq 34, 3) := dk_153 0 34 (dk_at dksX4_keeps_0 5 rfl rfl)
theorem dX4_keeps_8 : decode cX4_keeps 8 = .ok (.aload_n 0, 1) := dk_42 (dk_at dksX4_keeps_0 8 rfl rfl)
theorem dX4_keeps_9 : decode cX4_keeps 9 = .ok (.iload_n 2, 1) := dk_28 (dk_at dksX4_keeps_0 9 rfl rfl)
theorem dX4_keeps_10 : decode cX4_keeps 10 = .ok (.invokevirtual 410, 3) := dk_182 1 154 (dk_at dksX4_keeps_0 10 rfl rfl)
theorem dX4_keeps_13 : decode cX4_keeps 13 = .ok (.ifCond .eq 26, 3) := dk_153 0 26 (dk_at dksX4_keeps_0 13 rfl rfl)
theorem dX4_keeps_16 : decode cX4_keeps 16 = .ok (.aload_n 0, 1) := dk_42 (dk_at dksX4_keeps_0 16 rfl rfl)
theorem dX4_keeps_17 : decode cX4_keeps 17 = .ok (.aload_n 0, 1) := dk_42 (dk_at dksX4_keeps_0 17 rfl rfl)
theorem dX4_keeps_18 : decode cX4_keeps 18 = .ok (.iload_n 1, 1) := dk_27 (dk_at dksX4_keeps_0 18 rfl rfl)
theorem dX4_keeps_19 : decode cX4_keeps 19 = .ok (.invokevirtual 413, 3) := dk_182 1 157 (dk_at dksX4_keeps_0 19 rfl rfl)
theorem dX4_keeps_22 : decode cX4_keeps 22 = .ok (.aload_n 0, 1) := dk_42 (dk_at dksX4_keeps_0 22 rfl rfl)
theorem dX4_keeps_23 : decode cX4_keeps 23 = .ok (.iload_n 2, 1) := dk_28 (dk_at dksX4_keeps_0 23 rfl rfl)
theorem dX4_keeps_24 : decode cX4_keeps 24 = .ok (.invokevirtual 419, 3) := dk_182 1 163 (dk_at dksX4_keeps_1 0 rfl rfl)
theorem dX4_keeps_27 : decode cX4_keeps 27 = .ok (.iand, 1) := dk_126 (dk_at dksX4_keeps_1 3 rfl rfl)
theorem dX4_keeps_28 : decode cX4_keeps 28 = .ok (.aload_n 0, 1) := dk_42 (dk_at dksX4_keeps_1 4 rfl rfl)
theorem dX4_keeps_29 : decode cX4_keeps 29 = .ok (.invokevirtual 416, 3) := dk_182 1 160 (dk_at dksX4_keeps_1 5 rfl rfl)
theorem dX4_keeps_32 : decode cX4_keeps 32 = .ok (.iand, 1) := dk_126 (dk_at dksX4_keeps_1 8 rfl rfl)
theorem dX4_keeps_33 : decode cX4_keeps 33 = .ok (.invokevirtual 348, 3) := dk_182 1 92 (dk_at dksX4_keeps_1 9 rfl rfl)
theorem dX4_keeps_36 : decode cX4_keeps 36 = .ok (.goto 4, 3) := dk_167 0 4 (dk_at dksX4_keeps_1 12 rfl rfl)
theorem dX4_keeps_39 : decode cX4_keeps 39 = .ok (.iconst (-1), 1) := dk_2 (dk_at dksX4_keeps_1 15 rfl rfl)
theorem dX4_keeps_40 : decode cX4_keeps 40 = .ok (.ireturn, 1) := dk_172 (dk_at dksX4_keeps_1 16 rfl rfl)
abbrev cX4_dupe : ByteArray := prog_23_method_73_code
def yX4_dupe : MethodName := ⟨RX4, "dupe", "()I"⟩
def dkwX4_dupe_2 : List UInt8 := [28, 60, 132, 2, 1, 167, 255, 208, 27, 172]
abbrev dktX4_dupe_2 : List UInt8 := dkwX4_dupe_2 ++ []
def dkwX4_dupe_1 : List UInt8 := [182, 1, 160, 126, 182, 1, 92, 42, 42, 27, 182, 1, 163, 42, 182, 1, 160, 126, 182, 1, 92, 164, 0, 5]
abbrev dktX4_dupe_1 : List UInt8 := dkwX4_dupe_1 ++ dktX4_dupe_2
def dkwX4_dupe_0 : List UInt8 := [2, 60, 3, 61, 28, 42, 182, 1, 102, 162, 0, 46, 27, 155, 0, 34, 42, 42, 28, 182, 1, 163, 42]
abbrev dktX4_dupe_0 : List UInt8 := dkwX4_dupe_0 ++ dktX4_dupe_1
theorem dksX4_dupe_0 : cX4_dupe.data.toList.drop 0 = dktX4_dupe_0 := by decide +kernel
theorem dksX4_dupe_1 : cX4_dupe.data.toList.drop 23 = dktX4_dupe_1 := dk_seg dksX4_dupe_0 23 rfl rfl
theorem dksX4_dupe_2 : cX4_dupe.data.toList.drop 47 = dktX4_dupe_2 := dk_seg dksX4_dupe_1 24 rfl rfl
theorem dX4_dupe_0 : decode cX4_dupe 0 = .ok (.iconst (-1), 1) := dk_2 (dk_at dksX4_dupe_0 0 rfl rfl)
theorem dX4_dupe_1 : decode cX4_dupe 1 = .ok (.istore_n 1, 1) := dk_60 (dk_at dksX4_dupe_0 1 rfl rfl)
theorem dX4_dupe_2 : decode cX4_dupe 2 = .ok (.iconst 0, 1) := dk_3 (dk_at dksX4_dupe_0 2 rfl rfl)
theorem dX4_dupe_3 : decode cX4_dupe 3 = .ok (.istore_n 2, 1) := dk_61 (dk_at dksX4_dupe_0 3 rfl rfl)
theorem dX4_dupe_4 : decode cX4_dupe 4 = .ok (.iload_n 2, 1) := dk_28 (dk_at dksX4_dupe_0 4 rfl rfl)
theorem dX4_dupe_5 : decode cX4_dupe 5 = .ok (.aload_n 0, 1) := dk_42 (dk_at dksX4_dupe_0 5 rfl rfl)
theorem dX4_dupe_6 : decode cX4_dupe 6 = .ok (.invokevirtual 358, 3) := dk_182 1 102 (dk_at dksX4_dupe_0 6 rfl rfl)
theorem dX4_dupe_9 : decode cX4_dupe 9 = .ok (.if_icmp .ge 46, 3) := dk_162 0 46 (dk_at dksX4_dupe_0 9 rfl rfl)
theorem dX4_dupe_12 : decode cX4_dupe 12 = .ok (.iload_n 1, 1) := dk_27 (dk_at dksX4_dupe_0 12 rfl rfl)
theorem dX4_dupe_13 : decode cX4_dupe 13 = .ok (.ifCond .lt 34, 3) := dk_155 0 34 (dk_at dksX4_dupe_0 13 rfl rfl)
theorem dX4_dupe_16 : decode cX4_dupe 16 = .ok (.aload_n 0, 1) := dk_42 (dk_at dksX4_dupe_0 16 rfl rfl)
theorem dX4_dupe_17 : decode cX4_dupe 17 = .ok (.aload_n 0, 1) := dk_42 (dk_at dksX4_dupe_0 17 rfl rfl)
theorem dX4_dupe_18 : decode cX4_dupe 18 = .ok (.iload_n 2, 1) := dk_28 (dk_at dksX4_dupe_0 18 rfl rfl)
theorem dX4_dupe_19 : decode cX4_dupe 19 = .ok (.invokevirtual 419, 3) := dk_182 1 163 (dk_at dksX4_dupe_0 19 rfl rfl)
theorem dX4_dupe_22 : decode cX4_dupe 22 = .ok (.aload_n 0, 1) := dk_42 (dk_at dksX4_dupe_0 22 rfl rfl)
theorem dX4_dupe_23 : decode cX4_dupe 23 = .ok (.invokevirtual 416, 3) := dk_182 1 160 (dk_at dksX4_dupe_1 0 rfl rfl)
theorem dX4_dupe_26 : decode cX4_dupe 26 = .ok (.iand, 1) := dk_126 (dk_at dksX4_dupe_1 3 rfl rfl)
theorem dX4_dupe_27 : decode cX4_dupe 27 = .ok (.invokevirtual 348, 3) := dk_182 1 92 (dk_at dksX4_dupe_1 4 rfl rfl)
theorem dX4_dupe_30 : decode cX4_dupe 30 = .ok (.aload_n 0, 1) := dk_42 (dk_at dksX4_dupe_1 7 rfl rfl)
theorem dX4_dupe_31 : decode cX4_dupe 31 = .ok (.aload_n 0, 1) := dk_42 (dk_at dksX4_dupe_1 8 rfl rfl)
theorem dX4_dupe_32 : decode cX4_dupe 32 = .ok (.iload_n 1, 1) := dk_27 (dk_at dksX4_dupe_1 9 rfl rfl)
theorem dX4_dupe_33 : decode cX4_dupe 33 = .ok (.invokevirtual 419, 3) := dk_182 1 163 (dk_at dksX4_dupe_1 10 rfl rfl)
theorem dX4_dupe_36 : decode cX4_dupe 36 = .ok (.aload_n 0, 1) := dk_42 (dk_at dksX4_dupe_1 13 rfl rfl)
theorem dX4_dupe_37 : decode cX4_dupe 37 = .ok (.invokevirtual 416, 3) := dk_182 1 160 (dk_at dksX4_dupe_1 14 rfl rfl)
theorem dX4_dupe_40 : decode cX4_dupe 40 = .ok (.iand, 1) := dk_126 (dk_at dksX4_dupe_1 17 rfl rfl)
theorem dX4_dupe_41 : decode cX4_dupe 41 = .ok (.invokevirtual 348, 3) := dk_182 1 92 (dk_at dksX4_dupe_1 18 rfl rfl)
theorem dX4_dupe_44 : decode cX4_dupe 44 = .ok (.if_icmp .le 5, 3) := dk_164 0 5 (dk_at dksX4_dupe_1 21 rfl rfl)
theorem dX4_dupe_47 : decode cX4_dupe 47 = .ok (.iload_n 2, 1) := dk_28 (dk_at dksX4_dupe_2 0 rfl rfl)
theorem dX4_dupe_48 : decode cX4_dupe 48 = .ok (.istore_n 1, 1) := dk_60 (dk_at dksX4_dupe_2 1 rfl rfl)
theorem dX4_dupe_49 : decode cX4_dupe 49 = .ok (.iinc 2 1, 3) := dk_132 2 1 (dk_at dksX4_dupe_2 2 rfl rfl)
theorem dX4_dupe_52 : decode cX4_dupe 52 = .ok (.goto (-48), 3) := dk_167 255 208 (dk_at dksX4_dupe_2 5 rfl rfl)
theorem dX4_dupe_55 : decode cX4_dupe 55 = .ok (.iload_n 1, 1) := dk_27 (dk_at dksX4_dupe_2 8 rfl rfl)
theorem dX4_dupe_56 : decode cX4_dupe 56 = .ok (.ireturn, 1) := dk_172 (dk_at dksX4_dupe_2 9 rfl rfl)
abbrev cX4_closest : ByteArray := prog_23_method_74_code
def yX4_closest : MethodName := ⟨RX4, "closest", "()I"⟩
def dkwX4_closest_2 : List UInt8 := [60, 132, 2, 1, 167, 255, 210, 27, 172]
abbrev dktX4_closest_2 : List UInt8 := dkwX4_closest_2 ++ []
def dkwX4_closest_1 : List UInt8 := [182, 1, 160, 126, 184, 1, 83, 42, 27, 182, 1, 157, 42, 182, 1, 160, 126, 184, 1, 83, 164, 0, 5, 28]
abbrev dktX4_closest_1 : List UInt8 := dkwX4_closest_1 ++ dktX4_closest_2
def dkwX4_closest_0 : List UInt8 := [2, 60, 3, 61, 28, 42, 182, 1, 102, 162, 0, 44, 27, 155, 0, 32, 42, 28, 182, 1, 157, 42]
abbrev dktX4_closest_0 : List UInt8 := dkwX4_closest_0 ++ dktX4_closest_1
theorem dksX4_closest_0 : cX4_closest.data.toList.drop 0 = dktX4_closest_0 := by decide +kernel
theorem dksX4_closest_1 : cX4_closest.data.toList.drop 22 = dktX4_closest_1 := dk_seg dksX4_closest_0 22 rfl rfl
theorem dksX4_closest_2 : cX4_closest.data.toList.drop 46 = dktX4_closest_2 := dk_seg dksX4_closest_1 24 rfl rfl
theorem dX4_closest_0 : decode cX4_closest 0 = .ok (.iconst (-1), 1) := dk_2 (dk_at dksX4_closest_0 0 rfl rfl)
theorem dX4_closest_1 : decode cX4_closest 1 = .ok (.istore_n 1, 1) := dk_60 (dk_at dksX4_closest_0 1 rfl rfl)
theorem dX4_closest_2 : decode cX4_closest 2 = .ok (.iconst 0, 1) := dk_3 (dk_at dksX4_closest_0 2 rfl rfl)
theorem dX4_closest_3 : decode cX4_closest 3 = .ok (.istore_n 2, 1) := dk_61 (dk_at dksX4_closest_0 3 rfl rfl)
theorem dX4_closest_4 : decode cX4_closest 4 = .ok (.iload_n 2, 1) := dk_28 (dk_at dksX4_closest_0 4 rfl rfl)
theorem dX4_closest_5 : decode cX4_closest 5 = .ok (.aload_n 0, 1) := dk_42 (dk_at dksX4_closest_0 5 rfl rfl)
theorem dX4_closest_6 : decode cX4_closest 6 = .ok (.invokevirtual 358, 3) := dk_182 1 102 (dk_at dksX4_closest_0 6 rfl rfl)
theorem dX4_closest_9 : decode cX4_closest 9 = .ok (.if_icmp .ge 44, 3) := dk_162 0 44 (dk_at dksX4_closest_0 9 rfl rfl)
theorem dX4_closest_12 : decode cX4_closest 12 = .ok (.iload_n 1, 1) := dk_27 (dk_at dksX4_closest_0 12 rfl rfl)
theorem dX4_closest_13 : decode cX4_closest 13 = .ok (.ifCond .lt 32, 3) := dk_155 0 32 (dk_at dksX4_closest_0 13 rfl rfl)
theorem dX4_closest_16 : decode cX4_closest 16 = .ok (.aload_n 0, 1) := dk_42 (dk_at dksX4_closest_0 16 rfl rfl)
theorem dX4_closest_17 : decode cX4_closest 17 = .ok (.iload_n 2, 1) := dk_28 (dk_at dksX4_closest_0 17 rfl rfl)
theorem dX4_closest_18 : decode cX4_closest 18 = .ok (.invokevirtual 413, 3) := dk_182 1 157 (dk_at dksX4_closest_0 18 rfl rfl)
theorem dX4_closest_21 : decode cX4_closest 21 = .ok (.aload_n 0, 1) := dk_42 (dk_at dksX4_closest_0 21 rfl rfl)
theorem dX4_closest_22 : decode cX4_closest 22 = .ok (.invokevirtual 416, 3) := dk_182 1 160 (dk_at dksX4_closest_1 0 rfl rfl)
theorem dX4_closest_25 : decode cX4_closest 25 = .ok (.iand, 1) := dk_126 (dk_at dksX4_closest_1 3 rfl rfl)
theorem dX4_closest_26 : decode cX4_closest 26 = .ok (.invokestatic 339, 3) := dk_184 1 83 (dk_at dksX4_closest_1 4 rfl rfl)
theorem dX4_closest_29 : decode cX4_closest 29 = .ok (.aload_n 0, 1) := dk_42 (dk_at dksX4_closest_1 7 rfl rfl)
theorem dX4_closest_30 : decode cX4_closest 30 = .ok (.iload_n 1, 1) := dk_27 (dk_at dksX4_closest_1 8 rfl rfl)
theorem dX4_closest_31 : decode cX4_closest 31 = .ok (.invokevirtual 413, 3) := dk_182 1 157 (dk_at dksX4_closest_1 9 rfl rfl)
theorem dX4_closest_34 : decode cX4_closest 34 = .ok (.aload_n 0, 1) := dk_42 (dk_at dksX4_closest_1 12 rfl rfl)
theorem dX4_closest_35 : decode cX4_closest 35 = .ok (.invokevirtual 416, 3) := dk_182 1 160 (dk_at dksX4_closest_1 13 rfl rfl)
theorem dX4_closest_38 : decode cX4_closest 38 = .ok (.iand, 1) := dk_126 (dk_at dksX4_closest_1 16 rfl rfl)
theorem dX4_closest_39 : decode cX4_closest 39 = .ok (.invokestatic 339, 3) := dk_184 1 83 (dk_at dksX4_closest_1 17 rfl rfl)
theorem dX4_closest_42 : decode cX4_closest 42 = .ok (.if_icmp .le 5, 3) := dk_164 0 5 (dk_at dksX4_closest_1 20 rfl rfl)
theorem dX4_closest_45 : decode cX4_closest 45 = .ok (.iload_n 2, 1) := dk_28 (dk_at dksX4_closest_1 23 rfl rfl)
theorem dX4_closest_46 : decode cX4_closest 46 = .ok (.istore_n 1, 1) := dk_60 (dk_at dksX4_closest_2 0 rfl rfl)
theorem dX4_closest_47 : decode cX4_closest 47 = .ok (.iinc 2 1, 3) := dk_132 2 1 (dk_at dksX4_closest_2 1 rfl rfl)
theorem dX4_closest_50 : decode cX4_closest 50 = .ok (.goto (-46), 3) := dk_167 255 210 (dk_at dksX4_closest_2 4 rfl rfl)
theorem dX4_closest_53 : decode cX4_closest 53 = .ok (.iload_n 1, 1) := dk_27 (dk_at dksX4_closest_2 7 rfl rfl)
theorem dX4_closest_54 : decode cX4_closest 54 = .ok (.ireturn, 1) := dk_172 (dk_at dksX4_closest_2 8 rfl rfl)
abbrev cX4_hottest : ByteArray := prog_23_method_75_code
def yX4_hottest : MethodName := ⟨RX4, "hottest", "()I"⟩
def dkwX4_hottest_2 : List UInt8 := [172]
abbrev dktX4_hottest_2 : List UInt8 := dkwX4_hottest_2 ++ []
def dkwX4_hottest_1 : List UInt8 := [182, 1, 92, 42, 42, 27, 182, 1, 89, 182, 1, 92, 164, 0, 5, 28, 60, 132, 2, 1, 167, 255, 218, 27]
abbrev dktX4_hottest_1 : List UInt8 := dkwX4_hottest_1 ++ dktX4_hottest_2
def dkwX4_hottest_0 : List UInt8 := [2, 60, 3, 61, 28, 42, 182, 1, 109, 162, 0, 36, 27, 155, 0, 24, 42, 42, 28, 182, 1, 89]
abbrev dktX4_hottest_0 : List UInt8 := dkwX4_hottest_0 ++ dktX4_hottest_1
theorem dksX4_hottest_0 : cX4_hottest.data.toList.drop 0 = dktX4_hottest_0 := by decide +kernel
theorem dksX4_hottest_1 : cX4_hottest.data.toList.drop 22 = dktX4_hottest_1 := dk_seg dksX4_hottest_0 22 rfl rfl
theorem dksX4_hottest_2 : cX4_hottest.data.toList.drop 46 = dktX4_hottest_2 := dk_seg dksX4_hottest_1 24 rfl rfl
theorem dX4_hottest_0 : decode cX4_hottest 0 = .ok (.iconst (-1), 1) := dk_2 (dk_at dksX4_hottest_0 0 rfl rfl)
theorem dX4_hottest_1 : decode cX4_hottest 1 = .ok (.istore_n 1, 1) := dk_60 (dk_at dksX4_hottest_0 1 rfl rfl)
theorem dX4_hottest_2 : decode cX4_hottest 2 = .ok (.iconst 0, 1) := dk_3 (dk_at dksX4_hottest_0 2 rfl rfl)
theorem dX4_hottest_3 : decode cX4_hottest 3 = .ok (.istore_n 2, 1) := dk_61 (dk_at dksX4_hottest_0 3 rfl rfl)
theorem dX4_hottest_4 : decode cX4_hottest 4 = .ok (.iload_n 2, 1) := dk_28 (dk_at dksX4_hottest_0 4 rfl rfl)
theorem dX4_hottest_5 : decode cX4_hottest 5 = .ok (.aload_n 0, 1) := dk_42 (dk_at dksX4_hottest_0 5 rfl rfl)
theorem dX4_hottest_6 : decode cX4_hottest 6 = .ok (.invokevirtual 365, 3) := dk_182 1 109 (dk_at dksX4_hottest_0 6 rfl rfl)
theorem dX4_hottest_9 : decode cX4_hottest 9 = .ok (.if_icmp .ge 36, 3) := dk_162 0 36 (dk_at dksX4_hottest_0 9 rfl rfl)
theorem dX4_hottest_12 : decode cX4_hottest 12 = .ok (.iload_n 1, 1) := dk_27 (dk_at dksX4_hottest_0 12 rfl rfl)
theorem dX4_hottest_13 : decode cX4_hottest 13 = .ok (.ifCond .lt 24, 3) := dk_155 0 24 (dk_at dksX4_hottest_0 13 rfl rfl)
theorem dX4_hottest_16 : decode cX4_hottest 16 = .ok (.aload_n 0, 1) := dk_42 (dk_at dksX4_hottest_0 16 rfl rfl)
theorem dX4_hottest_17 : decode cX4_hottest 17 = .ok (.aload_n 0, 1) := dk_42 (dk_at dksX4_hottest_0 17 rfl rfl)
theorem dX4_hottest_18 : decode cX4_hottest 18 = .ok (.iload_n 2, 1) := dk_28 (dk_at dksX4_hottest_0 18 rfl rfl)
theorem dX4_hottest_19 : decode cX4_hottest 19 = .ok (.invokevirtual 345, 3) := dk_182 1 89 (dk_at dksX4_hottest_0 19 rfl rfl)
theorem dX4_hottest_22 : decode cX4_hottest 22 = .ok (.invokevirtual 348, 3) := dk_182 1 92 (dk_at dksX4_hottest_1 0 rfl rfl)
theorem dX4_hottest_25 : decode cX4_hottest 25 = .ok (.aload_n 0, 1) := dk_42 (dk_at dksX4_hottest_1 3 rfl rfl)
theorem dX4_hottest_26 : decode cX4_hottest 26 = .ok (.aload_n 0, 1) := dk_42 (dk_at dksX4_hottest_1 4 rfl rfl)
theorem dX4_hottest_27 : decode cX4_hottest 27 = .ok (.iload_n 1, 1) := dk_27 (dk_at dksX4_hottest_1 5 rfl rfl)
theorem dX4_hottest_28 : decode cX4_hottest 28 = .ok (.invokevirtual 345, 3) := dk_182 1 89 (dk_at dksX4_hottest_1 6 rfl rfl)
theorem dX4_hottest_31 : decode cX4_hottest 31 = .ok (.invokevirtual 348, 3) := dk_182 1 92 (dk_at dksX4_hottest_1 9 rfl rfl)
theorem dX4_hottest_34 : decode cX4_hottest 34 = .ok (.if_icmp .le 5, 3) := dk_164 0 5 (dk_at dksX4_hottest_1 12 rfl rfl)
theorem dX4_hottest_37 : decode cX4_hottest 37 = .ok (.iload_n 2, 1) := dk_28 (dk_at dksX4_hottest_1 15 rfl rfl)
theorem dX4_hottest_38 : decode cX4_hottest 38 = .ok (.istore_n 1, 1) := dk_60 (dk_at dksX4_hottest_1 16 rfl rfl)
theorem dX4_hottest_39 : decode cX4_hottest 39 = .ok (.iinc 2 1, 3) := dk_132 2 1 (dk_at dksX4_hottest_1 17 rfl rfl)
theorem dX4_hottest_42 : decode cX4_hottest 42 = .ok (.goto (-38), 3) := dk_167 255 218 (dk_at dksX4_hottest_1 20 rfl rfl)
theorem dX4_hottest_45 : decode cX4_hottest 45 = .ok (.iload_n 1, 1) := dk_27 (dk_at dksX4_hottest_1 23 rfl rfl)
theorem dX4_hottest_46 : decode cX4_hottest 46 = .ok (.ireturn, 1) := dk_172 (dk_at dksX4_hottest_2 0 rfl rfl)
abbrev cX4_idle : ByteArray := prog_23_method_76_code
def yX4_idle : MethodName := ⟨RX4, "idle", "()I"⟩
def dkwX4_idle_1 : List UInt8 := [128, 60, 132, 2, 1, 167, 255, 231, 27, 172]
abbrev dktX4_idle_1 : List UInt8 := dkwX4_idle_1 ++ []
def dkwX4_idle_0 : List UInt8 := [3, 60, 3, 61, 28, 42, 182, 1, 109, 162, 0, 23, 42, 28, 182, 1, 151, 154, 0, 9, 27, 4, 28, 120]
abbrev dktX4_idle_0 : List UInt8 := dkwX4_idle_0 ++ dktX4_idle_1
theorem dksX4_idle_0 : cX4_idle.data.toList.drop 0 = dktX4_idle_0 := by decide +kernel
theorem dksX4_idle_1 : cX4_idle.data.toList.drop 24 = dktX4_idle_1 := dk_seg dksX4_idle_0 24 rfl rfl
theorem dX4_idle_0 : decode cX4_idle 0 = .ok (.iconst 0, 1) := dk_3 (dk_at dksX4_idle_0 0 rfl rfl)
theorem dX4_idle_1 : decode cX4_idle 1 = .ok (.istore_n 1, 1) := dk_60 (dk_at dksX4_idle_0 1 rfl rfl)
theorem dX4_idle_2 : decode cX4_idle 2 = .ok (.iconst 0, 1) := dk_3 (dk_at dksX4_idle_0 2 rfl rfl)
theorem dX4_idle_3 : decode cX4_idle 3 = .ok (.istore_n 2, 1) := dk_61 (dk_at dksX4_idle_0 3 rfl rfl)
theorem dX4_idle_4 : decode cX4_idle 4 = .ok (.iload_n 2, 1) := dk_28 (dk_at dksX4_idle_0 4 rfl rfl)
theorem dX4_idle_5 : decode cX4_idle 5 = .ok (.aload_n 0, 1) := dk_42 (dk_at dksX4_idle_0 5 rfl rfl)
theorem dX4_idle_6 : decode cX4_idle 6 = .ok (.invokevirtual 365, 3) := dk_182 1 109 (dk_at dksX4_idle_0 6 rfl rfl)
theorem dX4_idle_9 : decode cX4_idle 9 = .ok (.if_icmp .ge 23, 3) := dk_162 0 23 (dk_at dksX4_idle_0 9 rfl rfl)
theorem dX4_idle_12 : decode cX4_idle 12 = .ok (.aload_n 0, 1) := dk_42 (dk_at dksX4_idle_0 12 rfl rfl)
theorem dX4_idle_13 : decode cX4_idle 13 = .ok (.iload_n 2, 1) := dk_28 (dk_at dksX4_idle_0 13 rfl rfl)
theorem dX4_idle_14 : decode cX4_idle 14 = .ok (.invokevirtual 407, 3) := dk_182 1 151 (dk_at dksX4_idle_0 14 rfl rfl)
theorem dX4_idle_17 : decode cX4_idle 17 = .ok (.ifCond .ne 9, 3) := dk_154 0 9 (dk_at dksX4_idle_0 17 rfl rfl)
theorem dX4_idle_20 : decode cX4_idle 20 = .ok (.iload_n 1, 1) := dk_27 (dk_at dksX4_idle_0 20 rfl rfl)
theorem dX4_idle_21 : decode cX4_idle 21 = .ok (.iconst 1, 1) := dk_4 (dk_at dksX4_idle_0 21 rfl rfl)
theorem dX4_idle_22 : decode cX4_idle 22 = .ok (.iload_n 2, 1) := dk_28 (dk_at dksX4_idle_0 22 rfl rfl)
theorem dX4_idle_23 : decode cX4_idle 23 = .ok (.ishl, 1) := dk_120 (dk_at dksX4_idle_0 23 rfl rfl)
theorem dX4_idle_24 : decode cX4_idle 24 = .ok (.ior, 1) := dk_128 (dk_at dksX4_idle_1 0 rfl rfl)
theorem dX4_idle_25 : decode cX4_idle 25 = .ok (.istore_n 1, 1) := dk_60 (dk_at dksX4_idle_1 1 rfl rfl)
theorem dX4_idle_26 : decode cX4_idle 26 = .ok (.iinc 2 1, 3) := dk_132 2 1 (dk_at dksX4_idle_1 2 rfl rfl)
theorem dX4_idle_29 : decode cX4_idle 29 = .ok (.goto (-25), 3) := dk_167 255 231 (dk_at dksX4_idle_1 5 rfl rfl)
theorem dX4_idle_32 : decode cX4_idle 32 = .ok (.iload_n 1, 1) := dk_27 (dk_at dksX4_idle_1 8 rfl rfl)
theorem dX4_idle_33 : decode cX4_idle 33 = .ok (.ireturn, 1) := dk_172 (dk_at dksX4_idle_1 9 rfl rfl)
abbrev cX4_storm : ByteArray := prog_23_method_77_code
def yX4_storm : MethodName := ⟨RX4, "storm", "()I"⟩
def dkwX4_storm_0 : List UInt8 := [42, 42, 42, 182, 1, 172, 182, 1, 175, 182, 1, 92, 172]
abbrev dktX4_storm_0 : List UInt8 := dkwX4_storm_0 ++ []
theorem dksX4_storm_0 : cX4_storm.data.toList.drop 0 = dktX4_storm_0 := by decide +kernel
theorem dX4_storm_0 : decode cX4_storm 0 = .ok (.aload_n 0, 1) := dk_42 (dk_at dksX4_storm_0 0 rfl rfl)
theorem dX4_storm_1 : decode cX4_storm 1 = .ok (.aload_n 0, 1) := dk_42 (dk_at dksX4_storm_0 1 rfl rfl)
theorem dX4_storm_2 : decode cX4_storm 2 = .ok (.aload_n 0, 1) := dk_42 (dk_at dksX4_storm_0 2 rfl rfl)
theorem dX4_storm_3 : decode cX4_storm 3 = .ok (.invokevirtual 428, 3) := dk_182 1 172 (dk_at dksX4_storm_0 3 rfl rfl)
theorem dX4_storm_6 : decode cX4_storm 6 = .ok (.invokevirtual 431, 3) := dk_182 1 175 (dk_at dksX4_storm_0 6 rfl rfl)
theorem dX4_storm_9 : decode cX4_storm 9 = .ok (.invokevirtual 348, 3) := dk_182 1 92 (dk_at dksX4_storm_0 9 rfl rfl)
theorem dX4_storm_12 : decode cX4_storm 12 = .ok (.ireturn, 1) := dk_172 (dk_at dksX4_storm_0 12 rfl rfl)
abbrev cX4_allSacks : ByteArray := prog_23_method_66_code
def yX4_allSacks : MethodName := ⟨RX4, "allSacks", "()I"⟩
def dkwX4_allSacks_0 : List UInt8 := [4, 42, 182, 1, 109, 120, 4, 100, 172]
abbrev dktX4_allSacks_0 : List UInt8 := dkwX4_allSacks_0 ++ []
theorem dksX4_allSacks_0 : cX4_allSacks.data.toList.drop 0 = dktX4_allSacks_0 := by decide +kernel
theorem dX4_allSacks_0 : decode cX4_allSacks 0 = .ok (.iconst 1, 1) := dk_4 (dk_at dksX4_allSacks_0 0 rfl rfl)
theorem dX4_allSacks_1 : decode cX4_allSacks 1 = .ok (.aload_n 0, 1) := dk_42 (dk_at dksX4_allSacks_0 1 rfl rfl)
theorem dX4_allSacks_2 : decode cX4_allSacks 2 = .ok (.invokevirtual 365, 3) := dk_182 1 109 (dk_at dksX4_allSacks_0 2 rfl rfl)
theorem dX4_allSacks_5 : decode cX4_allSacks 5 = .ok (.ishl, 1) := dk_120 (dk_at dksX4_allSacks_0 5 rfl rfl)
theorem dX4_allSacks_6 : decode cX4_allSacks 6 = .ok (.iconst 1, 1) := dk_4 (dk_at dksX4_allSacks_0 6 rfl rfl)
theorem dX4_allSacks_7 : decode cX4_allSacks 7 = .ok (.isub, 1) := dk_100 (dk_at dksX4_allSacks_0 7 rfl rfl)
theorem dX4_allSacks_8 : decode cX4_allSacks 8 = .ok (.ireturn, 1) := dk_172 (dk_at dksX4_allSacks_0 8 rfl rfl)
abbrev cX4_saidBy : ByteArray := prog_23_method_65_code
def yX4_saidBy : MethodName := ⟨RX4, "saidBy", "(I)I"⟩
def dkwX4_saidBy_1 : List UInt8 := [182, 1, 151, 128, 61, 132, 3, 1, 167, 255, 229, 28, 172]
abbrev dktX4_saidBy_1 : List UInt8 := dkwX4_saidBy_1 ++ []
def dkwX4_saidBy_0 : List UInt8 := [3, 61, 3, 62, 29, 42, 182, 1, 109, 162, 0, 25, 27, 29, 184, 1, 3, 153, 0, 11, 28, 42, 29]
abbrev dktX4_saidBy_0 : List UInt8 := dkwX4_saidBy_0 ++ dktX4_saidBy_1
theorem dksX4_saidBy_0 : cX4_saidBy.data.toList.drop 0 = dktX4_saidBy_0 := by decide +kernel
theorem dksX4_saidBy_1 : cX4_saidBy.data.toList.drop 23 = dktX4_saidBy_1 := dk_seg dksX4_saidBy_0 23 rfl rfl
theorem dX4_saidBy_0 : decode cX4_saidBy 0 = .ok (.iconst 0, 1) := dk_3 (dk_at dksX4_saidBy_0 0 rfl rfl)
theorem dX4_saidBy_1 : decode cX4_saidBy 1 = .ok (.istore_n 2, 1) := dk_61 (dk_at dksX4_saidBy_0 1 rfl rfl)
theorem dX4_saidBy_2 : decode cX4_saidBy 2 = .ok (.iconst 0, 1) := dk_3 (dk_at dksX4_saidBy_0 2 rfl rfl)
theorem dX4_saidBy_3 : decode cX4_saidBy 3 = .ok (.istore_n 3, 1) := dk_62 (dk_at dksX4_saidBy_0 3 rfl rfl)
theorem dX4_saidBy_4 : decode cX4_saidBy 4 = .ok (.iload_n 3, 1) := dk_29 (dk_at dksX4_saidBy_0 4 rfl rfl)
theorem dX4_saidBy_5 : decode cX4_saidBy 5 = .ok (.aload_n 0, 1) := dk_42 (dk_at dksX4_saidBy_0 5 rfl rfl)
theorem dX4_saidBy_6 : decode cX4_saidBy 6 = .ok (.invokevirtual 365, 3) := dk_182 1 109 (dk_at dksX4_saidBy_0 6 rfl rfl)
theorem dX4_saidBy_9 : decode cX4_saidBy 9 = .ok (.if_icmp .ge 25, 3) := dk_162 0 25 (dk_at dksX4_saidBy_0 9 rfl rfl)
theorem dX4_saidBy_12 : decode cX4_saidBy 12 = .ok (.iload_n 1, 1) := dk_27 (dk_at dksX4_saidBy_0 12 rfl rfl)
theorem dX4_saidBy_13 : decode cX4_saidBy 13 = .ok (.iload_n 3, 1) := dk_29 (dk_at dksX4_saidBy_0 13 rfl rfl)
theorem dX4_saidBy_14 : decode cX4_saidBy 14 = .ok (.invokestatic 259, 3) := dk_184 1 3 (dk_at dksX4_saidBy_0 14 rfl rfl)
theorem dX4_saidBy_17 : decode cX4_saidBy 17 = .ok (.ifCond .eq 11, 3) := dk_153 0 11 (dk_at dksX4_saidBy_0 17 rfl rfl)
theorem dX4_saidBy_20 : decode cX4_saidBy 20 = .ok (.iload_n 2, 1) := dk_28 (dk_at dksX4_saidBy_0 20 rfl rfl)
theorem dX4_saidBy_21 : decode cX4_saidBy 21 = .ok (.aload_n 0, 1) := dk_42 (dk_at dksX4_saidBy_0 21 rfl rfl)
theorem dX4_saidBy_22 : decode cX4_saidBy 22 = .ok (.iload_n 3, 1) := dk_29 (dk_at dksX4_saidBy_0 22 rfl rfl)
theorem dX4_saidBy_23 : decode cX4_saidBy 23 = .ok (.invokevirtual 407, 3) := dk_182 1 151 (dk_at dksX4_saidBy_1 0 rfl rfl)
theorem dX4_saidBy_26 : decode cX4_saidBy 26 = .ok (.ior, 1) := dk_128 (dk_at dksX4_saidBy_1 3 rfl rfl)
theorem dX4_saidBy_27 : decode cX4_saidBy 27 = .ok (.istore_n 2, 1) := dk_61 (dk_at dksX4_saidBy_1 4 rfl rfl)
theorem dX4_saidBy_28 : decode cX4_saidBy 28 = .ok (.iinc 3 1, 3) := dk_132 3 1 (dk_at dksX4_saidBy_1 5 rfl rfl)
theorem dX4_saidBy_31 : decode cX4_saidBy 31 = .ok (.goto (-27), 3) := dk_167 255 229 (dk_at dksX4_saidBy_1 8 rfl rfl)
theorem dX4_saidBy_34 : decode cX4_saidBy 34 = .ok (.iload_n 2, 1) := dk_28 (dk_at dksX4_saidBy_1 11 rfl rfl)
theorem dX4_saidBy_35 : decode cX4_saidBy 35 = .ok (.ireturn, 1) := dk_172 (dk_at dksX4_saidBy_1 12 rfl rfl)
abbrev cX4_scandal : ByteArray := prog_23_method_78_code
def yX4_scandal : MethodName := ⟨RX4, "scandal", "()I"⟩
def dkwX4_scandal_0 : List UInt8 := [42, 42, 180, 0, 88, 4, 46, 182, 1, 92, 172]
abbrev dktX4_scandal_0 : List UInt8 := dkwX4_scandal_0 ++ []
theorem dksX4_scandal_0 : cX4_scandal.data.toList.drop 0 = dktX4_scandal_0 := by decide +kernel
theorem dX4_scandal_0 : decode cX4_scandal 0 = .ok (.aload_n 0, 1) := dk_42 (dk_at dksX4_scandal_0 0 rfl rfl)
theorem dX4_scandal_1 : decode cX4_scandal 1 = .ok (.aload_n 0, 1) := dk_42 (dk_at dksX4_scandal_0 1 rfl rfl)
theorem dX4_scandal_2 : decode cX4_scandal 2 = .ok (.getfield 88, 3) := dk_180 0 88 (dk_at dksX4_scandal_0 2 rfl rfl)
theorem dX4_scandal_5 : decode cX4_scandal 5 = .ok (.iconst 1, 1) := dk_4 (dk_at dksX4_scandal_0 5 rfl rfl)
theorem dX4_scandal_6 : decode cX4_scandal 6 = .ok (.iaload, 1) := dk_46 (dk_at dksX4_scandal_0 6 rfl rfl)
theorem dX4_scandal_7 : decode cX4_scandal 7 = .ok (.invokevirtual 348, 3) := dk_182 1 92 (dk_at dksX4_scandal_0 7 rfl rfl)
theorem dX4_scandal_10 : decode cX4_scandal 10 = .ok (.ireturn, 1) := dk_172 (dk_at dksX4_scandal_0 10 rfl rfl)
abbrev cX4_near : ByteArray := prog_23_method_79_code
def yX4_near : MethodName := ⟨RX4, "near", "()I"⟩
def dkwX4_near_1 : List UInt8 := [182, 1, 139, 153, 0, 9, 27, 4, 28, 120, 128, 60, 132, 2, 1, 167, 255, 223, 27, 172]
abbrev dktX4_near_1 : List UInt8 := dkwX4_near_1 ++ []
def dkwX4_near_0 : List UInt8 := [3, 60, 3, 61, 28, 42, 182, 1, 112, 162, 0, 31, 42, 28, 182, 1, 130, 153, 0, 17, 42, 28]
abbrev dktX4_near_0 : List UInt8 := dkwX4_near_0 ++ dktX4_near_1
theorem dksX4_near_0 : cX4_near.data.toList.drop 0 = dktX4_near_0 := by decide +kernel
theorem dksX4_near_1 : cX4_near.data.toList.drop 22 = dktX4_near_1 := dk_seg dksX4_near_0 22 rfl rfl
theorem dX4_near_0 : decode cX4_near 0 = .ok (.iconst 0, 1) := dk_3 (dk_at dksX4_near_0 0 rfl rfl)
theorem dX4_near_1 : decode cX4_near 1 = .ok (.istore_n 1, 1) := dk_60 (dk_at dksX4_near_0 1 rfl rfl)
theorem dX4_near_2 : decode cX4_near 2 = .ok (.iconst 0, 1) := dk_3 (dk_at dksX4_near_0 2 rfl rfl)
theorem dX4_near_3 : decode cX4_near 3 = .ok (.istore_n 2, 1) := dk_61 (dk_at dksX4_near_0 3 rfl rfl)
theorem dX4_near_4 : decode cX4_near 4 = .ok (.iload_n 2, 1) := dk_28 (dk_at dksX4_near_0 4 rfl rfl)
theorem dX4_near_5 : decode cX4_near 5 = .ok (.aload_n 0, 1) := dk_42 (dk_at dksX4_near_0 5 rfl rfl)
theorem dX4_near_6 : decode cX4_near 6 = .ok (.invokevirtual 368, 3) := dk_182 1 112 (dk_at dksX4_near_0 6 rfl rfl)
theorem dX4_near_9 : decode cX4_near 9 = .ok (.if_icmp .ge 31, 3) := dk_162 0 31 (dk_at dksX4_near_0 9 rfl rfl)
theorem dX4_near_12 : decode cX4_near 12 = .ok (.aload_n 0, 1) := dk_42 (dk_at dksX4_near_0 12 rfl rfl)
theorem dX4_near_13 : decode cX4_near 13 = .ok (.iload_n 2, 1) := dk_28 (dk_at dksX4_near_0 13 rfl rfl)
theorem dX4_near_14 : decode cX4_near 14 = .ok (.invokevirtual 386, 3) := dk_182 1 130 (dk_at dksX4_near_0 14 rfl rfl)
theorem dX4_near_17 : decode cX4_near 17 = .ok (.ifCond .eq 17, 3) := dk_153 0 17 (dk_at dksX4_near_0 17 rfl rfl)
theorem dX4_near_20 : decode cX4_near 20 = .ok (.aload_n 0, 1) := dk_42 (dk_at dksX4_near_0 20 rfl rfl)
theorem dX4_near_21 : decode cX4_near 21 = .ok (.iload_n 2, 1) := dk_28 (dk_at dksX4_near_0 21 rfl rfl)
theorem dX4_near_22 : decode cX4_near 22 = .ok (.invokevirtual 395, 3) := dk_182 1 139 (dk_at dksX4_near_1 0 rfl rfl)
theorem dX4_near_25 : decode cX4_near 25 = .ok (.ifCond .eq 9, 3) := dk_153 0 9 (dk_at dksX4_near_1 3 rfl rfl)
theorem dX4_near_28 : decode cX4_near 28 = .ok (.iload_n 1, 1) := dk_27 (dk_at dksX4_near_1 6 rfl rfl)
theorem dX4_near_29 : decode cX4_near 29 = .ok (.iconst 1, 1) := dk_4 (dk_at dksX4_near_1 7 rfl rfl)
theorem dX4_near_30 : decode cX4_near 30 = .ok (.iload_n 2, 1) := dk_28 (dk_at dksX4_near_1 8 rfl rfl)
theorem dX4_near_31 : decode cX4_near 31 = .ok (.ishl, 1) := dk_120 (dk_at dksX4_near_1 9 rfl rfl)
theorem dX4_near_32 : decode cX4_near 32 = .ok (.ior, 1) := dk_128 (dk_at dksX4_near_1 10 rfl rfl)
theorem dX4_near_33 : decode cX4_near 33 = .ok (.istore_n 1, 1) := dk_60 (dk_at dksX4_near_1 11 rfl rfl)
theorem dX4_near_34 : decode cX4_near 34 = .ok (.iinc 2 1, 3) := dk_132 2 1 (dk_at dksX4_near_1 12 rfl rfl)
theorem dX4_near_37 : decode cX4_near 37 = .ok (.goto (-33), 3) := dk_167 255 223 (dk_at dksX4_near_1 15 rfl rfl)
theorem dX4_near_40 : decode cX4_near 40 = .ok (.iload_n 1, 1) := dk_27 (dk_at dksX4_near_1 18 rfl rfl)
theorem dX4_near_41 : decode cX4_near 41 = .ok (.ireturn, 1) := dk_172 (dk_at dksX4_near_1 19 rfl rfl)
abbrev cX4_next : ByteArray := prog_23_method_80_code
def yX4_next : MethodName := ⟨RX4, "next", "()I"⟩
theorem dX4_next_0 : decode cX4_next 0 = .ok (.aload_n 0, 1) := by decide +kernel
theorem dX4_next_1 : decode cX4_next 1 = .ok (.invokevirtual 434, 3) := by decide +kernel
theorem dX4_next_4 : decode cX4_next 4 = .ok (.ireturn, 1) := by decide +kernel
abbrev cX4_sneezed : ByteArray := prog_23_method_67_code
def yX4_sneezed : MethodName := ⟨RX4, "sneezed", "()I"⟩
def dkwX4_sneezed_2 : List UInt8 := [182, 1, 77, 164, 0, 5, 28, 60, 132, 2, 1, 167, 255, 201, 27, 172]
abbrev dktX4_sneezed_2 : List UInt8 := dkwX4_sneezed_2 ++ []
def dkwX4_sneezed_1 : List UInt8 := [3, 46, 42, 28, 182, 1, 133, 184, 1, 3, 153, 0, 22, 27, 155, 0, 16, 42, 28, 182, 1, 77, 42, 27]
abbrev dktX4_sneezed_1 : List UInt8 := dkwX4_sneezed_1 ++ dktX4_sneezed_2
def dkwX4_sneezed_0 : List UInt8 := [2, 60, 3, 61, 28, 42, 182, 1, 112, 162, 0, 53, 42, 28, 182, 1, 130, 153, 0, 39, 42, 180, 0, 88]
abbrev dktX4_sneezed_0 : List UInt8 := dkwX4_sneezed_0 ++ dktX4_sneezed_1
theorem dksX4_sneezed_0 : cX4_sneezed.data.toList.drop 0 = dktX4_sneezed_0 := by decide +kernel
theorem dksX4_sneezed_1 : cX4_sneezed.data.toList.drop 24 = dktX4_sneezed_1 := dk_seg dksX4_sneezed_0 24 rfl rfl
theorem dksX4_sneezed_2 : cX4_sneezed.data.toList.drop 48 = dktX4_sneezed_2 := dk_seg dksX4_sneezed_1 24 rfl rfl
theorem dX4_sneezed_0 : decode cX4_sneezed 0 = .ok (.iconst (-1), 1) := dk_2 (dk_at dksX4_sneezed_0 0 rfl rfl)
theorem dX4_sneezed_1 : decode cX4_sneezed 1 = .ok (.istore_n 1, 1) := dk_60 (dk_at dksX4_sneezed_0 1 rfl rfl)
theorem dX4_sneezed_2 : decode cX4_sneezed 2 = .ok (.iconst 0, 1) := dk_3 (dk_at dksX4_sneezed_0 2 rfl rfl)
theorem dX4_sneezed_3 : decode cX4_sneezed 3 = .ok (.istore_n 2, 1) := dk_61 (dk_at dksX4_sneezed_0 3 rfl rfl)
theorem dX4_sneezed_4 : decode cX4_sneezed 4 = .ok (.iload_n 2, 1) := dk_28 (dk_at dksX4_sneezed_0 4 rfl rfl)
theorem dX4_sneezed_5 : decode cX4_sneezed 5 = .ok (.aload_n 0, 1) := dk_42 (dk_at dksX4_sneezed_0 5 rfl rfl)
theorem dX4_sneezed_6 : decode cX4_sneezed 6 = .ok (.invokevirtual 368, 3) := dk_182 1 112 (dk_at dksX4_sneezed_0 6 rfl rfl)
theorem dX4_sneezed_9 : decode cX4_sneezed 9 = .ok (.if_icmp .ge 53, 3) := dk_162 0 53 (dk_at dksX4_sneezed_0 9 rfl rfl)
theorem dX4_sneezed_12 : decode cX4_sneezed 12 = .ok (.aload_n 0, 1) := dk_42 (dk_at dksX4_sneezed_0 12 rfl rfl)
theorem dX4_sneezed_13 : decode cX4_sneezed 13 = .ok (.iload_n 2, 1) := dk_28 (dk_at dksX4_sneezed_0 13 rfl rfl)
theorem dX4_sneezed_14 : decode cX4_sneezed 14 = .ok (.invokevirtual 386, 3) := dk_182 1 130 (dk_at dksX4_sneezed_0 14 rfl rfl)
theorem dX4_sneezed_17 : decode cX4_sneezed 17 = .ok (.ifCond .eq 39, 3) := dk_153 0 39 (dk_at dksX4_sneezed_0 17 rfl rfl)
theorem dX4_sneezed_20 : decode cX4_sneezed 20 = .ok (.aload_n 0, 1) := dk_42 (dk_at dksX4_sneezed_0 20 rfl rfl)
theorem dX4_sneezed_21 : decode cX4_sneezed 21 = .ok (.getfield 88, 3) := dk_180 0 88 (dk_at dksX4_sneezed_0 21 rfl rfl)
theorem dX4_sneezed_24 : decode cX4_sneezed 24 = .ok (.iconst 0, 1) := dk_3 (dk_at dksX4_sneezed_1 0 rfl rfl)
theorem dX4_sneezed_25 : decode cX4_sneezed 25 = .ok (.iaload, 1) := dk_46 (dk_at dksX4_sneezed_1 1 rfl rfl)
theorem dX4_sneezed_26 : decode cX4_sneezed 26 = .ok (.aload_n 0, 1) := dk_42 (dk_at dksX4_sneezed_1 2 rfl rfl)
theorem dX4_sneezed_27 : decode cX4_sneezed 27 = .ok (.iload_n 2, 1) := dk_28 (dk_at dksX4_sneezed_1 3 rfl rfl)
theorem dX4_sneezed_28 : decode cX4_sneezed 28 = .ok (.invokevirtual 389, 3) := dk_182 1 133 (dk_at dksX4_sneezed_1 4 rfl rfl)
theorem dX4_sneezed_31 : decode cX4_sneezed 31 = .ok (.invokestatic 259, 3) := dk_184 1 3 (dk_at dksX4_sneezed_1 7 rfl rfl)
theorem dX4_sneezed_34 : decode cX4_sneezed 34 = .ok (.ifCond .eq 22, 3) := dk_153 0 22 (dk_at dksX4_sneezed_1 10 rfl rfl)
theorem dX4_sneezed_37 : decode cX4_sneezed 37 = .ok (.iload_n 1, 1) := dk_27 (dk_at dksX4_sneezed_1 13 rfl rfl)
theorem dX4_sneezed_38 : decode cX4_sneezed 38 = .ok (.ifCond .lt 16, 3) := dk_155 0 16 (dk_at dksX4_sneezed_1 14 rfl rfl)
theorem dX4_sneezed_41 : decode cX4_sneezed 41 = .ok (.aload_n 0, 1) := dk_42 (dk_at dksX4_sneezed_1 17 rfl rfl)
theorem dX4_sneezed_42 : decode cX4_sneezed 42 = .ok (.iload_n 2, 1) := dk_28 (dk_at dksX4_sneezed_1 18 rfl rfl)
theorem dX4_sneezed_43 : decode cX4_sneezed 43 = .ok (.invokevirtual 333, 3) := dk_182 1 77 (dk_at dksX4_sneezed_1 19 rfl rfl)
theorem dX4_sneezed_46 : decode cX4_sneezed 46 = .ok (.aload_n 0, 1) := dk_42 (dk_at dksX4_sneezed_1 22 rfl rfl)
theorem dX4_sneezed_47 : decode cX4_sneezed 47 = .ok (.iload_n 1, 1) := dk_27 (dk_at dksX4_sneezed_1 23 rfl rfl)
theorem dX4_sneezed_48 : decode cX4_sneezed 48 = .ok (.invokevirtual 333, 3) := dk_182 1 77 (dk_at dksX4_sneezed_2 0 rfl rfl)
theorem dX4_sneezed_51 : decode cX4_sneezed 51 = .ok (.if_icmp .le 5, 3) := dk_164 0 5 (dk_at dksX4_sneezed_2 3 rfl rfl)
theorem dX4_sneezed_54 : decode cX4_sneezed 54 = .ok (.iload_n 2, 1) := dk_28 (dk_at dksX4_sneezed_2 6 rfl rfl)
theorem dX4_sneezed_55 : decode cX4_sneezed 55 = .ok (.istore_n 1, 1) := dk_60 (dk_at dksX4_sneezed_2 7 rfl rfl)
theorem dX4_sneezed_56 : decode cX4_sneezed 56 = .ok (.iinc 2 1, 3) := dk_132 2 1 (dk_at dksX4_sneezed_2 8 rfl rfl)
theorem dX4_sneezed_59 : decode cX4_sneezed 59 = .ok (.goto (-55), 3) := dk_167 255 201 (dk_at dksX4_sneezed_2 11 rfl rfl)
theorem dX4_sneezed_62 : decode cX4_sneezed 62 = .ok (.iload_n 1, 1) := dk_27 (dk_at dksX4_sneezed_2 14 rfl rfl)
theorem dX4_sneezed_63 : decode cX4_sneezed 63 = .ok (.ireturn, 1) := dk_172 (dk_at dksX4_sneezed_2 15 rfl rfl)
abbrev cX4_pairs : ByteArray := prog_23_method_81_code
def yX4_pairs : MethodName := ⟨RX4, "pairs", "()I"⟩
def dkwX4_pairs_3 : List UInt8 := [132, 3, 1, 167, 255, 198, 132, 2, 1, 167, 255, 182, 27, 172]
abbrev dktX4_pairs_3 : List UInt8 := dkwX4_pairs_3 ++ []
def dkwX4_pairs_2 : List UInt8 := [42, 28, 182, 1, 163, 126, 42, 180, 0, 88, 4, 46, 126, 153, 0, 7, 4, 167, 0, 4, 3, 96, 60]
abbrev dktX4_pairs_2 : List UInt8 := dkwX4_pairs_2 ++ dktX4_pairs_3
def dkwX4_pairs_1 : List UInt8 := [182, 1, 157, 42, 29, 182, 1, 163, 126, 42, 180, 0, 88, 4, 46, 126, 153, 0, 28, 42, 29, 182, 1, 157]
abbrev dktX4_pairs_1 : List UInt8 := dkwX4_pairs_1 ++ dktX4_pairs_2
def dkwX4_pairs_0 : List UInt8 := [3, 60, 3, 61, 28, 42, 182, 1, 102, 162, 0, 72, 3, 62, 29, 28, 162, 0, 59, 27, 42, 28]
abbrev dktX4_pairs_0 : List UInt8 := dkwX4_pairs_0 ++ dktX4_pairs_1
theorem dksX4_pairs_0 : cX4_pairs.data.toList.drop 0 = dktX4_pairs_0 := by decide +kernel
theorem dksX4_pairs_1 : cX4_pairs.data.toList.drop 22 = dktX4_pairs_1 := dk_seg dksX4_pairs_0 22 rfl rfl
theorem dksX4_pairs_2 : cX4_pairs.data.toList.drop 46 = dktX4_pairs_2 := dk_seg dksX4_pairs_1 24 rfl rfl
theorem dksX4_pairs_3 : cX4_pairs.data.toList.drop 69 = dktX4_pairs_3 := dk_seg dksX4_pairs_2 23 rfl rfl
theorem dX4_pairs_0 : decode cX4_pairs 0 = .ok (.iconst 0, 1) := dk_3 (dk_at dksX4_pairs_0 0 rfl rfl)
theorem dX4_pairs_1 : decode cX4_pairs 1 = .ok (.istore_n 1, 1) := dk_60 (dk_at dksX4_pairs_0 1 rfl rfl)
theorem dX4_pairs_2 : decode cX4_pairs 2 = .ok (.iconst 0, 1) := dk_3 (dk_at dksX4_pairs_0 2 rfl rfl)
theorem dX4_pairs_3 : decode cX4_pairs 3 = .ok (.istore_n 2, 1) := dk_61 (dk_at dksX4_pairs_0 3 rfl rfl)
theorem dX4_pairs_4 : decode cX4_pairs 4 = .ok (.iload_n 2, 1) := dk_28 (dk_at dksX4_pairs_0 4 rfl rfl)
theorem dX4_pairs_5 : decode cX4_pairs 5 = .ok (.aload_n 0, 1) := dk_42 (dk_at dksX4_pairs_0 5 rfl rfl)
theorem dX4_pairs_6 : decode cX4_pairs 6 = .ok (.invokevirtual 358, 3) := dk_182 1 102 (dk_at dksX4_pairs_0 6 rfl rfl)
theorem dX4_pairs_9 : decode cX4_pairs 9 = .ok (.if_icmp .ge 72, 3) := dk_162 0 72 (dk_at dksX4_pairs_0 9 rfl rfl)
theorem dX4_pairs_12 : decode cX4_pairs 12 = .ok (.iconst 0, 1) := dk_3 (dk_at dksX4_pairs_0 12 rfl rfl)
theorem dX4_pairs_13 : decode cX4_pairs 13 = .ok (.istore_n 3, 1) := dk_62 (dk_at dksX4_pairs_0 13 rfl rfl)
theorem dX4_pairs_14 : decode cX4_pairs 14 = .ok (.iload_n 3, 1) := dk_29 (dk_at dksX4_pairs_0 14 rfl rfl)
theorem dX4_pairs_15 : decode cX4_pairs 15 = .ok (.iload_n 2, 1) := dk_28 (dk_at dksX4_pairs_0 15 rfl rfl)
theorem dX4_pairs_16 : decode cX4_pairs 16 = .ok (.if_icmp .ge 59, 3) := dk_162 0 59 (dk_at dksX4_pairs_0 16 rfl rfl)
theorem dX4_pairs_19 : decode cX4_pairs 19 = .ok (.iload_n 1, 1) := dk_27 (dk_at dksX4_pairs_0 19 rfl rfl)
theorem dX4_pairs_20 : decode cX4_pairs 20 = .ok (.aload_n 0, 1) := dk_42 (dk_at dksX4_pairs_0 20 rfl rfl)
theorem dX4_pairs_21 : decode cX4_pairs 21 = .ok (.iload_n 2, 1) := dk_28 (dk_at dksX4_pairs_0 21 rfl rfl)
theorem dX4_pairs_22 : decode cX4_pairs 22 = .ok (.invokevirtual 413, 3) := dk_182 1 157 (dk_at dksX4_pairs_1 0 rfl rfl)
theorem dX4_pairs_25 : decode cX4_pairs 25 = .ok (.aload_n 0, 1) := dk_42 (dk_at dksX4_pairs_1 3 rfl rfl)
theorem dX4_pairs_26 : decode cX4_pairs 26 = .ok (.iload_n 3, 1) := dk_29 (dk_at dksX4_pairs_1 4 rfl rfl)
theorem dX4_pairs_27 : decode cX4_pairs 27 = .ok (.invokevirtual 419, 3) := dk_182 1 163 (dk_at dksX4_pairs_1 5 rfl rfl)
theorem dX4_pairs_30 : decode cX4_pairs 30 = .ok (.iand, 1) := dk_126 (dk_at dksX4_pairs_1 8 rfl rfl)
theorem dX4_pairs_31 : decode cX4_pairs 31 = .ok (.aload_n 0, 1) := dk_42 (dk_at dksX4_pairs_1 9 rfl rfl)
theorem dX4_pairs_32 : decode cX4_pairs 32 = .ok (.getfield 88, 3) := dk_180 0 88 (dk_at dksX4_pairs_1 10 rfl rfl)
theorem dX4_pairs_35 : decode cX4_pairs 35 = .ok (.iconst 1, 1) := dk_4 (dk_at dksX4_pairs_1 13 rfl rfl)
theorem dX4_pairs_36 : decode cX4_pairs 36 = .ok (.iaload, 1) := dk_46 (dk_at dksX4_pairs_1 14 rfl rfl)
theorem dX4_pairs_37 : decode cX4_pairs 37 = .ok (.iand, 1) := dk_126 (dk_at dksX4_pairs_1 15 rfl rfl)
theorem dX4_pairs_38 : decode cX4_pairs 38 = .ok (.ifCond .eq 28, 3) := dk_153 0 28 (dk_at dksX4_pairs_1 16 rfl rfl)
theorem dX4_pairs_41 : decode cX4_pairs 41 = .ok (.aload_n 0, 1) := dk_42 (dk_at dksX4_pairs_1 19 rfl rfl)
theorem dX4_pairs_42 : decode cX4_pairs 42 = .ok (.iload_n 3, 1) := dk_29 (dk_at dksX4_pairs_1 20 rfl rfl)
theorem dX4_pairs_43 : decode cX4_pairs 43 = .ok (.invokevirtual 413, 3) := dk_182 1 157 (dk_at dksX4_pairs_1 21 rfl rfl)
theorem dX4_pairs_46 : decode cX4_pairs 46 = .ok (.aload_n 0, 1) := dk_42 (dk_at dksX4_pairs_2 0 rfl rfl)
theorem dX4_pairs_47 : decode cX4_pairs 47 = .ok (.iload_n 2, 1) := dk_28 (dk_at dksX4_pairs_2 1 rfl rfl)
theorem dX4_pairs_48 : decode cX4_pairs 48 = .ok (.invokevirtual 419, 3) := dk_182 1 163 (dk_at dksX4_pairs_2 2 rfl rfl)
theorem dX4_pairs_51 : decode cX4_pairs 51 = .ok (.iand, 1) := dk_126 (dk_at dksX4_pairs_2 5 rfl rfl)
theorem dX4_pairs_52 : decode cX4_pairs 52 = .ok (.aload_n 0, 1) := dk_42 (dk_at dksX4_pairs_2 6 rfl rfl)
theorem dX4_pairs_53 : decode cX4_pairs 53 = .ok (.getfield 88, 3) := dk_180 0 88 (dk_at dksX4_pairs_2 7 rfl rfl)
theorem dX4_pairs_56 : decode cX4_pairs 56 = .ok (.iconst 1, 1) := dk_4 (dk_at dksX4_pairs_2 10 rfl rfl)
theorem dX4_pairs_57 : decode cX4_pairs 57 = .ok (.iaload, 1) := dk_46 (dk_at dksX4_pairs_2 11 rfl rfl)
theorem dX4_pairs_58 : decode cX4_pairs 58 = .ok (.iand, 1) := dk_126 (dk_at dksX4_pairs_2 12 rfl rfl)
theorem dX4_pairs_59 : decode cX4_pairs 59 = .ok (.ifCond .eq 7, 3) := dk_153 0 7 (dk_at dksX4_pairs_2 13 rfl rfl)
theorem dX4_pairs_62 : decode cX4_pairs 62 = .ok (.iconst 1, 1) := dk_4 (dk_at dksX4_pairs_2 16 rfl rfl)
theorem dX4_pairs_63 : decode cX4_pairs 63 = .ok (.goto 4, 3) := dk_167 0 4 (dk_at dksX4_pairs_2 17 rfl rfl)
theorem dX4_pairs_66 : decode cX4_pairs 66 = .ok (.iconst 0, 1) := dk_3 (dk_at dksX4_pairs_2 20 rfl rfl)
theorem dX4_pairs_67 : decode cX4_pairs 67 = .ok (.iadd, 1) := dk_96 (dk_at dksX4_pairs_2 21 rfl rfl)
theorem dX4_pairs_68 : decode cX4_pairs 68 = .ok (.istore_n 1, 1) := dk_60 (dk_at dksX4_pairs_2 22 rfl rfl)
theorem dX4_pairs_69 : decode cX4_pairs 69 = .ok (.iinc 3 1, 3) := dk_132 3 1 (dk_at dksX4_pairs_3 0 rfl rfl)
theorem dX4_pairs_72 : decode cX4_pairs 72 = .ok (.goto (-58), 3) := dk_167 255 198 (dk_at dksX4_pairs_3 3 rfl rfl)
theorem dX4_pairs_75 : decode cX4_pairs 75 = .ok (.iinc 2 1, 3) := dk_132 2 1 (dk_at dksX4_pairs_3 6 rfl rfl)
theorem dX4_pairs_78 : decode cX4_pairs 78 = .ok (.goto (-74), 3) := dk_167 255 182 (dk_at dksX4_pairs_3 9 rfl rfl)
theorem dX4_pairs_81 : decode cX4_pairs 81 = .ok (.iload_n 1, 1) := dk_27 (dk_at dksX4_pairs_3 12 rfl rfl)
theorem dX4_pairs_82 : decode cX4_pairs 82 = .ok (.ireturn, 1) := dk_172 (dk_at dksX4_pairs_3 13 rfl rfl)
abbrev cX4_law : ByteArray := prog_23_method_82_code
def yX4_law : MethodName := ⟨RX4, "law", "(II)I"⟩
def dkwX4_law_2 : List UInt8 := [54, 4, 42, 180, 0, 88, 16, 12, 27, 96, 29, 79, 21, 4, 172]
abbrev dktX4_law_2 : List UInt8 := dkwX4_law_2 ++ []
def dkwX4_law_1 : List UInt8 := [16, 12, 27, 96, 46, 62, 42, 180, 0, 88, 16, 12, 27, 96, 28, 79, 42, 27, 182, 1, 151, 184, 1, 83]
abbrev dktX4_law_1 : List UInt8 := dkwX4_law_1 ++ dktX4_law_2
def dkwX4_law_0 : List UInt8 := [42, 27, 182, 1, 169, 153, 0, 13, 28, 3, 16, 99, 184, 1, 105, 154, 0, 5, 2, 172, 42, 180, 0, 88]
abbrev dktX4_law_0 : List UInt8 := dkwX4_law_0 ++ dktX4_law_1
theorem dksX4_law_0 : cX4_law.data.toList.drop 0 = dktX4_law_0 := by decide +kernel
theorem dksX4_law_1 : cX4_law.data.toList.drop 24 = dktX4_law_1 := dk_seg dksX4_law_0 24 rfl rfl
theorem dksX4_law_2 : cX4_law.data.toList.drop 48 = dktX4_law_2 := dk_seg dksX4_law_1 24 rfl rfl
theorem dX4_law_0 : decode cX4_law 0 = .ok (.aload_n 0, 1) := dk_42 (dk_at dksX4_law_0 0 rfl rfl)
theorem dX4_law_1 : decode cX4_law 1 = .ok (.iload_n 1, 1) := dk_27 (dk_at dksX4_law_0 1 rfl rfl)
theorem dX4_law_2 : decode cX4_law 2 = .ok (.invokevirtual 425, 3) := dk_182 1 169 (dk_at dksX4_law_0 2 rfl rfl)
theorem dX4_law_5 : decode cX4_law 5 = .ok (.ifCond .eq 13, 3) := dk_153 0 13 (dk_at dksX4_law_0 5 rfl rfl)
theorem dX4_law_8 : decode cX4_law 8 = .ok (.iload_n 2, 1) := dk_28 (dk_at dksX4_law_0 8 rfl rfl)
theorem dX4_law_9 : decode cX4_law 9 = .ok (.iconst 0, 1) := dk_3 (dk_at dksX4_law_0 9 rfl rfl)
theorem dX4_law_10 : decode cX4_law 10 = .ok (.bipush 99, 2) := dk_16 99 (dk_at dksX4_law_0 10 rfl rfl)
theorem dX4_law_12 : decode cX4_law 12 = .ok (.invokestatic 361, 3) := dk_184 1 105 (dk_at dksX4_law_0 12 rfl rfl)
theorem dX4_law_15 : decode cX4_law 15 = .ok (.ifCond .ne 5, 3) := dk_154 0 5 (dk_at dksX4_law_0 15 rfl rfl)
theorem dX4_law_18 : decode cX4_law 18 = .ok (.iconst (-1), 1) := dk_2 (dk_at dksX4_law_0 18 rfl rfl)
theorem dX4_law_19 : decode cX4_law 19 = .ok (.ireturn, 1) := dk_172 (dk_at dksX4_law_0 19 rfl rfl)
theorem dX4_law_20 : decode cX4_law 20 = .ok (.aload_n 0, 1) := dk_42 (dk_at dksX4_law_0 20 rfl rfl)
theorem dX4_law_21 : decode cX4_law 21 = .ok (.getfield 88, 3) := dk_180 0 88 (dk_at dksX4_law_0 21 rfl rfl)
theorem dX4_law_24 : decode cX4_law 24 = .ok (.bipush 12, 2) := dk_16 12 (dk_at dksX4_law_1 0 rfl rfl)
theorem dX4_law_26 : decode cX4_law 26 = .ok (.iload_n 1, 1) := dk_27 (dk_at dksX4_law_1 2 rfl rfl)
theorem dX4_law_27 : decode cX4_law 27 = .ok (.iadd, 1) := dk_96 (dk_at dksX4_law_1 3 rfl rfl)
theorem dX4_law_28 : decode cX4_law 28 = .ok (.iaload, 1) := dk_46 (dk_at dksX4_law_1 4 rfl rfl)
theorem dX4_law_29 : decode cX4_law 29 = .ok (.istore_n 3, 1) := dk_62 (dk_at dksX4_law_1 5 rfl rfl)
theorem dX4_law_30 : decode cX4_law 30 = .ok (.aload_n 0, 1) := dk_42 (dk_at dksX4_law_1 6 rfl rfl)
theorem dX4_law_31 : decode cX4_law 31 = .ok (.getfield 88, 3) := dk_180 0 88 (dk_at dksX4_law_1 7 rfl rfl)
theorem dX4_law_34 : decode cX4_law 34 = .ok (.bipush 12, 2) := dk_16 12 (dk_at dksX4_law_1 10 rfl rfl)
theorem dX4_law_36 : decode cX4_law 36 = .ok (.iload_n 1, 1) := dk_27 (dk_at dksX4_law_1 12 rfl rfl)
theorem dX4_law_37 : decode cX4_law 37 = .ok (.iadd, 1) := dk_96 (dk_at dksX4_law_1 13 rfl rfl)
theorem dX4_law_38 : decode cX4_law 38 = .ok (.iload_n 2, 1) := dk_28 (dk_at dksX4_law_1 14 rfl rfl)
theorem dX4_law_39 : decode cX4_law 39 = .ok (.iastore, 1) := dk_79 (dk_at dksX4_law_1 15 rfl rfl)
theorem dX4_law_40 : decode cX4_law 40 = .ok (.aload_n 0, 1) := dk_42 (dk_at dksX4_law_1 16 rfl rfl)
theorem dX4_law_41 : decode cX4_law 41 = .ok (.iload_n 1, 1) := dk_27 (dk_at dksX4_law_1 17 rfl rfl)
theorem dX4_law_42 : decode cX4_law 42 = .ok (.invokevirtual 407, 3) := dk_182 1 151 (dk_at dksX4_law_1 18 rfl rfl)
theorem dX4_law_45 : decode cX4_law 45 = .ok (.invokestatic 339, 3) := dk_184 1 83 (dk_at dksX4_law_1 21 rfl rfl)
theorem dX4_law_48 : decode cX4_law 48 = .ok (.istore 4, 2) := dk_54 4 (dk_at dksX4_law_2 0 rfl rfl)
theorem dX4_law_50 : decode cX4_law 50 = .ok (.aload_n 0, 1) := dk_42 (dk_at dksX4_law_2 2 rfl rfl)
theorem dX4_law_51 : decode cX4_law 51 = .ok (.getfield 88, 3) := dk_180 0 88 (dk_at dksX4_law_2 3 rfl rfl)
theorem dX4_law_54 : decode cX4_law 54 = .ok (.bipush 12, 2) := dk_16 12 (dk_at dksX4_law_2 6 rfl rfl)
theorem dX4_law_56 : decode cX4_law 56 = .ok (.iload_n 1, 1) := dk_27 (dk_at dksX4_law_2 8 rfl rfl)
theorem dX4_law_57 : decode cX4_law 57 = .ok (.iadd, 1) := dk_96 (dk_at dksX4_law_2 9 rfl rfl)
theorem dX4_law_58 : decode cX4_law 58 = .ok (.iload_n 3, 1) := dk_29 (dk_at dksX4_law_2 10 rfl rfl)
theorem dX4_law_59 : decode cX4_law 59 = .ok (.iastore, 1) := dk_79 (dk_at dksX4_law_2 11 rfl rfl)
theorem dX4_law_60 : decode cX4_law 60 = .ok (.iload 4, 2) := dk_21 4 (dk_at dksX4_law_2 12 rfl rfl)
theorem dX4_law_62 : decode cX4_law 62 = .ok (.ireturn, 1) := dk_172 (dk_at dksX4_law_2 14 rfl rfl)
abbrev cX4_sit : ByteArray := prog_23_method_85_code
def yX4_sit : MethodName := ⟨RX4, "sit", "(I)I"⟩
def dkwX4_sit_2 : List UInt8 := [172]
abbrev dktX4_sit_2 : List UInt8 := dkwX4_sit_2 ++ []
def dkwX4_sit_1 : List UInt8 := [182, 1, 181, 42, 180, 0, 88, 3, 92, 46, 4, 27, 120, 128, 79, 42, 180, 0, 88, 3, 46, 184, 1, 83]
abbrev dktX4_sit_1 : List UInt8 := dkwX4_sit_1 ++ dktX4_sit_2
def dkwX4_sit_0 : List UInt8 := [42, 27, 182, 1, 154, 153, 0, 16, 42, 180, 0, 88, 3, 46, 27, 184, 1, 3, 153, 0, 5, 2, 172, 42]
abbrev dktX4_sit_0 : List UInt8 := dkwX4_sit_0 ++ dktX4_sit_1
theorem dksX4_sit_0 : cX4_sit.data.toList.drop 0 = dktX4_sit_0 := by decide +kernel
theorem dksX4_sit_1 : cX4_sit.data.toList.drop 24 = dktX4_sit_1 := dk_seg dksX4_sit_0 24 rfl rfl
theorem dksX4_sit_2 : cX4_sit.data.toList.drop 48 = dktX4_sit_2 := dk_seg dksX4_sit_1 24 rfl rfl
theorem dX4_sit_0 : decode cX4_sit 0 = .ok (.aload_n 0, 1) := dk_42 (dk_at dksX4_sit_0 0 rfl rfl)
theorem dX4_sit_1 : decode cX4_sit 1 = .ok (.iload_n 1, 1) := dk_27 (dk_at dksX4_sit_0 1 rfl rfl)
theorem dX4_sit_2 : decode cX4_sit 2 = .ok (.invokevirtual 410, 3) := dk_182 1 154 (dk_at dksX4_sit_0 2 rfl rfl)
theorem dX4_sit_5 : decode cX4_sit 5 = .ok (.ifCond .eq 16, 3) := dk_153 0 16 (dk_at dksX4_sit_0 5 rfl rfl)
theorem dX4_sit_8 : decode cX4_sit 8 = .ok (.aload_n 0, 1) := dk_42 (dk_at dksX4_sit_0 8 rfl rfl)
theorem dX4_sit_9 : decode cX4_sit 9 = .ok (.getfield 88, 3) := dk_180 0 88 (dk_at dksX4_sit_0 9 rfl rfl)
theorem dX4_sit_12 : decode cX4_sit 12 = .ok (.iconst 0, 1) := dk_3 (dk_at dksX4_sit_0 12 rfl rfl)
theorem dX4_sit_13 : decode cX4_sit 13 = .ok (.iaload, 1) := dk_46 (dk_at dksX4_sit_0 13 rfl rfl)
theorem dX4_sit_14 : decode cX4_sit 14 = .ok (.iload_n 1, 1) := dk_27 (dk_at dksX4_sit_0 14 rfl rfl)
theorem dX4_sit_15 : decode cX4_sit 15 = .ok (.invokestatic 259, 3) := dk_184 1 3 (dk_at dksX4_sit_0 15 rfl rfl)
theorem dX4_sit_18 : decode cX4_sit 18 = .ok (.ifCond .eq 5, 3) := dk_153 0 5 (dk_at dksX4_sit_0 18 rfl rfl)
theorem dX4_sit_21 : decode cX4_sit 21 = .ok (.iconst (-1), 1) := dk_2 (dk_at dksX4_sit_0 21 rfl rfl)
theorem dX4_sit_22 : decode cX4_sit 22 = .ok (.ireturn, 1) := dk_172 (dk_at dksX4_sit_0 22 rfl rfl)
theorem dX4_sit_23 : decode cX4_sit 23 = .ok (.aload_n 0, 1) := dk_42 (dk_at dksX4_sit_0 23 rfl rfl)
theorem dX4_sit_24 : decode cX4_sit 24 = .ok (.invokevirtual 437, 3) := dk_182 1 181 (dk_at dksX4_sit_1 0 rfl rfl)
theorem dX4_sit_27 : decode cX4_sit 27 = .ok (.aload_n 0, 1) := dk_42 (dk_at dksX4_sit_1 3 rfl rfl)
theorem dX4_sit_28 : decode cX4_sit 28 = .ok (.getfield 88, 3) := dk_180 0 88 (dk_at dksX4_sit_1 4 rfl rfl)
theorem dX4_sit_31 : decode cX4_sit 31 = .ok (.iconst 0, 1) := dk_3 (dk_at dksX4_sit_1 7 rfl rfl)
theorem dX4_sit_32 : decode cX4_sit 32 = .ok (.dup2, 1) := dk_92 (dk_at dksX4_sit_1 8 rfl rfl)
theorem dX4_sit_33 : decode cX4_sit 33 = .ok (.iaload, 1) := dk_46 (dk_at dksX4_sit_1 9 rfl rfl)
theorem dX4_sit_34 : decode cX4_sit 34 = .ok (.iconst 1, 1) := dk_4 (dk_at dksX4_sit_1 10 rfl rfl)
theorem dX4_sit_35 : decode cX4_sit 35 = .ok (.iload_n 1, 1) := dk_27 (dk_at dksX4_sit_1 11 rfl rfl)
theorem dX4_sit_36 : decode cX4_sit 36 = .ok (.ishl, 1) := dk_120 (dk_at dksX4_sit_1 12 rfl rfl)
theorem dX4_sit_37 : decode cX4_sit 37 = .ok (.ior, 1) := dk_128 (dk_at dksX4_sit_1 13 rfl rfl)
theorem dX4_sit_38 : decode cX4_sit 38 = .ok (.iastore, 1) := dk_79 (dk_at dksX4_sit_1 14 rfl rfl)
theorem dX4_sit_39 : decode cX4_sit 39 = .ok (.aload_n 0, 1) := dk_42 (dk_at dksX4_sit_1 15 rfl rfl)
theorem dX4_sit_40 : decode cX4_sit 40 = .ok (.getfield 88, 3) := dk_180 0 88 (dk_at dksX4_sit_1 16 rfl rfl)
theorem dX4_sit_43 : decode cX4_sit 43 = .ok (.iconst 0, 1) := dk_3 (dk_at dksX4_sit_1 19 rfl rfl)
theorem dX4_sit_44 : decode cX4_sit 44 = .ok (.iaload, 1) := dk_46 (dk_at dksX4_sit_1 20 rfl rfl)
theorem dX4_sit_45 : decode cX4_sit 45 = .ok (.invokestatic 339, 3) := dk_184 1 83 (dk_at dksX4_sit_1 21 rfl rfl)
theorem dX4_sit_48 : decode cX4_sit 48 = .ok (.ireturn, 1) := dk_172 (dk_at dksX4_sit_2 0 rfl rfl)
abbrev cX4_keepAct : ByteArray := prog_23_method_83_code
def yX4_keepAct : MethodName := ⟨RX4, "keepAct", "()V"⟩
def dkwX4_keepAct_4 : List UInt8 := [3, 181, 1, 121, 177]
abbrev dktX4_keepAct_4 : List UInt8 := dkwX4_keepAct_4 ++ []
def dkwX4_keepAct_3 : List UInt8 := [42, 180, 0, 88, 27, 46, 79, 132, 1, 1, 167, 255, 227, 42, 89, 180, 1, 118, 4, 96, 181, 1, 118, 42]
abbrev dktX4_keepAct_3 : List UInt8 := dkwX4_keepAct_3 ++ dktX4_keepAct_4
def dkwX4_keepAct_2 : List UInt8 := [181, 1, 118, 3, 60, 27, 16, 19, 162, 0, 29, 42, 180, 0, 94, 16, 19, 42, 180, 1, 118, 104, 27, 96]
abbrev dktX4_keepAct_2 : List UInt8 := dkwX4_keepAct_2 ++ dktX4_keepAct_3
def dkwX4_keepAct_1 : List UInt8 := [180, 0, 94, 27, 16, 19, 96, 46, 79, 132, 1, 1, 167, 255, 231, 42, 89, 180, 1, 118, 4, 100]
abbrev dktX4_keepAct_1 : List UInt8 := dkwX4_keepAct_1 ++ dktX4_keepAct_2
def dkwX4_keepAct_0 : List UInt8 := [42, 180, 1, 118, 16, 40, 160, 0, 43, 3, 60, 27, 17, 2, 248, 162, 0, 24, 42, 180, 0, 94, 27, 42]
abbrev dktX4_keepAct_0 : List UInt8 := dkwX4_keepAct_0 ++ dktX4_keepAct_1
theorem dksX4_keepAct_0 : cX4_keepAct.data.toList.drop 0 = dktX4_keepAct_0 := by decide +kernel
theorem dksX4_keepAct_1 : cX4_keepAct.data.toList.drop 24 = dktX4_keepAct_1 := dk_seg dksX4_keepAct_0 24 rfl rfl
theorem dksX4_keepAct_2 : cX4_keepAct.data.toList.drop 46 = dktX4_keepAct_2 := dk_seg dksX4_keepAct_1 22 rfl rfl
theorem dksX4_keepAct_3 : cX4_keepAct.data.toList.drop 70 = dktX4_keepAct_3 := dk_seg dksX4_keepAct_2 24 rfl rfl
theorem dksX4_keepAct_4 : cX4_keepAct.data.toList.drop 94 = dktX4_keepAct_4 := dk_seg dksX4_keepAct_3 24 rfl rfl
theorem dX4_keepAct_0 : decode cX4_keepAct 0 = .ok (.aload_n 0, 1) := dk_42 (dk_at dksX4_keepAct_0 0 rfl rfl)
theorem dX4_keepAct_1 : decode cX4_keepAct 1 = .ok (.getfield 374, 3) := dk_180 1 118 (dk_at dksX4_keepAct_0 1 rfl rfl)
theorem dX4_keepAct_4 : decode cX4_keepAct 4 = .ok (.bipush 40, 2) := dk_16 40 (dk_at dksX4_keepAct_0 4 rfl rfl)
theorem dX4_keepAct_6 : decode cX4_keepAct 6 = .ok (.if_icmp .ne 43, 3) := dk_160 0 43 (dk_at dksX4_keepAct_0 6 rfl rfl)
theorem dX4_keepAct_9 : decode cX4_keepAct 9 = .ok (.iconst 0, 1) := dk_3 (dk_at dksX4_keepAct_0 9 rfl rfl)
theorem dX4_keepAct_10 : decode cX4_keepAct 10 = .ok (.istore_n 1, 1) := dk_60 (dk_at dksX4_keepAct_0 10 rfl rfl)
theorem dX4_keepAct_11 : decode cX4_keepAct 11 = .ok (.iload_n 1, 1) := dk_27 (dk_at dksX4_keepAct_0 11 rfl rfl)
theorem dX4_keepAct_12 : decode cX4_keepAct 12 = .ok (.sipush 760, 3) := dk_17 2 248 (dk_at dksX4_keepAct_0 12 rfl rfl)
theorem dX4_keepAct_15 : decode cX4_keepAct 15 = .ok (.if_icmp .ge 24, 3) := dk_162 0 24 (dk_at dksX4_keepAct_0 15 rfl rfl)
theorem dX4_keepAct_18 : decode cX4_keepAct 18 = .ok (.aload_n 0, 1) := dk_42 (dk_at dksX4_keepAct_0 18 rfl rfl)
theorem dX4_keepAct_19 : decode cX4_keepAct 19 = .ok (.getfield 94, 3) := dk_180 0 94 (dk_at dksX4_keepAct_0 19 rfl rfl)
theorem dX4_keepAct_22 : decode cX4_keepAct 22 = .ok (.iload_n 1, 1) := dk_27 (dk_at dksX4_keepAct_0 22 rfl rfl)
theorem dX4_keepAct_23 : decode cX4_keepAct 23 = .ok (.aload_n 0, 1) := dk_42 (dk_at dksX4_keepAct_0 23 rfl rfl)
theorem dX4_keepAct_24 : decode cX4_keepAct 24 = .ok (.getfield 94, 3) := dk_180 0 94 (dk_at dksX4_keepAct_1 0 rfl rfl)
theorem dX4_keepAct_27 : decode cX4_keepAct 27 = .ok (.iload_n 1, 1) := dk_27 (dk_at dksX4_keepAct_1 3 rfl rfl)
theorem dX4_keepAct_28 : decode cX4_keepAct 28 = .ok (.bipush 19, 2) := dk_16 19 (dk_at dksX4_keepAct_1 4 rfl rfl)
theorem dX4_keepAct_30 : decode cX4_keepAct 30 = .ok (.iadd, 1) := dk_96 (dk_at dksX4_keepAct_1 6 rfl rfl)
theorem dX4_keepAct_31 : decode cX4_keepAct 31 = .ok (.iaload, 1) := dk_46 (dk_at dksX4_keepAct_1 7 rfl rfl)
theorem dX4_keepAct_32 : decode cX4_keepAct 32 = .ok (.iastore, 1) := dk_79 (dk_at dksX4_keepAct_1 8 rfl rfl)
theorem dX4_keepAct_33 : decode cX4_keepAct 33 = .ok (.iinc 1 1, 3) := dk_132 1 1 (dk_at dksX4_keepAct_1 9 rfl rfl)
theorem dX4_keepAct_36 : decode cX4_keepAct 36 = .ok (.goto (-25), 3) := dk_167 255 231 (dk_at dksX4_keepAct_1 12 rfl rfl)
theorem dX4_keepAct_39 : decode cX4_keepAct 39 = .ok (.aload_n 0, 1) := dk_42 (dk_at dksX4_keepAct_1 15 rfl rfl)
theorem dX4_keepAct_40 : decode cX4_keepAct 40 = .ok (.dup, 1) := dk_89 (dk_at dksX4_keepAct_1 16 rfl rfl)
theorem dX4_keepAct_41 : decode cX4_keepAct 41 = .ok (.getfield 374, 3) := dk_180 1 118 (dk_at dksX4_keepAct_1 17 rfl rfl)
theorem dX4_keepAct_44 : decode cX4_keepAct 44 = .ok (.iconst 1, 1) := dk_4 (dk_at dksX4_keepAct_1 20 rfl rfl)
theorem dX4_keepAct_45 : decode cX4_keepAct 45 = .ok (.isub, 1) := dk_100 (dk_at dksX4_keepAct_1 21 rfl rfl)
theorem dX4_keepAct_46 : decode cX4_keepAct 46 = .ok (.putfield 374, 3) := dk_181 1 118 (dk_at dksX4_keepAct_2 0 rfl rfl)
theorem dX4_keepAct_49 : decode cX4_keepAct 49 = .ok (.iconst 0, 1) := dk_3 (dk_at dksX4_keepAct_2 3 rfl rfl)
theorem dX4_keepAct_50 : decode cX4_keepAct 50 = .ok (.istore_n 1, 1) := dk_60 (dk_at dksX4_keepAct_2 4 rfl rfl)
theorem dX4_keepAct_51 : decode cX4_keepAct 51 = .ok (.iload_n 1, 1) := dk_27 (dk_at dksX4_keepAct_2 5 rfl rfl)
theorem dX4_keepAct_52 : decode cX4_keepAct 52 = .ok (.bipush 19, 2) := dk_16 19 (dk_at dksX4_keepAct_2 6 rfl rfl)
theorem dX4_keepAct_54 : decode cX4_keepAct 54 = .ok (.if_icmp .ge 29, 3) := dk_162 0 29 (dk_at dksX4_keepAct_2 8 rfl rfl)
theorem dX4_keepAct_57 : decode cX4_keepAct 57 = .ok (.aload_n 0, 1) := dk_42 (dk_at dksX4_keepAct_2 11 rfl rfl)
theorem dX4_keepAct_58 : decode cX4_keepAct 58 = .ok (.getfield 94, 3) := dk_180 0 94 (dk_at dksX4_keepAct_2 12 rfl rfl)
theorem dX4_keepAct_61 : decode cX4_keepAct 61 = .ok (.bipush 19, 2) := dk_16 19 (dk_at dksX4_keepAct_2 15 rfl rfl)
theorem dX4_keepAct_63 : decode cX4_keepAct 63 = .ok (.aload_n 0, 1) := dk_42 (dk_at dksX4_keepAct_2 17 rfl rfl)
theorem dX4_keepAct_64 : decode cX4_keepAct 64 = .ok (.getfield 374, 3) := dk_180 1 118 (dk_at dksX4_keepAct_2 18 rfl rfl)
theorem dX4_keepAct_67 : decode cX4_keepAct 67 = .ok (.imul, 1) := dk_104 (dk_at dksX4_keepAct_2 21 rfl rfl)
theorem dX4_keepAct_68 : decode cX4_keepAct 68 = .ok (.iload_n 1, 1) := dk_27 (dk_at dksX4_keepAct_2 22 rfl rfl)
theorem dX4_keepAct_69 : decode cX4_keepAct 69 = .ok (.iadd, 1) := dk_96 (dk_at dksX4_keepAct_2 23 rfl rfl)
theorem dX4_keepAct_70 : decode cX4_keepAct 70 = .ok (.aload_n 0, 1) := dk_42 (dk_at dksX4_keepAct_3 0 rfl rfl)
theorem dX4_keepAct_71 : decode cX4_keepAct 71 = .ok (.getfield 88, 3) := dk_180 0 88 (dk_at dksX4_keepAct_3 1 rfl rfl)
theorem dX4_keepAct_74 : decode cX4_keepAct 74 = .ok (.iload_n 1, 1) := dk_27 (dk_at dksX4_keepAct_3 4 rfl rfl)
theorem dX4_keepAct_75 : decode cX4_keepAct 75 = .ok (.iaload, 1) := dk_46 (dk_at dksX4_keepAct_3 5 rfl rfl)
theorem dX4_keepAct_76 : decode cX4_keepAct 76 = .ok (.iastore, 1) := dk_79 (dk_at dksX4_keepAct_3 6 rfl rfl)
theorem dX4_keepAct_77 : decode cX4_keepAct 77 = .ok (.iinc 1 1, 3) := dk_132 1 1 (dk_at dksX4_keepAct_3 7 rfl rfl)
theorem dX4_keepAct_80 : decode cX4_keepAct 80 = .ok (.goto (-29), 3) := dk_167 255 227 (dk_at dksX4_keepAct_3 10 rfl rfl)
theorem dX4_keepAct_83 : decode cX4_keepAct 83 = .ok (.aload_n 0, 1) := dk_42 (dk_at dksX4_keepAct_3 13 rfl rfl)
theorem dX4_keepAct_84 : decode cX4_keepAct 84 = .ok (.dup, 1) := dk_89 (dk_at dksX4_keepAct_3 14 rfl rfl)
theorem dX4_keepAct_85 : decode cX4_keepAct 85 = .ok (.getfield 374, 3) := dk_180 1 118 (dk_at dksX4_keepAct_3 15 rfl rfl)
theorem dX4_keepAct_88 : decode cX4_keepAct 88 = .ok (.iconst 1, 1) := dk_4 (dk_at dksX4_keepAct_3 18 rfl rfl)
theorem dX4_keepAct_89 : decode cX4_keepAct 89 = .ok (.iadd, 1) := dk_96 (dk_at dksX4_keepAct_3 19 rfl rfl)
theorem dX4_keepAct_90 : decode cX4_keepAct 90 = .ok (.putfield 374, 3) := dk_181 1 118 (dk_at dksX4_keepAct_3 20 rfl rfl)
theorem dX4_keepAct_93 : decode cX4_keepAct 93 = .ok (.aload_n 0, 1) := dk_42 (dk_at dksX4_keepAct_3 23 rfl rfl)
theorem dX4_keepAct_94 : decode cX4_keepAct 94 = .ok (.iconst 0, 1) := dk_3 (dk_at dksX4_keepAct_4 0 rfl rfl)
theorem dX4_keepAct_95 : decode cX4_keepAct 95 = .ok (.putfield 377, 3) := dk_181 1 121 (dk_at dksX4_keepAct_4 1 rfl rfl)
theorem dX4_keepAct_98 : decode cX4_keepAct 98 = .ok (.return_, 1) := dk_177 (dk_at dksX4_keepAct_4 4 rfl rfl)
abbrev cX4_rise : ByteArray := prog_23_method_86_code
def yX4_rise : MethodName := ⟨RX4, "rise", "(I)I"⟩
def dkwX4_rise_2 : List UInt8 := [184, 1, 83, 172]
abbrev dktX4_rise_2 : List UInt8 := dkwX4_rise_2 ++ []
def dkwX4_rise_1 : List UInt8 := [182, 1, 181, 42, 180, 0, 88, 3, 92, 46, 4, 27, 120, 2, 130, 126, 79, 42, 180, 0, 88, 3, 46]
abbrev dktX4_rise_1 : List UInt8 := dkwX4_rise_1 ++ dktX4_rise_2
def dkwX4_rise_0 : List UInt8 := [42, 27, 182, 1, 154, 153, 0, 16, 42, 180, 0, 88, 3, 46, 27, 184, 1, 3, 154, 0, 5, 2, 172, 42]
abbrev dktX4_rise_0 : List UInt8 := dkwX4_rise_0 ++ dktX4_rise_1
theorem dksX4_rise_0 : cX4_rise.data.toList.drop 0 = dktX4_rise_0 := by decide +kernel
theorem dksX4_rise_1 : cX4_rise.data.toList.drop 24 = dktX4_rise_1 := dk_seg dksX4_rise_0 24 rfl rfl
theorem dksX4_rise_2 : cX4_rise.data.toList.drop 47 = dktX4_rise_2 := dk_seg dksX4_rise_1 23 rfl rfl
theorem dX4_rise_0 : decode cX4_rise 0 = .ok (.aload_n 0, 1) := dk_42 (dk_at dksX4_rise_0 0 rfl rfl)
theorem dX4_rise_1 : decode cX4_rise 1 = .ok (.iload_n 1, 1) := dk_27 (dk_at dksX4_rise_0 1 rfl rfl)
theorem dX4_rise_2 : decode cX4_rise 2 = .ok (.invokevirtual 410, 3) := dk_182 1 154 (dk_at dksX4_rise_0 2 rfl rfl)
theorem dX4_rise_5 : decode cX4_rise 5 = .ok (.ifCond .eq 16, 3) := dk_153 0 16 (dk_at dksX4_rise_0 5 rfl rfl)
theorem dX4_rise_8 : decode cX4_rise 8 = .ok (.aload_n 0, 1) := dk_42 (dk_at dksX4_rise_0 8 rfl rfl)
theorem dX4_rise_9 : decode cX4_rise 9 = .ok (.getfield 88, 3) := dk_180 0 88 (dk_at dksX4_rise_0 9 rfl rfl)
theorem dX4_rise_12 : decode cX4_rise 12 = .ok (.iconst 0, 1) := dk_3 (dk_at dksX4_rise_0 12 rfl rfl)
theorem dX4_rise_13 : decode cX4_rise 13 = .ok (.iaload, 1) := dk_46 (dk_at dksX4_rise_0 13 rfl rfl)
theorem dX4_rise_14 : decode cX4_rise 14 = .ok (.iload_n 1, 1) := dk_27 (dk_at dksX4_rise_0 14 rfl rfl)
theorem dX4_rise_15 : decode cX4_rise 15 = .ok (.invokestatic 259, 3) := dk_184 1 3 (dk_at dksX4_rise_0 15 rfl rfl)
theorem dX4_rise_18 : decode cX4_rise 18 = .ok (.ifCond .ne 5, 3) := dk_154 0 5 (dk_at dksX4_rise_0 18 rfl rfl)
theorem dX4_rise_21 : decode cX4_rise 21 = .ok (.iconst (-1), 1) := dk_2 (dk_at dksX4_rise_0 21 rfl rfl)
theorem dX4_rise_22 : decode cX4_rise 22 = .ok (.ireturn, 1) := dk_172 (dk_at dksX4_rise_0 22 rfl rfl)
theorem dX4_rise_23 : decode cX4_rise 23 = .ok (.aload_n 0, 1) := dk_42 (dk_at dksX4_rise_0 23 rfl rfl)
theorem dX4_rise_24 : decode cX4_rise 24 = .ok (.invokevirtual 437, 3) := dk_182 1 181 (dk_at dksX4_rise_1 0 rfl rfl)
theorem dX4_rise_27 : decode cX4_rise 27 = .ok (.aload_n 0, 1) := dk_42 (dk_at dksX4_rise_1 3 rfl rfl)
theorem dX4_rise_28 : decode cX4_rise 28 = .ok (.getfield 88, 3) := dk_180 0 88 (dk_at dksX4_rise_1 4 rfl rfl)
theorem dX4_rise_31 : decode cX4_rise 31 = .ok (.iconst 0, 1) := dk_3 (dk_at dksX4_rise_1 7 rfl rfl)
theorem dX4_rise_32 : decode cX4_rise 32 = .ok (.dup2, 1) := dk_92 (dk_at dksX4_rise_1 8 rfl rfl)
theorem dX4_rise_33 : decode cX4_rise 33 = .ok (.iaload, 1) := dk_46 (dk_at dksX4_rise_1 9 rfl rfl)
theorem dX4_rise_34 : decode cX4_rise 34 = .ok (.iconst 1, 1) := dk_4 (dk_at dksX4_rise_1 10 rfl rfl)
theorem dX4_rise_35 : decode cX4_rise 35 = .ok (.iload_n 1, 1) := dk_27 (dk_at dksX4_rise_1 11 rfl rfl)
theorem dX4_rise_36 : decode cX4_rise 36 = .ok (.ishl, 1) := dk_120 (dk_at dksX4_rise_1 12 rfl rfl)
theorem dX4_rise_37 : decode cX4_rise 37 = .ok (.iconst (-1), 1) := dk_2 (dk_at dksX4_rise_1 13 rfl rfl)
theorem dX4_rise_38 : decode cX4_rise 38 = .ok (.ixor, 1) := dk_130 (dk_at dksX4_rise_1 14 rfl rfl)
theorem dX4_rise_39 : decode cX4_rise 39 = .ok (.iand, 1) := dk_126 (dk_at dksX4_rise_1 15 rfl rfl)
theorem dX4_rise_40 : decode cX4_rise 40 = .ok (.iastore, 1) := dk_79 (dk_at dksX4_rise_1 16 rfl rfl)
theorem dX4_rise_41 : decode cX4_rise 41 = .ok (.aload_n 0, 1) := dk_42 (dk_at dksX4_rise_1 17 rfl rfl)
theorem dX4_rise_42 : decode cX4_rise 42 = .ok (.getfield 88, 3) := dk_180 0 88 (dk_at dksX4_rise_1 18 rfl rfl)
theorem dX4_rise_45 : decode cX4_rise 45 = .ok (.iconst 0, 1) := dk_3 (dk_at dksX4_rise_1 21 rfl rfl)
theorem dX4_rise_46 : decode cX4_rise 46 = .ok (.iaload, 1) := dk_46 (dk_at dksX4_rise_1 22 rfl rfl)
theorem dX4_rise_47 : decode cX4_rise 47 = .ok (.invokestatic 339, 3) := dk_184 1 83 (dk_at dksX4_rise_2 0 rfl rfl)
theorem dX4_rise_50 : decode cX4_rise 50 = .ok (.ireturn, 1) := dk_172 (dk_at dksX4_rise_2 3 rfl rfl)
abbrev cX4_grind : ByteArray := prog_23_method_87_code
def yX4_grind : MethodName := ⟨RX4, "grind", "(I)I"⟩
def dkwX4_grind_0 : List UInt8 := [42, 27, 182, 1, 169, 154, 0, 5, 2, 172, 42, 182, 1, 181, 42, 27, 182, 1, 184, 172]
abbrev dktX4_grind_0 : List UInt8 := dkwX4_grind_0 ++ []
theorem dksX4_grind_0 : cX4_grind.data.toList.drop 0 = dktX4_grind_0 := by decide +kernel
theorem dX4_grind_0 : decode cX4_grind 0 = .ok (.aload_n 0, 1) := dk_42 (dk_at dksX4_grind_0 0 rfl rfl)
theorem dX4_grind_1 : decode cX4_grind 1 = .ok (.iload_n 1, 1) := dk_27 (dk_at dksX4_grind_0 1 rfl rfl)
theorem dX4_grind_2 : decode cX4_grind 2 = .ok (.invokevirtual 425, 3) := dk_182 1 169 (dk_at dksX4_grind_0 2 rfl rfl)
theorem dX4_grind_5 : decode cX4_grind 5 = .ok (.ifCond .ne 5, 3) := dk_154 0 5 (dk_at dksX4_grind_0 5 rfl rfl)
theorem dX4_grind_8 : decode cX4_grind 8 = .ok (.iconst (-1), 1) := dk_2 (dk_at dksX4_grind_0 8 rfl rfl)
theorem dX4_grind_9 : decode cX4_grind 9 = .ok (.ireturn, 1) := dk_172 (dk_at dksX4_grind_0 9 rfl rfl)
theorem dX4_grind_10 : decode cX4_grind 10 = .ok (.aload_n 0, 1) := dk_42 (dk_at dksX4_grind_0 10 rfl rfl)
theorem dX4_grind_11 : decode cX4_grind 11 = .ok (.invokevirtual 437, 3) := dk_182 1 181 (dk_at dksX4_grind_0 11 rfl rfl)
theorem dX4_grind_14 : decode cX4_grind 14 = .ok (.aload_n 0, 1) := dk_42 (dk_at dksX4_grind_0 14 rfl rfl)
theorem dX4_grind_15 : decode cX4_grind 15 = .ok (.iload_n 1, 1) := dk_27 (dk_at dksX4_grind_0 15 rfl rfl)
theorem dX4_grind_16 : decode cX4_grind 16 = .ok (.invokevirtual 440, 3) := dk_182 1 184 (dk_at dksX4_grind_0 16 rfl rfl)
theorem dX4_grind_19 : decode cX4_grind 19 = .ok (.ireturn, 1) := dk_172 (dk_at dksX4_grind_0 19 rfl rfl)
abbrev cX4_goGrind : ByteArray := prog_23_method_64_code
def yX4_goGrind : MethodName := ⟨RX4, "goGrind", "(I)I"⟩
def dkwX4_goGrind_1 : List UInt8 := [46, 16, 99, 162, 0, 16, 42, 180, 0, 88, 16, 12, 27, 96, 92, 46, 4, 96, 79, 28, 172]
abbrev dktX4_goGrind_1 : List UInt8 := dkwX4_goGrind_1 ++ []
def dkwX4_goGrind_0 : List UInt8 := [42, 27, 182, 1, 151, 61, 42, 180, 0, 88, 4, 92, 46, 28, 128, 79, 42, 180, 0, 88, 16, 12, 27, 96]
abbrev dktX4_goGrind_0 : List UInt8 := dkwX4_goGrind_0 ++ dktX4_goGrind_1
theorem dksX4_goGrind_0 : cX4_goGrind.data.toList.drop 0 = dktX4_goGrind_0 := by decide +kernel
theorem dksX4_goGrind_1 : cX4_goGrind.data.toList.drop 24 = dktX4_goGrind_1 := dk_seg dksX4_goGrind_0 24 rfl rfl
theorem dX4_goGrind_0 : decode cX4_goGrind 0 = .ok (.aload_n 0, 1) := dk_42 (dk_at dksX4_goGrind_0 0 rfl rfl)
theorem dX4_goGrind_1 : decode cX4_goGrind 1 = .ok (.iload_n 1, 1) := dk_27 (dk_at dksX4_goGrind_0 1 rfl rfl)
theorem dX4_goGrind_2 : decode cX4_goGrind 2 = .ok (.invokevirtual 407, 3) := dk_182 1 151 (dk_at dksX4_goGrind_0 2 rfl rfl)
theorem dX4_goGrind_5 : decode cX4_goGrind 5 = .ok (.istore_n 2, 1) := dk_61 (dk_at dksX4_goGrind_0 5 rfl rfl)
theorem dX4_goGrind_6 : decode cX4_goGrind 6 = .ok (.aload_n 0, 1) := dk_42 (dk_at dksX4_goGrind_0 6 rfl rfl)
theorem dX4_goGrind_7 : decode cX4_goGrind 7 = .ok (.getfield 88, 3) := dk_180 0 88 (dk_at dksX4_goGrind_0 7 rfl rfl)
theorem dX4_goGrind_10 : decode cX4_goGrind 10 = .ok (.iconst 1, 1) := dk_4 (dk_at dksX4_goGrind_0 10 rfl rfl)
theorem dX4_goGrind_11 : decode cX4_goGrind 11 = .ok (.dup2, 1) := dk_92 (dk_at dksX4_goGrind_0 11 rfl rfl)
theorem dX4_goGrind_12 : decode cX4_goGrind 12 = .ok (.iaload, 1) := dk_46 (dk_at dksX4_goGrind_0 12 rfl rfl)
theorem dX4_goGrind_13 : decode cX4_goGrind 13 = .ok (.iload_n 2, 1) := dk_28 (dk_at dksX4_goGrind_0 13 rfl rfl)
theorem dX4_goGrind_14 : decode cX4_goGrind 14 = .ok (.ior, 1) := dk_128 (dk_at dksX4_goGrind_0 14 rfl rfl)
theorem dX4_goGrind_15 : decode cX4_goGrind 15 = .ok (.iastore, 1) := dk_79 (dk_at dksX4_goGrind_0 15 rfl rfl)
theorem dX4_goGrind_16 : decode cX4_goGrind 16 = .ok (.aload_n 0, 1) := dk_42 (dk_at dksX4_goGrind_0 16 rfl rfl)
theorem dX4_goGrind_17 : decode cX4_goGrind 17 = .ok (.getfield 88, 3) := dk_180 0 88 (dk_at dksX4_goGrind_0 17 rfl rfl)
theorem dX4_goGrind_20 : decode cX4_goGrind 20 = .ok (.bipush 12, 2) := dk_16 12 (dk_at dksX4_goGrind_0 20 rfl rfl)
theorem dX4_goGrind_22 : decode cX4_goGrind 22 = .ok (.iload_n 1, 1) := dk_27 (dk_at dksX4_goGrind_0 22 rfl rfl)
theorem dX4_goGrind_23 : decode cX4_goGrind 23 = .ok (.iadd, 1) := dk_96 (dk_at dksX4_goGrind_0 23 rfl rfl)
theorem dX4_goGrind_24 : decode cX4_goGrind 24 = .ok (.iaload, 1) := dk_46 (dk_at dksX4_goGrind_1 0 rfl rfl)
theorem dX4_goGrind_25 : decode cX4_goGrind 25 = .ok (.bipush 99, 2) := dk_16 99 (dk_at dksX4_goGrind_1 1 rfl rfl)
theorem dX4_goGrind_27 : decode cX4_goGrind 27 = .ok (.if_icmp .ge 16, 3) := dk_162 0 16 (dk_at dksX4_goGrind_1 3 rfl rfl)
theorem dX4_goGrind_30 : decode cX4_goGrind 30 = .ok (.aload_n 0, 1) := dk_42 (dk_at dksX4_goGrind_1 6 rfl rfl)
theorem dX4_goGrind_31 : decode cX4_goGrind 31 = .ok (.getfield 88, 3) := dk_180 0 88 (dk_at dksX4_goGrind_1 7 rfl rfl)
theorem dX4_goGrind_34 : decode cX4_goGrind 34 = .ok (.bipush 12, 2) := dk_16 12 (dk_at dksX4_goGrind_1 10 rfl rfl)
theorem dX4_goGrind_36 : decode cX4_goGrind 36 = .ok (.iload_n 1, 1) := dk_27 (dk_at dksX4_goGrind_1 12 rfl rfl)
theorem dX4_goGrind_37 : decode cX4_goGrind 37 = .ok (.iadd, 1) := dk_96 (dk_at dksX4_goGrind_1 13 rfl rfl)
theorem dX4_goGrind_38 : decode cX4_goGrind 38 = .ok (.dup2, 1) := dk_92 (dk_at dksX4_goGrind_1 14 rfl rfl)
theorem dX4_goGrind_39 : decode cX4_goGrind 39 = .ok (.iaload, 1) := dk_46 (dk_at dksX4_goGrind_1 15 rfl rfl)
theorem dX4_goGrind_40 : decode cX4_goGrind 40 = .ok (.iconst 1, 1) := dk_4 (dk_at dksX4_goGrind_1 16 rfl rfl)
theorem dX4_goGrind_41 : decode cX4_goGrind 41 = .ok (.iadd, 1) := dk_96 (dk_at dksX4_goGrind_1 17 rfl rfl)
theorem dX4_goGrind_42 : decode cX4_goGrind 42 = .ok (.iastore, 1) := dk_79 (dk_at dksX4_goGrind_1 18 rfl rfl)
theorem dX4_goGrind_43 : decode cX4_goGrind 43 = .ok (.iload_n 2, 1) := dk_28 (dk_at dksX4_goGrind_1 19 rfl rfl)
theorem dX4_goGrind_44 : decode cX4_goGrind 44 = .ok (.ireturn, 1) := dk_172 (dk_at dksX4_goGrind_1 20 rfl rfl)
abbrev cX4_pour : ByteArray := prog_23_method_88_code
def yX4_pour : MethodName := ⟨RX4, "pour", "(II)I"⟩
def dkwX4_pour_2 : List UInt8 := [182, 1, 181, 42, 180, 0, 88, 5, 27, 96, 46, 62, 42, 180, 0, 88, 5, 27, 96, 28, 79, 29, 172]
abbrev dktX4_pour_2 : List UInt8 := dkwX4_pour_2 ++ []
def dkwX4_pour_1 : List UInt8 := [182, 1, 130, 153, 0, 15, 42, 180, 0, 88, 5, 27, 96, 46, 28, 160, 0, 6, 16, 254, 172, 42]
abbrev dktX4_pour_1 : List UInt8 := dkwX4_pour_1 ++ dktX4_pour_2
def dkwX4_pour_0 : List UInt8 := [42, 27, 182, 1, 166, 153, 0, 37, 28, 2, 42, 182, 1, 109, 4, 100, 184, 1, 105, 153, 0, 23, 42, 27]
abbrev dktX4_pour_0 : List UInt8 := dkwX4_pour_0 ++ dktX4_pour_1
theorem dksX4_pour_0 : cX4_pour.data.toList.drop 0 = dktX4_pour_0 := by decide +kernel
theorem dksX4_pour_1 : cX4_pour.data.toList.drop 24 = dktX4_pour_1 := dk_seg dksX4_pour_0 24 rfl rfl
theorem dksX4_pour_2 : cX4_pour.data.toList.drop 46 = dktX4_pour_2 := dk_seg dksX4_pour_1 22 rfl rfl
theorem dX4_pour_0 : decode cX4_pour 0 = .ok (.aload_n 0, 1) := dk_42 (dk_at dksX4_pour_0 0 rfl rfl)
theorem dX4_pour_1 : decode cX4_pour 1 = .ok (.iload_n 1, 1) := dk_27 (dk_at dksX4_pour_0 1 rfl rfl)
theorem dX4_pour_2 : decode cX4_pour 2 = .ok (.invokevirtual 422, 3) := dk_182 1 166 (dk_at dksX4_pour_0 2 rfl rfl)
theorem dX4_pour_5 : decode cX4_pour 5 = .ok (.ifCond .eq 37, 3) := dk_153 0 37 (dk_at dksX4_pour_0 5 rfl rfl)
theorem dX4_pour_8 : decode cX4_pour 8 = .ok (.iload_n 2, 1) := dk_28 (dk_at dksX4_pour_0 8 rfl rfl)
theorem dX4_pour_9 : decode cX4_pour 9 = .ok (.iconst (-1), 1) := dk_2 (dk_at dksX4_pour_0 9 rfl rfl)
theorem dX4_pour_10 : decode cX4_pour 10 = .ok (.aload_n 0, 1) := dk_42 (dk_at dksX4_pour_0 10 rfl rfl)
theorem dX4_pour_11 : decode cX4_pour 11 = .ok (.invokevirtual 365, 3) := dk_182 1 109 (dk_at dksX4_pour_0 11 rfl rfl)
theorem dX4_pour_14 : decode cX4_pour 14 = .ok (.iconst 1, 1) := dk_4 (dk_at dksX4_pour_0 14 rfl rfl)
theorem dX4_pour_15 : decode cX4_pour 15 = .ok (.isub, 1) := dk_100 (dk_at dksX4_pour_0 15 rfl rfl)
theorem dX4_pour_16 : decode cX4_pour 16 = .ok (.invokestatic 361, 3) := dk_184 1 105 (dk_at dksX4_pour_0 16 rfl rfl)
theorem dX4_pour_19 : decode cX4_pour 19 = .ok (.ifCond .eq 23, 3) := dk_153 0 23 (dk_at dksX4_pour_0 19 rfl rfl)
theorem dX4_pour_22 : decode cX4_pour 22 = .ok (.aload_n 0, 1) := dk_42 (dk_at dksX4_pour_0 22 rfl rfl)
theorem dX4_pour_23 : decode cX4_pour 23 = .ok (.iload_n 1, 1) := dk_27 (dk_at dksX4_pour_0 23 rfl rfl)
theorem dX4_pour_24 : decode cX4_pour 24 = .ok (.invokevirtual 386, 3) := dk_182 1 130 (dk_at dksX4_pour_1 0 rfl rfl)
theorem dX4_pour_27 : decode cX4_pour 27 = .ok (.ifCond .eq 15, 3) := dk_153 0 15 (dk_at dksX4_pour_1 3 rfl rfl)
theorem dX4_pour_30 : decode cX4_pour 30 = .ok (.aload_n 0, 1) := dk_42 (dk_at dksX4_pour_1 6 rfl rfl)
theorem dX4_pour_31 : decode cX4_pour 31 = .ok (.getfield 88, 3) := dk_180 0 88 (dk_at dksX4_pour_1 7 rfl rfl)
theorem dX4_pour_34 : decode cX4_pour 34 = .ok (.iconst 2, 1) := dk_5 (dk_at dksX4_pour_1 10 rfl rfl)
theorem dX4_pour_35 : decode cX4_pour 35 = .ok (.iload_n 1, 1) := dk_27 (dk_at dksX4_pour_1 11 rfl rfl)
theorem dX4_pour_36 : decode cX4_pour 36 = .ok (.iadd, 1) := dk_96 (dk_at dksX4_pour_1 12 rfl rfl)
theorem dX4_pour_37 : decode cX4_pour 37 = .ok (.iaload, 1) := dk_46 (dk_at dksX4_pour_1 13 rfl rfl)
theorem dX4_pour_38 : decode cX4_pour 38 = .ok (.iload_n 2, 1) := dk_28 (dk_at dksX4_pour_1 14 rfl rfl)
theorem dX4_pour_39 : decode cX4_pour 39 = .ok (.if_icmp .ne 6, 3) := dk_160 0 6 (dk_at dksX4_pour_1 15 rfl rfl)
theorem dX4_pour_42 : decode cX4_pour 42 = .ok (.bipush (-2), 2) := dk_16 254 (dk_at dksX4_pour_1 18 rfl rfl)
theorem dX4_pour_44 : decode cX4_pour 44 = .ok (.ireturn, 1) := dk_172 (dk_at dksX4_pour_1 20 rfl rfl)
theorem dX4_pour_45 : decode cX4_pour 45 = .ok (.aload_n 0, 1) := dk_42 (dk_at dksX4_pour_1 21 rfl rfl)
theorem dX4_pour_46 : decode cX4_pour 46 = .ok (.invokevirtual 437, 3) := dk_182 1 181 (dk_at dksX4_pour_2 0 rfl rfl)
theorem dX4_pour_49 : decode cX4_pour 49 = .ok (.aload_n 0, 1) := dk_42 (dk_at dksX4_pour_2 3 rfl rfl)
theorem dX4_pour_50 : decode cX4_pour 50 = .ok (.getfield 88, 3) := dk_180 0 88 (dk_at dksX4_pour_2 4 rfl rfl)
theorem dX4_pour_53 : decode cX4_pour 53 = .ok (.iconst 2, 1) := dk_5 (dk_at dksX4_pour_2 7 rfl rfl)
theorem dX4_pour_54 : decode cX4_pour 54 = .ok (.iload_n 1, 1) := dk_27 (dk_at dksX4_pour_2 8 rfl rfl)
theorem dX4_pour_55 : decode cX4_pour 55 = .ok (.iadd, 1) := dk_96 (dk_at dksX4_pour_2 9 rfl rfl)
theorem dX4_pour_56 : decode cX4_pour 56 = .ok (.iaload, 1) := dk_46 (dk_at dksX4_pour_2 10 rfl rfl)
theorem dX4_pour_57 : decode cX4_pour 57 = .ok (.istore_n 3, 1) := dk_62 (dk_at dksX4_pour_2 11 rfl rfl)
theorem dX4_pour_58 : decode cX4_pour 58 = .ok (.aload_n 0, 1) := dk_42 (dk_at dksX4_pour_2 12 rfl rfl)
theorem dX4_pour_59 : decode cX4_pour 59 = .ok (.getfield 88, 3) := dk_180 0 88 (dk_at dksX4_pour_2 13 rfl rfl)
theorem dX4_pour_62 : decode cX4_pour 62 = .ok (.iconst 2, 1) := dk_5 (dk_at dksX4_pour_2 16 rfl rfl)
theorem dX4_pour_63 : decode cX4_pour 63 = .ok (.iload_n 1, 1) := dk_27 (dk_at dksX4_pour_2 17 rfl rfl)
theorem dX4_pour_64 : decode cX4_pour 64 = .ok (.iadd, 1) := dk_96 (dk_at dksX4_pour_2 18 rfl rfl)
theorem dX4_pour_65 : decode cX4_pour 65 = .ok (.iload_n 2, 1) := dk_28 (dk_at dksX4_pour_2 19 rfl rfl)
theorem dX4_pour_66 : decode cX4_pour 66 = .ok (.iastore, 1) := dk_79 (dk_at dksX4_pour_2 20 rfl rfl)
theorem dX4_pour_67 : decode cX4_pour 67 = .ok (.iload_n 3, 1) := dk_29 (dk_at dksX4_pour_2 21 rfl rfl)
theorem dX4_pour_68 : decode cX4_pour 68 = .ok (.ireturn, 1) := dk_172 (dk_at dksX4_pour_2 22 rfl rfl)
abbrev cX4_course : ByteArray := prog_23_method_89_code
def yX4_course : MethodName := ⟨RX4, "course", "()I"⟩
def dkwX4_course_4 : List UInt8 := [4, 92, 46, 4, 27, 120, 128, 79, 27, 172]
abbrev dktX4_course_4 : List UInt8 := dkwX4_course_4 ++ []
def dkwX4_course_3 : List UInt8 := [180, 0, 253, 46, 162, 0, 10, 42, 182, 1, 178, 167, 0, 4, 2, 60, 27, 155, 0, 15, 42, 180, 0, 88]
abbrev dktX4_course_3 : List UInt8 := dkwX4_course_3 ++ dktX4_course_4
def dkwX4_course_2 : List UInt8 := [16, 71, 96, 17, 3, 232, 112, 79, 42, 180, 0, 88, 16, 18, 46, 16, 100, 112, 42, 180, 0, 33, 42]
abbrev dktX4_course_2 : List UInt8 := dkwX4_course_2 ++ dktX4_course_3
def dkwX4_course_1 : List UInt8 := [16, 17, 92, 46, 4, 96, 79, 42, 180, 0, 88, 16, 18, 17, 0, 137, 42, 180, 0, 88, 16, 18, 46, 104]
abbrev dktX4_course_1 : List UInt8 := dkwX4_course_1 ++ dktX4_course_2
def dkwX4_course_0 : List UInt8 := [42, 180, 0, 88, 16, 17, 46, 17, 3, 231, 160, 0, 6, 16, 254, 172, 42, 182, 1, 181, 42, 180, 0, 88]
abbrev dktX4_course_0 : List UInt8 := dkwX4_course_0 ++ dktX4_course_1
theorem dksX4_course_0 : cX4_course.data.toList.drop 0 = dktX4_course_0 := by decide +kernel
theorem dksX4_course_1 : cX4_course.data.toList.drop 24 = dktX4_course_1 := dk_seg dksX4_course_0 24 rfl rfl
theorem dksX4_course_2 : cX4_course.data.toList.drop 48 = dktX4_course_2 := dk_seg dksX4_course_1 24 rfl rfl
theorem dksX4_course_3 : cX4_course.data.toList.drop 71 = dktX4_course_3 := dk_seg dksX4_course_2 23 rfl rfl
theorem dksX4_course_4 : cX4_course.data.toList.drop 95 = dktX4_course_4 := dk_seg dksX4_course_3 24 rfl rfl
theorem dX4_course_0 : decode cX4_course 0 = .ok (.aload_n 0, 1) := dk_42 (dk_at dksX4_course_0 0 rfl rfl)
theorem dX4_course_1 : decode cX4_course 1 = .ok (.getfield 88, 3) := dk_180 0 88 (dk_at dksX4_course_0 1 rfl rfl)
theorem dX4_course_4 : decode cX4_course 4 = .ok (.bipush 17, 2) := dk_16 17 (dk_at dksX4_course_0 4 rfl rfl)
theorem dX4_course_6 : decode cX4_course 6 = .ok (.iaload, 1) := dk_46 (dk_at dksX4_course_0 6 rfl rfl)
theorem dX4_course_7 : decode cX4_course 7 = .ok (.sipush 999, 3) := dk_17 3 231 (dk_at dksX4_course_0 7 rfl rfl)
theorem dX4_course_10 : decode cX4_course 10 = .ok (.if_icmp .ne 6, 3) := dk_160 0 6 (dk_at dksX4_course_0 10 rfl rfl)
theorem dX4_course_13 : decode cX4_course 13 = .ok (.bipush (-2), 2) := dk_16 254 (dk_at dksX4_course_0 13 rfl rfl)
theorem dX4_course_15 : decode cX4_course 15 = .ok (.ireturn, 1) := dk_172 (dk_at dksX4_course_0 15 rfl rfl)
theorem dX4_course_16 : decode cX4_course 16 = .ok (.aload_n 0, 1) := dk_42 (dk_at dksX4_course_0 16 rfl rfl)
theorem dX4_course_17 : decode cX4_course 17 = .ok (.invokevirtual 437, 3) := dk_182 1 181 (dk_at dksX4_course_0 17 rfl rfl)
theorem dX4_course_20 : decode cX4_course 20 = .ok (.aload_n 0, 1) := dk_42 (dk_at dksX4_course_0 20 rfl rfl)
theorem dX4_course_21 : decode cX4_course 21 = .ok (.getfield 88, 3) := dk_180 0 88 (dk_at dksX4_course_0 21 rfl rfl)
theorem dX4_course_24 : decode cX4_course 24 = .ok (.bipush 17, 2) := dk_16 17 (dk_at dksX4_course_1 0 rfl rfl)
theorem dX4_course_26 : decode cX4_course 26 = .ok (.dup2, 1) := dk_92 (dk_at dksX4_course_1 2 rfl rfl)
theorem dX4_course_27 : decode cX4_course 27 = .ok (.iaload, 1) := dk_46 (dk_at dksX4_course_1 3 rfl rfl)
theorem dX4_course_28 : decode cX4_course 28 = .ok (.iconst 1, 1) := dk_4 (dk_at dksX4_course_1 4 rfl rfl)
theorem dX4_course_29 : decode cX4_course 29 = .ok (.iadd, 1) := dk_96 (dk_at dksX4_course_1 5 rfl rfl)
theorem dX4_course_30 : decode cX4_course 30 = .ok (.iastore, 1) := dk_79 (dk_at dksX4_course_1 6 rfl rfl)
theorem dX4_course_31 : decode cX4_course 31 = .ok (.aload_n 0, 1) := dk_42 (dk_at dksX4_course_1 7 rfl rfl)
theorem dX4_course_32 : decode cX4_course 32 = .ok (.getfield 88, 3) := dk_180 0 88 (dk_at dksX4_course_1 8 rfl rfl)
theorem dX4_course_35 : decode cX4_course 35 = .ok (.bipush 18, 2) := dk_16 18 (dk_at dksX4_course_1 11 rfl rfl)
theorem dX4_course_37 : decode cX4_course 37 = .ok (.sipush 137, 3) := dk_17 0 137 (dk_at dksX4_course_1 13 rfl rfl)
theorem dX4_course_40 : decode cX4_course 40 = .ok (.aload_n 0, 1) := dk_42 (dk_at dksX4_course_1 16 rfl rfl)
theorem dX4_course_41 : decode cX4_course 41 = .ok (.getfield 88, 3) := dk_180 0 88 (dk_at dksX4_course_1 17 rfl rfl)
theorem dX4_course_44 : decode cX4_course 44 = .ok (.bipush 18, 2) := dk_16 18 (dk_at dksX4_course_1 20 rfl rfl)
theorem dX4_course_46 : decode cX4_course 46 = .ok (.iaload, 1) := dk_46 (dk_at dksX4_course_1 22 rfl rfl)
theorem dX4_course_47 : decode cX4_course 47 = .ok (.imul, 1) := dk_104 (dk_at dksX4_course_1 23 rfl rfl)
theorem dX4_course_48 : decode cX4_course 48 = .ok (.bipush 71, 2) := dk_16 71 (dk_at dksX4_course_2 0 rfl rfl)
theorem dX4_course_50 : decode cX4_course 50 = .ok (.iadd, 1) := dk_96 (dk_at dksX4_course_2 2 rfl rfl)
theorem dX4_course_51 : decode cX4_course 51 = .ok (.sipush 1000, 3) := dk_17 3 232 (dk_at dksX4_course_2 3 rfl rfl)
theorem dX4_course_54 : decode cX4_course 54 = .ok (.irem, 1) := dk_112 (dk_at dksX4_course_2 6 rfl rfl)
theorem dX4_course_55 : decode cX4_course 55 = .ok (.iastore, 1) := dk_79 (dk_at dksX4_course_2 7 rfl rfl)
theorem dX4_course_56 : decode cX4_course 56 = .ok (.aload_n 0, 1) := dk_42 (dk_at dksX4_course_2 8 rfl rfl)
theorem dX4_course_57 : decode cX4_course 57 = .ok (.getfield 88, 3) := dk_180 0 88 (dk_at dksX4_course_2 9 rfl rfl)
theorem dX4_course_60 : decode cX4_course 60 = .ok (.bipush 18, 2) := dk_16 18 (dk_at dksX4_course_2 12 rfl rfl)
theorem dX4_course_62 : decode cX4_course 62 = .ok (.iaload, 1) := dk_46 (dk_at dksX4_course_2 14 rfl rfl)
theorem dX4_course_63 : decode cX4_course 63 = .ok (.bipush 100, 2) := dk_16 100 (dk_at dksX4_course_2 15 rfl rfl)
theorem dX4_course_65 : decode cX4_course 65 = .ok (.irem, 1) := dk_112 (dk_at dksX4_course_2 17 rfl rfl)
theorem dX4_course_66 : decode cX4_course 66 = .ok (.aload_n 0, 1) := dk_42 (dk_at dksX4_course_2 18 rfl rfl)
theorem dX4_course_67 : decode cX4_course 67 = .ok (.getfield 33, 3) := dk_180 0 33 (dk_at dksX4_course_2 19 rfl rfl)
theorem dX4_course_70 : decode cX4_course 70 = .ok (.aload_n 0, 1) := dk_42 (dk_at dksX4_course_2 22 rfl rfl)
theorem dX4_course_71 : decode cX4_course 71 = .ok (.getfield 253, 3) := dk_180 0 253 (dk_at dksX4_course_3 0 rfl rfl)
theorem dX4_course_74 : decode cX4_course 74 = .ok (.iaload, 1) := dk_46 (dk_at dksX4_course_3 3 rfl rfl)
theorem dX4_course_75 : decode cX4_course 75 = .ok (.if_icmp .ge 10, 3) := dk_162 0 10 (dk_at dksX4_course_3 4 rfl rfl)
theorem dX4_course_78 : decode cX4_course 78 = .ok (.aload_n 0, 1) := dk_42 (dk_at dksX4_course_3 7 rfl rfl)
theorem dX4_course_79 : decode cX4_course 79 = .ok (.invokevirtual 434, 3) := dk_182 1 178 (dk_at dksX4_course_3 8 rfl rfl)
theorem dX4_course_82 : decode cX4_course 82 = .ok (.goto 4, 3) := dk_167 0 4 (dk_at dksX4_course_3 11 rfl rfl)
theorem dX4_course_85 : decode cX4_course 85 = .ok (.iconst (-1), 1) := dk_2 (dk_at dksX4_course_3 14 rfl rfl)
theorem dX4_course_86 : decode cX4_course 86 = .ok (.istore_n 1, 1) := dk_60 (dk_at dksX4_course_3 15 rfl rfl)
theorem dX4_course_87 : decode cX4_course 87 = .ok (.iload_n 1, 1) := dk_27 (dk_at dksX4_course_3 16 rfl rfl)
theorem dX4_course_88 : decode cX4_course 88 = .ok (.ifCond .lt 15, 3) := dk_155 0 15 (dk_at dksX4_course_3 17 rfl rfl)
theorem dX4_course_91 : decode cX4_course 91 = .ok (.aload_n 0, 1) := dk_42 (dk_at dksX4_course_3 20 rfl rfl)
theorem dX4_course_92 : decode cX4_course 92 = .ok (.getfield 88, 3) := dk_180 0 88 (dk_at dksX4_course_3 21 rfl rfl)
theorem dX4_course_95 : decode cX4_course 95 = .ok (.iconst 1, 1) := dk_4 (dk_at dksX4_course_4 0 rfl rfl)
theorem dX4_course_96 : decode cX4_course 96 = .ok (.dup2, 1) := dk_92 (dk_at dksX4_course_4 1 rfl rfl)
theorem dX4_course_97 : decode cX4_course 97 = .ok (.iaload, 1) := dk_46 (dk_at dksX4_course_4 2 rfl rfl)
theorem dX4_course_98 : decode cX4_course 98 = .ok (.iconst 1, 1) := dk_4 (dk_at dksX4_course_4 3 rfl rfl)
theorem dX4_course_99 : decode cX4_course 99 = .ok (.iload_n 1, 1) := dk_27 (dk_at dksX4_course_4 4 rfl rfl)
theorem dX4_course_100 : decode cX4_course 100 = .ok (.ishl, 1) := dk_120 (dk_at dksX4_course_4 5 rfl rfl)
theorem dX4_course_101 : decode cX4_course 101 = .ok (.ior, 1) := dk_128 (dk_at dksX4_course_4 6 rfl rfl)
theorem dX4_course_102 : decode cX4_course 102 = .ok (.iastore, 1) := dk_79 (dk_at dksX4_course_4 7 rfl rfl)
theorem dX4_course_103 : decode cX4_course 103 = .ok (.iload_n 1, 1) := dk_27 (dk_at dksX4_course_4 8 rfl rfl)
theorem dX4_course_104 : decode cX4_course 104 = .ok (.ireturn, 1) := dk_172 (dk_at dksX4_course_4 9 rfl rfl)
abbrev cX4_undo : ByteArray := prog_23_method_90_code
def yX4_undo : MethodName := ⟨RX4, "undo", "()Z"⟩
def dkwX4_undo_1 : List UInt8 := [4, 96, 181, 1, 121, 42, 182, 1, 187, 4, 172]
abbrev dktX4_undo_1 : List UInt8 := dkwX4_undo_1 ++ []
def dkwX4_undo_0 : List UInt8 := [42, 180, 1, 118, 154, 0, 5, 3, 172, 42, 89, 180, 1, 118, 4, 100, 181, 1, 118, 42, 89, 180, 1, 121]
abbrev dktX4_undo_0 : List UInt8 := dkwX4_undo_0 ++ dktX4_undo_1
theorem dksX4_undo_0 : cX4_undo.data.toList.drop 0 = dktX4_undo_0 := by decide +kernel
theorem dksX4_undo_1 : cX4_undo.data.toList.drop 24 = dktX4_undo_1 := dk_seg dksX4_undo_0 24 rfl rfl
theorem dX4_undo_0 : decode cX4_undo 0 = .ok (.aload_n 0, 1) := dk_42 (dk_at dksX4_undo_0 0 rfl rfl)
theorem dX4_undo_1 : decode cX4_undo 1 = .ok (.getfield 374, 3) := dk_180 1 118 (dk_at dksX4_undo_0 1 rfl rfl)
theorem dX4_undo_4 : decode cX4_undo 4 = .ok (.ifCond .ne 5, 3) := dk_154 0 5 (dk_at dksX4_undo_0 4 rfl rfl)
theorem dX4_undo_7 : decode cX4_undo 7 = .ok (.iconst 0, 1) := dk_3 (dk_at dksX4_undo_0 7 rfl rfl)
theorem dX4_undo_8 : decode cX4_undo 8 = .ok (.ireturn, 1) := dk_172 (dk_at dksX4_undo_0 8 rfl rfl)
theorem dX4_undo_9 : decode cX4_undo 9 = .ok (.aload_n 0, 1) := dk_42 (dk_at dksX4_undo_0 9 rfl rfl)
theorem dX4_undo_10 : decode cX4_undo 10 = .ok (.dup, 1) := dk_89 (dk_at dksX4_undo_0 10 rfl rfl)
theorem dX4_undo_11 : decode cX4_undo 11 = .ok (.getfield 374, 3) := dk_180 1 118 (dk_at dksX4_undo_0 11 rfl rfl)
theorem dX4_undo_14 : decode cX4_undo 14 = .ok (.iconst 1, 1) := dk_4 (dk_at dksX4_undo_0 14 rfl rfl)
theorem dX4_undo_15 : decode cX4_undo 15 = .ok (.isub, 1) := dk_100 (dk_at dksX4_undo_0 15 rfl rfl)
theorem dX4_undo_16 : decode cX4_undo 16 = .ok (.putfield 374, 3) := dk_181 1 118 (dk_at dksX4_undo_0 16 rfl rfl)
theorem dX4_undo_19 : decode cX4_undo 19 = .ok (.aload_n 0, 1) := dk_42 (dk_at dksX4_undo_0 19 rfl rfl)
theorem dX4_undo_20 : decode cX4_undo 20 = .ok (.dup, 1) := dk_89 (dk_at dksX4_undo_0 20 rfl rfl)
theorem dX4_undo_21 : decode cX4_undo 21 = .ok (.getfield 377, 3) := dk_180 1 121 (dk_at dksX4_undo_0 21 rfl rfl)
theorem dX4_undo_24 : decode cX4_undo 24 = .ok (.iconst 1, 1) := dk_4 (dk_at dksX4_undo_1 0 rfl rfl)
theorem dX4_undo_25 : decode cX4_undo 25 = .ok (.iadd, 1) := dk_96 (dk_at dksX4_undo_1 1 rfl rfl)
theorem dX4_undo_26 : decode cX4_undo 26 = .ok (.putfield 377, 3) := dk_181 1 121 (dk_at dksX4_undo_1 2 rfl rfl)
theorem dX4_undo_29 : decode cX4_undo 29 = .ok (.aload_n 0, 1) := dk_42 (dk_at dksX4_undo_1 5 rfl rfl)
theorem dX4_undo_30 : decode cX4_undo 30 = .ok (.invokevirtual 443, 3) := dk_182 1 187 (dk_at dksX4_undo_1 6 rfl rfl)
theorem dX4_undo_33 : decode cX4_undo 33 = .ok (.iconst 1, 1) := dk_4 (dk_at dksX4_undo_1 9 rfl rfl)
theorem dX4_undo_34 : decode cX4_undo 34 = .ok (.ireturn, 1) := dk_172 (dk_at dksX4_undo_1 10 rfl rfl)
abbrev cX4_swapAll : ByteArray := prog_23_method_84_code
def yX4_swapAll : MethodName := ⟨RX4, "swapAll", "()V"⟩
def dkwX4_swapAll_2 : List UInt8 := [28, 79, 132, 1, 1, 167, 255, 205, 177]
abbrev dktX4_swapAll_2 : List UInt8 := dkwX4_swapAll_2 ++ []
def dkwX4_swapAll_1 : List UInt8 := [180, 0, 94, 16, 19, 42, 180, 1, 118, 104, 27, 96, 42, 180, 0, 88, 27, 46, 79, 42, 180, 0, 88, 27]
abbrev dktX4_swapAll_1 : List UInt8 := dkwX4_swapAll_1 ++ dktX4_swapAll_2
def dkwX4_swapAll_0 : List UInt8 := [3, 60, 27, 16, 19, 162, 0, 51, 42, 180, 0, 94, 16, 19, 42, 180, 1, 118, 104, 27, 96, 46, 61, 42]
abbrev dktX4_swapAll_0 : List UInt8 := dkwX4_swapAll_0 ++ dktX4_swapAll_1
theorem dksX4_swapAll_0 : cX4_swapAll.data.toList.drop 0 = dktX4_swapAll_0 := by decide +kernel
theorem dksX4_swapAll_1 : cX4_swapAll.data.toList.drop 24 = dktX4_swapAll_1 := dk_seg dksX4_swapAll_0 24 rfl rfl
theorem dksX4_swapAll_2 : cX4_swapAll.data.toList.drop 48 = dktX4_swapAll_2 := dk_seg dksX4_swapAll_1 24 rfl rfl
theorem dX4_swapAll_0 : decode cX4_swapAll 0 = .ok (.iconst 0, 1) := dk_3 (dk_at dksX4_swapAll_0 0 rfl rfl)
theorem dX4_swapAll_1 : decode cX4_swapAll 1 = .ok (.istore_n 1, 1) := dk_60 (dk_at dksX4_swapAll_0 1 rfl rfl)
theorem dX4_swapAll_2 : decode cX4_swapAll 2 = .ok (.iload_n 1, 1) := dk_27 (dk_at dksX4_swapAll_0 2 rfl rfl)
theorem dX4_swapAll_3 : decode cX4_swapAll 3 = .ok (.bipush 19, 2) := dk_16 19 (dk_at dksX4_swapAll_0 3 rfl rfl)
theorem dX4_swapAll_5 : decode cX4_swapAll 5 = .ok (.if_icmp .ge 51, 3) := dk_162 0 51 (dk_at dksX4_swapAll_0 5 rfl rfl)
theorem dX4_swapAll_8 : decode cX4_swapAll 8 = .ok (.aload_n 0, 1) := dk_42 (dk_at dksX4_swapAll_0 8 rfl rfl)
theorem dX4_swapAll_9 : decode cX4_swapAll 9 = .ok (.getfield 94, 3) := dk_180 0 94 (dk_at dksX4_swapAll_0 9 rfl rfl)
theorem dX4_swapAll_12 : decode cX4_swapAll 12 = .ok (.bipush 19, 2) := dk_16 19 (dk_at dksX4_swapAll_0 12 rfl rfl)
theorem dX4_swapAll_14 : decode cX4_swapAll 14 = .ok (.aload_n 0, 1) := dk_42 (dk_at dksX4_swapAll_0 14 rfl rfl)
theorem dX4_swapAll_15 : decode cX4_swapAll 15 = .ok (.getfield 374, 3) := dk_180 1 118 (dk_at dksX4_swapAll_0 15 rfl rfl)
theorem dX4_swapAll_18 : decode cX4_swapAll 18 = .ok (.imul, 1) := dk_104 (dk_at dksX4_swapAll_0 18 rfl rfl)
theorem dX4_swapAll_19 : decode cX4_swapAll 19 = .ok (.iload_n 1, 1) := dk_27 (dk_at dksX4_swapAll_0 19 rfl rfl)
theorem dX4_swapAll_20 : decode cX4_swapAll 20 = .ok (.iadd, 1) := dk_96 (dk_at dksX4_swapAll_0 20 rfl rfl)
theorem dX4_swapAll_21 : decode cX4_swapAll 21 = .ok (.iaload, 1) := dk_46 (dk_at dksX4_swapAll_0 21 rfl rfl)
theorem dX4_swapAll_22 : decode cX4_swapAll 22 = .ok (.istore_n 2, 1) := dk_61 (dk_at dksX4_swapAll_0 22 rfl rfl)
theorem dX4_swapAll_23 : decode cX4_swapAll 23 = .ok (.aload_n 0, 1) := dk_42 (dk_at dksX4_swapAll_0 23 rfl rfl)
theorem dX4_swapAll_24 : decode cX4_swapAll 24 = .ok (.getfield 94, 3) := dk_180 0 94 (dk_at dksX4_swapAll_1 0 rfl rfl)
theorem dX4_swapAll_27 : decode cX4_swapAll 27 = .ok (.bipush 19, 2) := dk_16 19 (dk_at dksX4_swapAll_1 3 rfl rfl)
theorem dX4_swapAll_29 : decode cX4_swapAll 29 = .ok (.aload_n 0, 1) := dk_42 (dk_at dksX4_swapAll_1 5 rfl rfl)
theorem dX4_swapAll_30 : decode cX4_swapAll 30 = .ok (.getfield 374, 3) := dk_180 1 118 (dk_at dksX4_swapAll_1 6 rfl rfl)
theorem dX4_swapAll_33 : decode cX4_swapAll 33 = .ok (.imul, 1) := dk_104 (dk_at dksX4_swapAll_1 9 rfl rfl)
theorem dX4_swapAll_34 : decode cX4_swapAll 34 = .ok (.iload_n 1, 1) := dk_27 (dk_at dksX4_swapAll_1 10 rfl rfl)
theorem dX4_swapAll_35 : decode cX4_swapAll 35 = .ok (.iadd, 1) := dk_96 (dk_at dksX4_swapAll_1 11 rfl rfl)
theorem dX4_swapAll_36 : decode cX4_swapAll 36 = .ok (.aload_n 0, 1) := dk_42 (dk_at dksX4_swapAll_1 12 rfl rfl)
theorem dX4_swapAll_37 : decode cX4_swapAll 37 = .ok (.getfield 88, 3) := dk_180 0 88 (dk_at dksX4_swapAll_1 13 rfl rfl)
theorem dX4_swapAll_40 : decode cX4_swapAll 40 = .ok (.iload_n 1, 1) := dk_27 (dk_at dksX4_swapAll_1 16 rfl rfl)
theorem dX4_swapAll_41 : decode cX4_swapAll 41 = .ok (.iaload, 1) := dk_46 (dk_at dksX4_swapAll_1 17 rfl rfl)
theorem dX4_swapAll_42 : decode cX4_swapAll 42 = .ok (.iastore, 1) := dk_79 (dk_at dksX4_swapAll_1 18 rfl rfl)
theorem dX4_swapAll_43 : decode cX4_swapAll 43 = .ok (.aload_n 0, 1) := dk_42 (dk_at dksX4_swapAll_1 19 rfl rfl)
theorem dX4_swapAll_44 : decode cX4_swapAll 44 = .ok (.getfield 88, 3) := dk_180 0 88 (dk_at dksX4_swapAll_1 20 rfl rfl)
theorem dX4_swapAll_47 : decode cX4_swapAll 47 = .ok (.iload_n 1, 1) := dk_27 (dk_at dksX4_swapAll_1 23 rfl rfl)
theorem dX4_swapAll_48 : decode cX4_swapAll 48 = .ok (.iload_n 2, 1) := dk_28 (dk_at dksX4_swapAll_2 0 rfl rfl)
theorem dX4_swapAll_49 : decode cX4_swapAll 49 = .ok (.iastore, 1) := dk_79 (dk_at dksX4_swapAll_2 1 rfl rfl)
theorem dX4_swapAll_50 : decode cX4_swapAll 50 = .ok (.iinc 1 1, 3) := dk_132 1 1 (dk_at dksX4_swapAll_2 2 rfl rfl)
theorem dX4_swapAll_53 : decode cX4_swapAll 53 = .ok (.goto (-51), 3) := dk_167 255 205 (dk_at dksX4_swapAll_2 5 rfl rfl)
theorem dX4_swapAll_56 : decode cX4_swapAll 56 = .ok (.return_, 1) := dk_177 (dk_at dksX4_swapAll_2 8 rfl rfl)
abbrev cX4_redo : ByteArray := prog_23_method_91_code
def yX4_redo : MethodName := ⟨RX4, "redo", "()Z"⟩
def dkwX4_redo_1 : List UInt8 := [89, 180, 1, 121, 4, 100, 181, 1, 121, 4, 172]
abbrev dktX4_redo_1 : List UInt8 := dkwX4_redo_1 ++ []
def dkwX4_redo_0 : List UInt8 := [42, 180, 1, 121, 154, 0, 5, 3, 172, 42, 182, 1, 187, 42, 89, 180, 1, 118, 4, 96, 181, 1, 118, 42]
abbrev dktX4_redo_0 : List UInt8 := dkwX4_redo_0 ++ dktX4_redo_1
theorem dksX4_redo_0 : cX4_redo.data.toList.drop 0 = dktX4_redo_0 := by decide +kernel
theorem dksX4_redo_1 : cX4_redo.data.toList.drop 24 = dktX4_redo_1 := dk_seg dksX4_redo_0 24 rfl rfl
theorem dX4_redo_0 : decode cX4_redo 0 = .ok (.aload_n 0, 1) := dk_42 (dk_at dksX4_redo_0 0 rfl rfl)
theorem dX4_redo_1 : decode cX4_redo 1 = .ok (.getfield 377, 3) := dk_180 1 121 (dk_at dksX4_redo_0 1 rfl rfl)
theorem dX4_redo_4 : decode cX4_redo 4 = .ok (.ifCond .ne 5, 3) := dk_154 0 5 (dk_at dksX4_redo_0 4 rfl rfl)
theorem dX4_redo_7 : decode cX4_redo 7 = .ok (.iconst 0, 1) := dk_3 (dk_at dksX4_redo_0 7 rfl rfl)
theorem dX4_redo_8 : decode cX4_redo 8 = .ok (.ireturn, 1) := dk_172 (dk_at dksX4_redo_0 8 rfl rfl)
theorem dX4_redo_9 : decode cX4_redo 9 = .ok (.aload_n 0, 1) := dk_42 (dk_at dksX4_redo_0 9 rfl rfl)
theorem dX4_redo_10 : decode cX4_redo 10 = .ok (.invokevirtual 443, 3) := dk_182 1 187 (dk_at dksX4_redo_0 10 rfl rfl)
theorem dX4_redo_13 : decode cX4_redo 13 = .ok (.aload_n 0, 1) := dk_42 (dk_at dksX4_redo_0 13 rfl rfl)
theorem dX4_redo_14 : decode cX4_redo 14 = .ok (.dup, 1) := dk_89 (dk_at dksX4_redo_0 14 rfl rfl)
theorem dX4_redo_15 : decode cX4_redo 15 = .ok (.getfield 374, 3) := dk_180 1 118 (dk_at dksX4_redo_0 15 rfl rfl)
theorem dX4_redo_18 : decode cX4_redo 18 = .ok (.iconst 1, 1) := dk_4 (dk_at dksX4_redo_0 18 rfl rfl)
theorem dX4_redo_19 : decode cX4_redo 19 = .ok (.iadd, 1) := dk_96 (dk_at dksX4_redo_0 19 rfl rfl)
theorem dX4_redo_20 : decode cX4_redo 20 = .ok (.putfield 374, 3) := dk_181 1 118 (dk_at dksX4_redo_0 20 rfl rfl)
theorem dX4_redo_23 : decode cX4_redo 23 = .ok (.aload_n 0, 1) := dk_42 (dk_at dksX4_redo_0 23 rfl rfl)
theorem dX4_redo_24 : decode cX4_redo 24 = .ok (.dup, 1) := dk_89 (dk_at dksX4_redo_1 0 rfl rfl)
theorem dX4_redo_25 : decode cX4_redo 25 = .ok (.getfield 377, 3) := dk_180 1 121 (dk_at dksX4_redo_1 1 rfl rfl)
theorem dX4_redo_28 : decode cX4_redo 28 = .ok (.iconst 1, 1) := dk_4 (dk_at dksX4_redo_1 4 rfl rfl)
theorem dX4_redo_29 : decode cX4_redo 29 = .ok (.isub, 1) := dk_100 (dk_at dksX4_redo_1 5 rfl rfl)
theorem dX4_redo_30 : decode cX4_redo 30 = .ok (.putfield 377, 3) := dk_181 1 121 (dk_at dksX4_redo_1 6 rfl rfl)
theorem dX4_redo_33 : decode cX4_redo 33 = .ok (.iconst 1, 1) := dk_4 (dk_at dksX4_redo_1 9 rfl rfl)
theorem dX4_redo_34 : decode cX4_redo 34 = .ok (.ireturn, 1) := dk_172 (dk_at dksX4_redo_1 10 rfl rfl)
abbrev cX4_lies : ByteArray := prog_23_method_92_code
def yX4_lies : MethodName := ⟨RX4, "lies", "(I)I"⟩
def dkwX4_lies_1 : List UInt8 := [172]
abbrev dktX4_lies_1 : List UInt8 := dkwX4_lies_1 ++ []
def dkwX4_lies_0 : List UInt8 := [27, 3, 42, 180, 1, 127, 4, 100, 184, 1, 105, 153, 0, 12, 42, 180, 0, 100, 27, 46, 167, 0, 4, 2]
abbrev dktX4_lies_0 : List UInt8 := dkwX4_lies_0 ++ dktX4_lies_1
theorem dksX4_lies_0 : cX4_lies.data.toList.drop 0 = dktX4_lies_0 := by decide +kernel
theorem dksX4_lies_1 : cX4_lies.data.toList.drop 24 = dktX4_lies_1 := dk_seg dksX4_lies_0 24 rfl rfl
theorem dX4_lies_0 : decode cX4_lies 0 = .ok (.iload_n 1, 1) := dk_27 (dk_at dksX4_lies_0 0 rfl rfl)
theorem dX4_lies_1 : decode cX4_lies 1 = .ok (.iconst 0, 1) := dk_3 (dk_at dksX4_lies_0 1 rfl rfl)
theorem dX4_lies_2 : decode cX4_lies 2 = .ok (.aload_n 0, 1) := dk_42 (dk_at dksX4_lies_0 2 rfl rfl)
theorem dX4_lies_3 : decode cX4_lies 3 = .ok (.getfield 383, 3) := dk_180 1 127 (dk_at dksX4_lies_0 3 rfl rfl)
theorem dX4_lies_6 : decode cX4_lies 6 = .ok (.iconst 1, 1) := dk_4 (dk_at dksX4_lies_0 6 rfl rfl)
theorem dX4_lies_7 : decode cX4_lies 7 = .ok (.isub, 1) := dk_100 (dk_at dksX4_lies_0 7 rfl rfl)
theorem dX4_lies_8 : decode cX4_lies 8 = .ok (.invokestatic 361, 3) := dk_184 1 105 (dk_at dksX4_lies_0 8 rfl rfl)
theorem dX4_lies_11 : decode cX4_lies 11 = .ok (.ifCond .eq 12, 3) := dk_153 0 12 (dk_at dksX4_lies_0 11 rfl rfl)
theorem dX4_lies_14 : decode cX4_lies 14 = .ok (.aload_n 0, 1) := dk_42 (dk_at dksX4_lies_0 14 rfl rfl)
theorem dX4_lies_15 : decode cX4_lies 15 = .ok (.getfield 100, 3) := dk_180 0 100 (dk_at dksX4_lies_0 15 rfl rfl)
theorem dX4_lies_18 : decode cX4_lies 18 = .ok (.iload_n 1, 1) := dk_27 (dk_at dksX4_lies_0 18 rfl rfl)
theorem dX4_lies_19 : decode cX4_lies 19 = .ok (.iaload, 1) := dk_46 (dk_at dksX4_lies_0 19 rfl rfl)
theorem dX4_lies_20 : decode cX4_lies 20 = .ok (.goto 4, 3) := dk_167 0 4 (dk_at dksX4_lies_0 20 rfl rfl)
theorem dX4_lies_23 : decode cX4_lies 23 = .ok (.iconst (-1), 1) := dk_2 (dk_at dksX4_lies_0 23 rfl rfl)
theorem dX4_lies_24 : decode cX4_lies 24 = .ok (.ireturn, 1) := dk_172 (dk_at dksX4_lies_1 0 rfl rfl)
abbrev cX4_table : ByteArray := prog_23_method_97_code
def yX4_table : MethodName := ⟨RX4, "table", "(III)I"⟩
def dkwX4_table_4 : List UInt8 := [156, 0, 7, 2, 167, 0, 17, 29, 154, 0, 11, 21, 4, 184, 1, 83, 167, 0, 5, 21, 4, 172]
abbrev dktX4_table_4 : List UInt8 := dkwX4_table_4 ++ []
def dkwX4_table_3 : List UInt8 := [21, 5, 28, 182, 1, 190, 27, 160, 0, 7, 21, 5, 54, 4, 132, 5, 1, 167, 255, 209, 21, 4]
abbrev dktX4_table_3 : List UInt8 := dkwX4_table_3 ++ dktX4_table_4
def dkwX4_table_2 : List UInt8 := [120, 162, 0, 42, 21, 4, 155, 0, 16, 21, 5, 184, 1, 83, 21, 4, 184, 1, 83, 162, 0, 18, 42]
abbrev dktX4_table_2 : List UInt8 := dkwX4_table_2 ++ dktX4_table_3
def dkwX4_table_1 : List UInt8 := [29, 3, 4, 184, 1, 105, 154, 0, 5, 2, 172, 2, 54, 4, 3, 54, 5, 21, 5, 4, 42, 182, 1, 102]
abbrev dktX4_table_1 : List UInt8 := dkwX4_table_1 ++ dktX4_table_2
def dkwX4_table_0 : List UInt8 := [27, 3, 4, 42, 182, 1, 112, 120, 4, 100, 184, 1, 105, 153, 0, 20, 42, 28, 182, 1, 169, 153, 0, 12]
abbrev dktX4_table_0 : List UInt8 := dkwX4_table_0 ++ dktX4_table_1
theorem dksX4_table_0 : cX4_table.data.toList.drop 0 = dktX4_table_0 := by decide +kernel
theorem dksX4_table_1 : cX4_table.data.toList.drop 24 = dktX4_table_1 := dk_seg dksX4_table_0 24 rfl rfl
theorem dksX4_table_2 : cX4_table.data.toList.drop 48 = dktX4_table_2 := dk_seg dksX4_table_1 24 rfl rfl
theorem dksX4_table_3 : cX4_table.data.toList.drop 71 = dktX4_table_3 := dk_seg dksX4_table_2 23 rfl rfl
theorem dksX4_table_4 : cX4_table.data.toList.drop 93 = dktX4_table_4 := dk_seg dksX4_table_3 22 rfl rfl
theorem dX4_table_0 : decode cX4_table 0 = .ok (.iload_n 1, 1) := dk_27 (dk_at dksX4_table_0 0 rfl rfl)
theorem dX4_table_1 : decode cX4_table 1 = .ok (.iconst 0, 1) := dk_3 (dk_at dksX4_table_0 1 rfl rfl)
theorem dX4_table_2 : decode cX4_table 2 = .ok (.iconst 1, 1) := dk_4 (dk_at dksX4_table_0 2 rfl rfl)
theorem dX4_table_3 : decode cX4_table 3 = .ok (.aload_n 0, 1) := dk_42 (dk_at dksX4_table_0 3 rfl rfl)
theorem dX4_table_4 : decode cX4_table 4 = .ok (.invokevirtual 368, 3) := dk_182 1 112 (dk_at dksX4_table_0 4 rfl rfl)
theorem dX4_table_7 : decode cX4_table 7 = .ok (.ishl, 1) := dk_120 (dk_at dksX4_table_0 7 rfl rfl)
theorem dX4_table_8 : decode cX4_table 8 = .ok (.iconst 1, 1) := dk_4 (dk_at dksX4_table_0 8 rfl rfl)
theorem dX4_table_9 : decode cX4_table 9 = .ok (.isub, 1) := dk_100 (dk_at dksX4_table_0 9 rfl rfl)
theorem dX4_table_10 : decode cX4_table 10 = .ok (.invokestatic 361, 3) := dk_184 1 105 (dk_at dksX4_table_0 10 rfl rfl)
theorem dX4_table_13 : decode cX4_table 13 = .ok (.ifCond .eq 20, 3) := dk_153 0 20 (dk_at dksX4_table_0 13 rfl rfl)
theorem dX4_table_16 : decode cX4_table 16 = .ok (.aload_n 0, 1) := dk_42 (dk_at dksX4_table_0 16 rfl rfl)
theorem dX4_table_17 : decode cX4_table 17 = .ok (.iload_n 2, 1) := dk_28 (dk_at dksX4_table_0 17 rfl rfl)
theorem dX4_table_18 : decode cX4_table 18 = .ok (.invokevirtual 425, 3) := dk_182 1 169 (dk_at dksX4_table_0 18 rfl rfl)
theorem dX4_table_21 : decode cX4_table 21 = .ok (.ifCond .eq 12, 3) := dk_153 0 12 (dk_at dksX4_table_0 21 rfl rfl)
theorem dX4_table_24 : decode cX4_table 24 = .ok (.iload_n 3, 1) := dk_29 (dk_at dksX4_table_1 0 rfl rfl)
theorem dX4_table_25 : decode cX4_table 25 = .ok (.iconst 0, 1) := dk_3 (dk_at dksX4_table_1 1 rfl rfl)
theorem dX4_table_26 : decode cX4_table 26 = .ok (.iconst 1, 1) := dk_4 (dk_at dksX4_table_1 2 rfl rfl)
theorem dX4_table_27 : decode cX4_table 27 = .ok (.invokestatic 361, 3) := dk_184 1 105 (dk_at dksX4_table_1 3 rfl rfl)
theorem dX4_table_30 : decode cX4_table 30 = .ok (.ifCond .ne 5, 3) := dk_154 0 5 (dk_at dksX4_table_1 6 rfl rfl)
theorem dX4_table_33 : decode cX4_table 33 = .ok (.iconst (-1), 1) := dk_2 (dk_at dksX4_table_1 9 rfl rfl)
theorem dX4_table_34 : decode cX4_table 34 = .ok (.ireturn, 1) := dk_172 (dk_at dksX4_table_1 10 rfl rfl)
theorem dX4_table_35 : decode cX4_table 35 = .ok (.iconst (-1), 1) := dk_2 (dk_at dksX4_table_1 11 rfl rfl)
theorem dX4_table_36 : decode cX4_table 36 = .ok (.istore 4, 2) := dk_54 4 (dk_at dksX4_table_1 12 rfl rfl)
theorem dX4_table_38 : decode cX4_table 38 = .ok (.iconst 0, 1) := dk_3 (dk_at dksX4_table_1 14 rfl rfl)
theorem dX4_table_39 : decode cX4_table 39 = .ok (.istore 5, 2) := dk_54 5 (dk_at dksX4_table_1 15 rfl rfl)
theorem dX4_table_41 : decode cX4_table 41 = .ok (.iload 5, 2) := dk_21 5 (dk_at dksX4_table_1 17 rfl rfl)
theorem dX4_table_43 : decode cX4_table 43 = .ok (.iconst 1, 1) := dk_4 (dk_at dksX4_table_1 19 rfl rfl)
theorem dX4_table_44 : decode cX4_table 44 = .ok (.aload_n 0, 1) := dk_42 (dk_at dksX4_table_1 20 rfl rfl)
theorem dX4_table_45 : decode cX4_table 45 = .ok (.invokevirtual 358, 3) := dk_182 1 102 (dk_at dksX4_table_1 21 rfl rfl)
theorem dX4_table_48 : decode cX4_table 48 = .ok (.ishl, 1) := dk_120 (dk_at dksX4_table_2 0 rfl rfl)
theorem dX4_table_49 : decode cX4_table 49 = .ok (.if_icmp .ge 42, 3) := dk_162 0 42 (dk_at dksX4_table_2 1 rfl rfl)
theorem dX4_table_52 : decode cX4_table 52 = .ok (.iload 4, 2) := dk_21 4 (dk_at dksX4_table_2 4 rfl rfl)
theorem dX4_table_54 : decode cX4_table 54 = .ok (.ifCond .lt 16, 3) := dk_155 0 16 (dk_at dksX4_table_2 6 rfl rfl)
theorem dX4_table_57 : decode cX4_table 57 = .ok (.iload 5, 2) := dk_21 5 (dk_at dksX4_table_2 9 rfl rfl)
theorem dX4_table_59 : decode cX4_table 59 = .ok (.invokestatic 339, 3) := dk_184 1 83 (dk_at dksX4_table_2 11 rfl rfl)
theorem dX4_table_62 : decode cX4_table 62 = .ok (.iload 4, 2) := dk_21 4 (dk_at dksX4_table_2 14 rfl rfl)
theorem dX4_table_64 : decode cX4_table 64 = .ok (.invokestatic 339, 3) := dk_184 1 83 (dk_at dksX4_table_2 16 rfl rfl)
theorem dX4_table_67 : decode cX4_table 67 = .ok (.if_icmp .ge 18, 3) := dk_162 0 18 (dk_at dksX4_table_2 19 rfl rfl)
theorem dX4_table_70 : decode cX4_table 70 = .ok (.aload_n 0, 1) := dk_42 (dk_at dksX4_table_2 22 rfl rfl)
theorem dX4_table_71 : decode cX4_table 71 = .ok (.iload 5, 2) := dk_21 5 (dk_at dksX4_table_3 0 rfl rfl)
theorem dX4_table_73 : decode cX4_table 73 = .ok (.iload_n 2, 1) := dk_28 (dk_at dksX4_table_3 2 rfl rfl)
theorem dX4_table_74 : decode cX4_table 74 = .ok (.invokevirtual 446, 3) := dk_182 1 190 (dk_at dksX4_table_3 3 rfl rfl)
theorem dX4_table_77 : decode cX4_table 77 = .ok (.iload_n 1, 1) := dk_27 (dk_at dksX4_table_3 6 rfl rfl)
theorem dX4_table_78 : decode cX4_table 78 = .ok (.if_icmp .ne 7, 3) := dk_160 0 7 (dk_at dksX4_table_3 7 rfl rfl)
theorem dX4_table_81 : decode cX4_table 81 = .ok (.iload 5, 2) := dk_21 5 (dk_at dksX4_table_3 10 rfl rfl)
theorem dX4_table_83 : decode cX4_table 83 = .ok (.istore 4, 2) := dk_54 4 (dk_at dksX4_table_3 12 rfl rfl)
theorem dX4_table_85 : decode cX4_table 85 = .ok (.iinc 5 1, 3) := dk_132 5 1 (dk_at dksX4_table_3 14 rfl rfl)
theorem dX4_table_88 : decode cX4_table 88 = .ok (.goto (-47), 3) := dk_167 255 209 (dk_at dksX4_table_3 17 rfl rfl)
theorem dX4_table_91 : decode cX4_table 91 = .ok (.iload 4, 2) := dk_21 4 (dk_at dksX4_table_3 20 rfl rfl)
theorem dX4_table_93 : decode cX4_table 93 = .ok (.ifCond .ge 7, 3) := dk_156 0 7 (dk_at dksX4_table_4 0 rfl rfl)
theorem dX4_table_96 : decode cX4_table 96 = .ok (.iconst (-1), 1) := dk_2 (dk_at dksX4_table_4 3 rfl rfl)
theorem dX4_table_97 : decode cX4_table 97 = .ok (.goto 17, 3) := dk_167 0 17 (dk_at dksX4_table_4 4 rfl rfl)
theorem dX4_table_100 : decode cX4_table 100 = .ok (.iload_n 3, 1) := dk_29 (dk_at dksX4_table_4 7 rfl rfl)
theorem dX4_table_101 : decode cX4_table 101 = .ok (.ifCond .ne 11, 3) := dk_154 0 11 (dk_at dksX4_table_4 8 rfl rfl)
theorem dX4_table_104 : decode cX4_table 104 = .ok (.iload 4, 2) := dk_21 4 (dk_at dksX4_table_4 11 rfl rfl)
theorem dX4_table_106 : decode cX4_table 106 = .ok (.invokestatic 339, 3) := dk_184 1 83 (dk_at dksX4_table_4 13 rfl rfl)
theorem dX4_table_109 : decode cX4_table 109 = .ok (.goto 5, 3) := dk_167 0 5 (dk_at dksX4_table_4 16 rfl rfl)
theorem dX4_table_112 : decode cX4_table 112 = .ok (.iload 4, 2) := dk_21 4 (dk_at dksX4_table_4 19 rfl rfl)
theorem dX4_table_114 : decode cX4_table 114 = .ok (.ireturn, 1) := dk_172 (dk_at dksX4_table_4 21 rfl rfl)
abbrev cX4_wouldWith : ByteArray := prog_23_method_95_code
def yX4_wouldWith : MethodName := ⟨RX4, "wouldWith", "(II)I"⟩
def dkwX4_wouldWith_1 : List UInt8 := [180, 0, 88, 3, 29, 79, 21, 4, 172]
abbrev dktX4_wouldWith_1 : List UInt8 := dkwX4_wouldWith_1 ++ []
def dkwX4_wouldWith_0 : List UInt8 := [42, 180, 0, 88, 3, 46, 62, 42, 180, 0, 88, 3, 27, 79, 42, 28, 182, 1, 151, 54, 4, 42]
abbrev dktX4_wouldWith_0 : List UInt8 := dkwX4_wouldWith_0 ++ dktX4_wouldWith_1
theorem dksX4_wouldWith_0 : cX4_wouldWith.data.toList.drop 0 = dktX4_wouldWith_0 := by decide +kernel
theorem dksX4_wouldWith_1 : cX4_wouldWith.data.toList.drop 22 = dktX4_wouldWith_1 := dk_seg dksX4_wouldWith_0 22 rfl rfl
theorem dX4_wouldWith_0 : decode cX4_wouldWith 0 = .ok (.aload_n 0, 1) := dk_42 (dk_at dksX4_wouldWith_0 0 rfl rfl)
theorem dX4_wouldWith_1 : decode cX4_wouldWith 1 = .ok (.getfield 88, 3) := dk_180 0 88 (dk_at dksX4_wouldWith_0 1 rfl rfl)
theorem dX4_wouldWith_4 : decode cX4_wouldWith 4 = .ok (.iconst 0, 1) := dk_3 (dk_at dksX4_wouldWith_0 4 rfl rfl)
theorem dX4_wouldWith_5 : decode cX4_wouldWith 5 = .ok (.iaload, 1) := dk_46 (dk_at dksX4_wouldWith_0 5 rfl rfl)
theorem dX4_wouldWith_6 : decode cX4_wouldWith 6 = .ok (.istore_n 3, 1) := dk_62 (dk_at dksX4_wouldWith_0 6 rfl rfl)
theorem dX4_wouldWith_7 : decode cX4_wouldWith 7 = .ok (.aload_n 0, 1) := dk_42 (dk_at dksX4_wouldWith_0 7 rfl rfl)
theorem dX4_wouldWith_8 : decode cX4_wouldWith 8 = .ok (.getfield 88, 3) := dk_180 0 88 (dk_at dksX4_wouldWith_0 8 rfl rfl)
theorem dX4_wouldWith_11 : decode cX4_wouldWith 11 = .ok (.iconst 0, 1) := dk_3 (dk_at dksX4_wouldWith_0 11 rfl rfl)
theorem dX4_wouldWith_12 : decode cX4_wouldWith 12 = .ok (.iload_n 1, 1) := dk_27 (dk_at dksX4_wouldWith_0 12 rfl rfl)
theorem dX4_wouldWith_13 : decode cX4_wouldWith 13 = .ok (.iastore, 1) := dk_79 (dk_at dksX4_wouldWith_0 13 rfl rfl)
theorem dX4_wouldWith_14 : decode cX4_wouldWith 14 = .ok (.aload_n 0, 1) := dk_42 (dk_at dksX4_wouldWith_0 14 rfl rfl)
theorem dX4_wouldWith_15 : decode cX4_wouldWith 15 = .ok (.iload_n 2, 1) := dk_28 (dk_at dksX4_wouldWith_0 15 rfl rfl)
theorem dX4_wouldWith_16 : decode cX4_wouldWith 16 = .ok (.invokevirtual 407, 3) := dk_182 1 151 (dk_at dksX4_wouldWith_0 16 rfl rfl)
theorem dX4_wouldWith_19 : decode cX4_wouldWith 19 = .ok (.istore 4, 2) := dk_54 4 (dk_at dksX4_wouldWith_0 19 rfl rfl)
theorem dX4_wouldWith_21 : decode cX4_wouldWith 21 = .ok (.aload_n 0, 1) := dk_42 (dk_at dksX4_wouldWith_0 21 rfl rfl)
theorem dX4_wouldWith_22 : decode cX4_wouldWith 22 = .ok (.getfield 88, 3) := dk_180 0 88 (dk_at dksX4_wouldWith_1 0 rfl rfl)
theorem dX4_wouldWith_25 : decode cX4_wouldWith 25 = .ok (.iconst 0, 1) := dk_3 (dk_at dksX4_wouldWith_1 3 rfl rfl)
theorem dX4_wouldWith_26 : decode cX4_wouldWith 26 = .ok (.iload_n 3, 1) := dk_29 (dk_at dksX4_wouldWith_1 4 rfl rfl)
theorem dX4_wouldWith_27 : decode cX4_wouldWith 27 = .ok (.iastore, 1) := dk_79 (dk_at dksX4_wouldWith_1 5 rfl rfl)
theorem dX4_wouldWith_28 : decode cX4_wouldWith 28 = .ok (.iload 4, 2) := dk_21 4 (dk_at dksX4_wouldWith_1 6 rfl rfl)
theorem dX4_wouldWith_30 : decode cX4_wouldWith 30 = .ok (.ireturn, 1) := dk_172 (dk_at dksX4_wouldWith_1 8 rfl rfl)
abbrev cX4_mute : ByteArray := prog_23_method_98_code
def yX4_mute : MethodName := ⟨RX4, "mute", "()I"⟩
def dkwX4_mute_1 : List UInt8 := [130, 126, 60, 132, 2, 1, 167, 255, 233, 27, 172]
abbrev dktX4_mute_1 : List UInt8 := dkwX4_mute_1 ++ []
def dkwX4_mute_0 : List UInt8 := [42, 182, 1, 160, 60, 3, 61, 28, 4, 42, 182, 1, 102, 120, 162, 0, 19, 27, 42, 28, 182, 1, 193, 2]
abbrev dktX4_mute_0 : List UInt8 := dkwX4_mute_0 ++ dktX4_mute_1
theorem dksX4_mute_0 : cX4_mute.data.toList.drop 0 = dktX4_mute_0 := by decide +kernel
theorem dksX4_mute_1 : cX4_mute.data.toList.drop 24 = dktX4_mute_1 := dk_seg dksX4_mute_0 24 rfl rfl
theorem dX4_mute_0 : decode cX4_mute 0 = .ok (.aload_n 0, 1) := dk_42 (dk_at dksX4_mute_0 0 rfl rfl)
theorem dX4_mute_1 : decode cX4_mute 1 = .ok (.invokevirtual 416, 3) := dk_182 1 160 (dk_at dksX4_mute_0 1 rfl rfl)
theorem dX4_mute_4 : decode cX4_mute 4 = .ok (.istore_n 1, 1) := dk_60 (dk_at dksX4_mute_0 4 rfl rfl)
theorem dX4_mute_5 : decode cX4_mute 5 = .ok (.iconst 0, 1) := dk_3 (dk_at dksX4_mute_0 5 rfl rfl)
theorem dX4_mute_6 : decode cX4_mute 6 = .ok (.istore_n 2, 1) := dk_61 (dk_at dksX4_mute_0 6 rfl rfl)
theorem dX4_mute_7 : decode cX4_mute 7 = .ok (.iload_n 2, 1) := dk_28 (dk_at dksX4_mute_0 7 rfl rfl)
theorem dX4_mute_8 : decode cX4_mute 8 = .ok (.iconst 1, 1) := dk_4 (dk_at dksX4_mute_0 8 rfl rfl)
theorem dX4_mute_9 : decode cX4_mute 9 = .ok (.aload_n 0, 1) := dk_42 (dk_at dksX4_mute_0 9 rfl rfl)
theorem dX4_mute_10 : decode cX4_mute 10 = .ok (.invokevirtual 358, 3) := dk_182 1 102 (dk_at dksX4_mute_0 10 rfl rfl)
theorem dX4_mute_13 : decode cX4_mute 13 = .ok (.ishl, 1) := dk_120 (dk_at dksX4_mute_0 13 rfl rfl)
theorem dX4_mute_14 : decode cX4_mute 14 = .ok (.if_icmp .ge 19, 3) := dk_162 0 19 (dk_at dksX4_mute_0 14 rfl rfl)
theorem dX4_mute_17 : decode cX4_mute 17 = .ok (.iload_n 1, 1) := dk_27 (dk_at dksX4_mute_0 17 rfl rfl)
theorem dX4_mute_18 : decode cX4_mute 18 = .ok (.aload_n 0, 1) := dk_42 (dk_at dksX4_mute_0 18 rfl rfl)
theorem dX4_mute_19 : decode cX4_mute 19 = .ok (.iload_n 2, 1) := dk_28 (dk_at dksX4_mute_0 19 rfl rfl)
theorem dX4_mute_20 : decode cX4_mute 20 = .ok (.invokevirtual 449, 3) := dk_182 1 193 (dk_at dksX4_mute_0 20 rfl rfl)
theorem dX4_mute_23 : decode cX4_mute 23 = .ok (.iconst (-1), 1) := dk_2 (dk_at dksX4_mute_0 23 rfl rfl)
theorem dX4_mute_24 : decode cX4_mute 24 = .ok (.ixor, 1) := dk_130 (dk_at dksX4_mute_1 0 rfl rfl)
theorem dX4_mute_25 : decode cX4_mute 25 = .ok (.iand, 1) := dk_126 (dk_at dksX4_mute_1 1 rfl rfl)
theorem dX4_mute_26 : decode cX4_mute 26 = .ok (.istore_n 1, 1) := dk_60 (dk_at dksX4_mute_1 2 rfl rfl)
theorem dX4_mute_27 : decode cX4_mute 27 = .ok (.iinc 2 1, 3) := dk_132 2 1 (dk_at dksX4_mute_1 3 rfl rfl)
theorem dX4_mute_30 : decode cX4_mute 30 = .ok (.goto (-23), 3) := dk_167 255 233 (dk_at dksX4_mute_1 6 rfl rfl)
theorem dX4_mute_33 : decode cX4_mute 33 = .ok (.iload_n 1, 1) := dk_27 (dk_at dksX4_mute_1 9 rfl rfl)
theorem dX4_mute_34 : decode cX4_mute 34 = .ok (.ireturn, 1) := dk_172 (dk_at dksX4_mute_1 10 rfl rfl)
abbrev cX4_saidWith : ByteArray := prog_23_method_96_code
def yX4_saidWith : MethodName := ⟨RX4, "saidWith", "(I)I"⟩
def dkwX4_saidWith_1 : List UInt8 := [180, 0, 88, 3, 28, 79, 29, 172]
abbrev dktX4_saidWith_1 : List UInt8 := dkwX4_saidWith_1 ++ []
def dkwX4_saidWith_0 : List UInt8 := [42, 180, 0, 88, 3, 46, 61, 42, 180, 0, 88, 3, 27, 79, 42, 42, 182, 1, 172, 182, 1, 175, 62, 42]
abbrev dktX4_saidWith_0 : List UInt8 := dkwX4_saidWith_0 ++ dktX4_saidWith_1
theorem dksX4_saidWith_0 : cX4_saidWith.data.toList.drop 0 = dktX4_saidWith_0 := by decide +kernel
theorem dksX4_saidWith_1 : cX4_saidWith.data.toList.drop 24 = dktX4_saidWith_1 := dk_seg dksX4_saidWith_0 24 rfl rfl
theorem dX4_saidWith_0 : decode cX4_saidWith 0 = .ok (.aload_n 0, 1) := dk_42 (dk_at dksX4_saidWith_0 0 rfl rfl)
theorem dX4_saidWith_1 : decode cX4_saidWith 1 = .ok (.getfield 88, 3) := dk_180 0 88 (dk_at dksX4_saidWith_0 1 rfl rfl)
theorem dX4_saidWith_4 : decode cX4_saidWith 4 = .ok (.iconst 0, 1) := dk_3 (dk_at dksX4_saidWith_0 4 rfl rfl)
theorem dX4_saidWith_5 : decode cX4_saidWith 5 = .ok (.iaload, 1) := dk_46 (dk_at dksX4_saidWith_0 5 rfl rfl)
theorem dX4_saidWith_6 : decode cX4_saidWith 6 = .ok (.istore_n 2, 1) := dk_61 (dk_at dksX4_saidWith_0 6 rfl rfl)
theorem dX4_saidWith_7 : decode cX4_saidWith 7 = .ok (.aload_n 0, 1) := dk_42 (dk_at dksX4_saidWith_0 7 rfl rfl)
theorem dX4_saidWith_8 : decode cX4_saidWith 8 = .ok (.getfield 88, 3) := dk_180 0 88 (dk_at dksX4_saidWith_0 8 rfl rfl)
theorem dX4_saidWith_11 : decode cX4_saidWith 11 = .ok (.iconst 0, 1) := dk_3 (dk_at dksX4_saidWith_0 11 rfl rfl)
theorem dX4_saidWith_12 : decode cX4_saidWith 12 = .ok (.iload_n 1, 1) := dk_27 (dk_at dksX4_saidWith_0 12 rfl rfl)
theorem dX4_saidWith_13 : decode cX4_saidWith 13 = .ok (.iastore, 1) := dk_79 (dk_at dksX4_saidWith_0 13 rfl rfl)
theorem dX4_saidWith_14 : decode cX4_saidWith 14 = .ok (.aload_n 0, 1) := dk_42 (dk_at dksX4_saidWith_0 14 rfl rfl)
theorem dX4_saidWith_15 : decode cX4_saidWith 15 = .ok (.aload_n 0, 1) := dk_42 (dk_at dksX4_saidWith_0 15 rfl rfl)
theorem dX4_saidWith_16 : decode cX4_saidWith 16 = .ok (.invokevirtual 428, 3) := dk_182 1 172 (dk_at dksX4_saidWith_0 16 rfl rfl)
theorem dX4_saidWith_19 : decode cX4_saidWith 19 = .ok (.invokevirtual 431, 3) := dk_182 1 175 (dk_at dksX4_saidWith_0 19 rfl rfl)
theorem dX4_saidWith_22 : decode cX4_saidWith 22 = .ok (.istore_n 3, 1) := dk_62 (dk_at dksX4_saidWith_0 22 rfl rfl)
theorem dX4_saidWith_23 : decode cX4_saidWith 23 = .ok (.aload_n 0, 1) := dk_42 (dk_at dksX4_saidWith_0 23 rfl rfl)
theorem dX4_saidWith_24 : decode cX4_saidWith 24 = .ok (.getfield 88, 3) := dk_180 0 88 (dk_at dksX4_saidWith_1 0 rfl rfl)
theorem dX4_saidWith_27 : decode cX4_saidWith 27 = .ok (.iconst 0, 1) := dk_3 (dk_at dksX4_saidWith_1 3 rfl rfl)
theorem dX4_saidWith_28 : decode cX4_saidWith 28 = .ok (.iload_n 2, 1) := dk_28 (dk_at dksX4_saidWith_1 4 rfl rfl)
theorem dX4_saidWith_29 : decode cX4_saidWith 29 = .ok (.iastore, 1) := dk_79 (dk_at dksX4_saidWith_1 5 rfl rfl)
theorem dX4_saidWith_30 : decode cX4_saidWith 30 = .ok (.iload_n 3, 1) := dk_29 (dk_at dksX4_saidWith_1 6 rfl rfl)
theorem dX4_saidWith_31 : decode cX4_saidWith 31 = .ok (.ireturn, 1) := dk_172 (dk_at dksX4_saidWith_1 7 rfl rfl)
abbrev cX4_send : ByteArray := prog_23_method_99_code
def yX4_send : MethodName := ⟨RX4, "send", "(II)I"⟩
def dkwX4_send_4 : List UInt8 := [154, 0, 10, 29, 184, 1, 83, 167, 0, 4, 29, 172]
abbrev dktX4_send_4 : List UInt8 := dkwX4_send_4 ++ []
def dkwX4_send_3 : List UInt8 := [46, 21, 4, 2, 130, 126, 27, 182, 1, 190, 154, 0, 6, 21, 4, 62, 132, 4, 1, 167, 255, 194, 28]
abbrev dktX4_send_3 : List UInt8 := dkwX4_send_3 ++ dktX4_send_4
def dkwX4_send_2 : List UInt8 := [2, 130, 126, 154, 0, 37, 21, 4, 184, 1, 83, 29, 184, 1, 83, 162, 0, 25, 42, 42, 180, 0, 88, 3]
abbrev dktX4_send_2 : List UInt8 := dkwX4_send_2 ++ dktX4_send_3
def dkwX4_send_1 : List UInt8 := [46, 62, 3, 54, 4, 21, 4, 42, 180, 0, 88, 3, 46, 163, 0, 57, 21, 4, 42, 180, 0, 88, 3, 46]
abbrev dktX4_send_1 : List UInt8 := dkwX4_send_1 ++ dktX4_send_2
def dkwX4_send_0 : List UInt8 := [42, 27, 182, 1, 169, 153, 0, 12, 28, 3, 4, 184, 1, 105, 154, 0, 5, 2, 172, 42, 180, 0, 88, 3]
abbrev dktX4_send_0 : List UInt8 := dkwX4_send_0 ++ dktX4_send_1
theorem dksX4_send_0 : cX4_send.data.toList.drop 0 = dktX4_send_0 := by decide +kernel
theorem dksX4_send_1 : cX4_send.data.toList.drop 24 = dktX4_send_1 := dk_seg dksX4_send_0 24 rfl rfl
theorem dksX4_send_2 : cX4_send.data.toList.drop 48 = dktX4_send_2 := dk_seg dksX4_send_1 24 rfl rfl
theorem dksX4_send_3 : cX4_send.data.toList.drop 72 = dktX4_send_3 := dk_seg dksX4_send_2 24 rfl rfl
theorem dksX4_send_4 : cX4_send.data.toList.drop 95 = dktX4_send_4 := dk_seg dksX4_send_3 23 rfl rfl
theorem dX4_send_0 : decode cX4_send 0 = .ok (.aload_n 0, 1) := dk_42 (dk_at dksX4_send_0 0 rfl rfl)
theorem dX4_send_1 : decode cX4_send 1 = .ok (.iload_n 1, 1) := dk_27 (dk_at dksX4_send_0 1 rfl rfl)
theorem dX4_send_2 : decode cX4_send 2 = .ok (.invokevirtual 425, 3) := dk_182 1 169 (dk_at dksX4_send_0 2 rfl rfl)
theorem dX4_send_5 : decode cX4_send 5 = .ok (.ifCond .eq 12, 3) := dk_153 0 12 (dk_at dksX4_send_0 5 rfl rfl)
theorem dX4_send_8 : decode cX4_send 8 = .ok (.iload_n 2, 1) := dk_28 (dk_at dksX4_send_0 8 rfl rfl)
theorem dX4_send_9 : decode cX4_send 9 = .ok (.iconst 0, 1) := dk_3 (dk_at dksX4_send_0 9 rfl rfl)
theorem dX4_send_10 : decode cX4_send 10 = .ok (.iconst 1, 1) := dk_4 (dk_at dksX4_send_0 10 rfl rfl)
theorem dX4_send_11 : decode cX4_send 11 = .ok (.invokestatic 361, 3) := dk_184 1 105 (dk_at dksX4_send_0 11 rfl rfl)
theorem dX4_send_14 : decode cX4_send 14 = .ok (.ifCond .ne 5, 3) := dk_154 0 5 (dk_at dksX4_send_0 14 rfl rfl)
theorem dX4_send_17 : decode cX4_send 17 = .ok (.iconst (-1), 1) := dk_2 (dk_at dksX4_send_0 17 rfl rfl)
theorem dX4_send_18 : decode cX4_send 18 = .ok (.ireturn, 1) := dk_172 (dk_at dksX4_send_0 18 rfl rfl)
theorem dX4_send_19 : decode cX4_send 19 = .ok (.aload_n 0, 1) := dk_42 (dk_at dksX4_send_0 19 rfl rfl)
theorem dX4_send_20 : decode cX4_send 20 = .ok (.getfield 88, 3) := dk_180 0 88 (dk_at dksX4_send_0 20 rfl rfl)
theorem dX4_send_23 : decode cX4_send 23 = .ok (.iconst 0, 1) := dk_3 (dk_at dksX4_send_0 23 rfl rfl)
theorem dX4_send_24 : decode cX4_send 24 = .ok (.iaload, 1) := dk_46 (dk_at dksX4_send_1 0 rfl rfl)
theorem dX4_send_25 : decode cX4_send 25 = .ok (.istore_n 3, 1) := dk_62 (dk_at dksX4_send_1 1 rfl rfl)
theorem dX4_send_26 : decode cX4_send 26 = .ok (.iconst 0, 1) := dk_3 (dk_at dksX4_send_1 2 rfl rfl)
theorem dX4_send_27 : decode cX4_send 27 = .ok (.istore 4, 2) := dk_54 4 (dk_at dksX4_send_1 3 rfl rfl)
theorem dX4_send_29 : decode cX4_send 29 = .ok (.iload 4, 2) := dk_21 4 (dk_at dksX4_send_1 5 rfl rfl)
theorem dX4_send_31 : decode cX4_send 31 = .ok (.aload_n 0, 1) := dk_42 (dk_at dksX4_send_1 7 rfl rfl)
theorem dX4_send_32 : decode cX4_send 32 = .ok (.getfield 88, 3) := dk_180 0 88 (dk_at dksX4_send_1 8 rfl rfl)
theorem dX4_send_35 : decode cX4_send 35 = .ok (.iconst 0, 1) := dk_3 (dk_at dksX4_send_1 11 rfl rfl)
theorem dX4_send_36 : decode cX4_send 36 = .ok (.iaload, 1) := dk_46 (dk_at dksX4_send_1 12 rfl rfl)
theorem dX4_send_37 : decode cX4_send 37 = .ok (.if_icmp .gt 57, 3) := dk_163 0 57 (dk_at dksX4_send_1 13 rfl rfl)
theorem dX4_send_40 : decode cX4_send 40 = .ok (.iload 4, 2) := dk_21 4 (dk_at dksX4_send_1 16 rfl rfl)
theorem dX4_send_42 : decode cX4_send 42 = .ok (.aload_n 0, 1) := dk_42 (dk_at dksX4_send_1 18 rfl rfl)
theorem dX4_send_43 : decode cX4_send 43 = .ok (.getfield 88, 3) := dk_180 0 88 (dk_at dksX4_send_1 19 rfl rfl)
theorem dX4_send_46 : decode cX4_send 46 = .ok (.iconst 0, 1) := dk_3 (dk_at dksX4_send_1 22 rfl rfl)
theorem dX4_send_47 : decode cX4_send 47 = .ok (.iaload, 1) := dk_46 (dk_at dksX4_send_1 23 rfl rfl)
theorem dX4_send_48 : decode cX4_send 48 = .ok (.iconst (-1), 1) := dk_2 (dk_at dksX4_send_2 0 rfl rfl)
theorem dX4_send_49 : decode cX4_send 49 = .ok (.ixor, 1) := dk_130 (dk_at dksX4_send_2 1 rfl rfl)
theorem dX4_send_50 : decode cX4_send 50 = .ok (.iand, 1) := dk_126 (dk_at dksX4_send_2 2 rfl rfl)
theorem dX4_send_51 : decode cX4_send 51 = .ok (.ifCond .ne 37, 3) := dk_154 0 37 (dk_at dksX4_send_2 3 rfl rfl)
theorem dX4_send_54 : decode cX4_send 54 = .ok (.iload 4, 2) := dk_21 4 (dk_at dksX4_send_2 6 rfl rfl)
theorem dX4_send_56 : decode cX4_send 56 = .ok (.invokestatic 339, 3) := dk_184 1 83 (dk_at dksX4_send_2 8 rfl rfl)
theorem dX4_send_59 : decode cX4_send 59 = .ok (.iload_n 3, 1) := dk_29 (dk_at dksX4_send_2 11 rfl rfl)
theorem dX4_send_60 : decode cX4_send 60 = .ok (.invokestatic 339, 3) := dk_184 1 83 (dk_at dksX4_send_2 12 rfl rfl)
theorem dX4_send_63 : decode cX4_send 63 = .ok (.if_icmp .ge 25, 3) := dk_162 0 25 (dk_at dksX4_send_2 15 rfl rfl)
theorem dX4_send_66 : decode cX4_send 66 = .ok (.aload_n 0, 1) := dk_42 (dk_at dksX4_send_2 18 rfl rfl)
theorem dX4_send_67 : decode cX4_send 67 = .ok (.aload_n 0, 1) := dk_42 (dk_at dksX4_send_2 19 rfl rfl)
theorem dX4_send_68 : decode cX4_send 68 = .ok (.getfield 88, 3) := dk_180 0 88 (dk_at dksX4_send_2 20 rfl rfl)
theorem dX4_send_71 : decode cX4_send 71 = .ok (.iconst 0, 1) := dk_3 (dk_at dksX4_send_2 23 rfl rfl)
theorem dX4_send_72 : decode cX4_send 72 = .ok (.iaload, 1) := dk_46 (dk_at dksX4_send_3 0 rfl rfl)
theorem dX4_send_73 : decode cX4_send 73 = .ok (.iload 4, 2) := dk_21 4 (dk_at dksX4_send_3 1 rfl rfl)
theorem dX4_send_75 : decode cX4_send 75 = .ok (.iconst (-1), 1) := dk_2 (dk_at dksX4_send_3 3 rfl rfl)
theorem dX4_send_76 : decode cX4_send 76 = .ok (.ixor, 1) := dk_130 (dk_at dksX4_send_3 4 rfl rfl)
theorem dX4_send_77 : decode cX4_send 77 = .ok (.iand, 1) := dk_126 (dk_at dksX4_send_3 5 rfl rfl)
theorem dX4_send_78 : decode cX4_send 78 = .ok (.iload_n 1, 1) := dk_27 (dk_at dksX4_send_3 6 rfl rfl)
theorem dX4_send_79 : decode cX4_send 79 = .ok (.invokevirtual 446, 3) := dk_182 1 190 (dk_at dksX4_send_3 7 rfl rfl)
theorem dX4_send_82 : decode cX4_send 82 = .ok (.ifCond .ne 6, 3) := dk_154 0 6 (dk_at dksX4_send_3 10 rfl rfl)
theorem dX4_send_85 : decode cX4_send 85 = .ok (.iload 4, 2) := dk_21 4 (dk_at dksX4_send_3 13 rfl rfl)
theorem dX4_send_87 : decode cX4_send 87 = .ok (.istore_n 3, 1) := dk_62 (dk_at dksX4_send_3 15 rfl rfl)
theorem dX4_send_88 : decode cX4_send 88 = .ok (.iinc 4 1, 3) := dk_132 4 1 (dk_at dksX4_send_3 16 rfl rfl)
theorem dX4_send_91 : decode cX4_send 91 = .ok (.goto (-62), 3) := dk_167 255 194 (dk_at dksX4_send_3 19 rfl rfl)
theorem dX4_send_94 : decode cX4_send 94 = .ok (.iload_n 2, 1) := dk_28 (dk_at dksX4_send_3 22 rfl rfl)
theorem dX4_send_95 : decode cX4_send 95 = .ok (.ifCond .ne 10, 3) := dk_154 0 10 (dk_at dksX4_send_4 0 rfl rfl)
theorem dX4_send_98 : decode cX4_send 98 = .ok (.iload_n 3, 1) := dk_29 (dk_at dksX4_send_4 3 rfl rfl)
theorem dX4_send_99 : decode cX4_send 99 = .ok (.invokestatic 339, 3) := dk_184 1 83 (dk_at dksX4_send_4 4 rfl rfl)
theorem dX4_send_102 : decode cX4_send 102 = .ok (.goto 4, 3) := dk_167 0 4 (dk_at dksX4_send_4 7 rfl rfl)
theorem dX4_send_105 : decode cX4_send 105 = .ok (.iload_n 3, 1) := dk_29 (dk_at dksX4_send_4 10 rfl rfl)
theorem dX4_send_106 : decode cX4_send 106 = .ok (.ireturn, 1) := dk_172 (dk_at dksX4_send_4 11 rfl rfl)
abbrev cX4_spark : ByteArray := prog_23_method_100_code
def yX4_spark : MethodName := ⟨RX4, "spark", "(I)I"⟩
def dkwX4_spark_3 : List UInt8 := [61, 132, 3, 1, 167, 255, 185, 28, 172]
abbrev dktX4_spark_3 : List UInt8 := dkwX4_spark_3 ++ []
def dkwX4_spark_2 : List UInt8 := [154, 0, 25, 28, 155, 0, 9, 21, 4, 28, 162, 0, 15, 42, 29, 27, 182, 1, 190, 153, 0, 6, 21, 4]
abbrev dktX4_spark_2 : List UInt8 := dkwX4_spark_2 ++ dktX4_spark_3
def dkwX4_spark_1 : List UInt8 := [180, 0, 88, 3, 46, 2, 130, 126, 184, 1, 83, 54, 4, 42, 180, 0, 88, 3, 46, 29, 2, 130, 126]
abbrev dktX4_spark_1 : List UInt8 := dkwX4_spark_1 ++ dktX4_spark_2
def dkwX4_spark_0 : List UInt8 := [2, 61, 3, 62, 29, 4, 42, 182, 1, 102, 120, 162, 0, 67, 42, 27, 182, 1, 169, 153, 0, 59, 29, 42]
abbrev dktX4_spark_0 : List UInt8 := dkwX4_spark_0 ++ dktX4_spark_1
theorem dksX4_spark_0 : cX4_spark.data.toList.drop 0 = dktX4_spark_0 := by decide +kernel
theorem dksX4_spark_1 : cX4_spark.data.toList.drop 24 = dktX4_spark_1 := dk_seg dksX4_spark_0 24 rfl rfl
theorem dksX4_spark_2 : cX4_spark.data.toList.drop 47 = dktX4_spark_2 := dk_seg dksX4_spark_1 23 rfl rfl
theorem dksX4_spark_3 : cX4_spark.data.toList.drop 71 = dktX4_spark_3 := dk_seg dksX4_spark_2 24 rfl rfl
theorem dX4_spark_0 : decode cX4_spark 0 = .ok (.iconst (-1), 1) := dk_2 (dk_at dksX4_spark_0 0 rfl rfl)
theorem dX4_spark_1 : decode cX4_spark 1 = .ok (.istore_n 2, 1) := dk_61 (dk_at dksX4_spark_0 1 rfl rfl)
theorem dX4_spark_2 : decode cX4_spark 2 = .ok (.iconst 0, 1) := dk_3 (dk_at dksX4_spark_0 2 rfl rfl)
theorem dX4_spark_3 : decode cX4_spark 3 = .ok (.istore_n 3, 1) := dk_62 (dk_at dksX4_spark_0 3 rfl rfl)
theorem dX4_spark_4 : decode cX4_spark 4 = .ok (.iload_n 3, 1) := dk_29 (dk_at dksX4_spark_0 4 rfl rfl)
theorem dX4_spark_5 : decode cX4_spark 5 = .ok (.iconst 1, 1) := dk_4 (dk_at dksX4_spark_0 5 rfl rfl)
theorem dX4_spark_6 : decode cX4_spark 6 = .ok (.aload_n 0, 1) := dk_42 (dk_at dksX4_spark_0 6 rfl rfl)
theorem dX4_spark_7 : decode cX4_spark 7 = .ok (.invokevirtual 358, 3) := dk_182 1 102 (dk_at dksX4_spark_0 7 rfl rfl)
theorem dX4_spark_10 : decode cX4_spark 10 = .ok (.ishl, 1) := dk_120 (dk_at dksX4_spark_0 10 rfl rfl)
theorem dX4_spark_11 : decode cX4_spark 11 = .ok (.if_icmp .ge 67, 3) := dk_162 0 67 (dk_at dksX4_spark_0 11 rfl rfl)
theorem dX4_spark_14 : decode cX4_spark 14 = .ok (.aload_n 0, 1) := dk_42 (dk_at dksX4_spark_0 14 rfl rfl)
theorem dX4_spark_15 : decode cX4_spark 15 = .ok (.iload_n 1, 1) := dk_27 (dk_at dksX4_spark_0 15 rfl rfl)
theorem dX4_spark_16 : decode cX4_spark 16 = .ok (.invokevirtual 425, 3) := dk_182 1 169 (dk_at dksX4_spark_0 16 rfl rfl)
theorem dX4_spark_19 : decode cX4_spark 19 = .ok (.ifCond .eq 59, 3) := dk_153 0 59 (dk_at dksX4_spark_0 19 rfl rfl)
theorem dX4_spark_22 : decode cX4_spark 22 = .ok (.iload_n 3, 1) := dk_29 (dk_at dksX4_spark_0 22 rfl rfl)
theorem dX4_spark_23 : decode cX4_spark 23 = .ok (.aload_n 0, 1) := dk_42 (dk_at dksX4_spark_0 23 rfl rfl)
theorem dX4_spark_24 : decode cX4_spark 24 = .ok (.getfield 88, 3) := dk_180 0 88 (dk_at dksX4_spark_1 0 rfl rfl)
theorem dX4_spark_27 : decode cX4_spark 27 = .ok (.iconst 0, 1) := dk_3 (dk_at dksX4_spark_1 3 rfl rfl)
theorem dX4_spark_28 : decode cX4_spark 28 = .ok (.iaload, 1) := dk_46 (dk_at dksX4_spark_1 4 rfl rfl)
theorem dX4_spark_29 : decode cX4_spark 29 = .ok (.iconst (-1), 1) := dk_2 (dk_at dksX4_spark_1 5 rfl rfl)
theorem dX4_spark_30 : decode cX4_spark 30 = .ok (.ixor, 1) := dk_130 (dk_at dksX4_spark_1 6 rfl rfl)
theorem dX4_spark_31 : decode cX4_spark 31 = .ok (.iand, 1) := dk_126 (dk_at dksX4_spark_1 7 rfl rfl)
theorem dX4_spark_32 : decode cX4_spark 32 = .ok (.invokestatic 339, 3) := dk_184 1 83 (dk_at dksX4_spark_1 8 rfl rfl)
theorem dX4_spark_35 : decode cX4_spark 35 = .ok (.istore 4, 2) := dk_54 4 (dk_at dksX4_spark_1 11 rfl rfl)
theorem dX4_spark_37 : decode cX4_spark 37 = .ok (.aload_n 0, 1) := dk_42 (dk_at dksX4_spark_1 13 rfl rfl)
theorem dX4_spark_38 : decode cX4_spark 38 = .ok (.getfield 88, 3) := dk_180 0 88 (dk_at dksX4_spark_1 14 rfl rfl)
theorem dX4_spark_41 : decode cX4_spark 41 = .ok (.iconst 0, 1) := dk_3 (dk_at dksX4_spark_1 17 rfl rfl)
theorem dX4_spark_42 : decode cX4_spark 42 = .ok (.iaload, 1) := dk_46 (dk_at dksX4_spark_1 18 rfl rfl)
theorem dX4_spark_43 : decode cX4_spark 43 = .ok (.iload_n 3, 1) := dk_29 (dk_at dksX4_spark_1 19 rfl rfl)
theorem dX4_spark_44 : decode cX4_spark 44 = .ok (.iconst (-1), 1) := dk_2 (dk_at dksX4_spark_1 20 rfl rfl)
theorem dX4_spark_45 : decode cX4_spark 45 = .ok (.ixor, 1) := dk_130 (dk_at dksX4_spark_1 21 rfl rfl)
theorem dX4_spark_46 : decode cX4_spark 46 = .ok (.iand, 1) := dk_126 (dk_at dksX4_spark_1 22 rfl rfl)
theorem dX4_spark_47 : decode cX4_spark 47 = .ok (.ifCond .ne 25, 3) := dk_154 0 25 (dk_at dksX4_spark_2 0 rfl rfl)
theorem dX4_spark_50 : decode cX4_spark 50 = .ok (.iload_n 2, 1) := dk_28 (dk_at dksX4_spark_2 3 rfl rfl)
theorem dX4_spark_51 : decode cX4_spark 51 = .ok (.ifCond .lt 9, 3) := dk_155 0 9 (dk_at dksX4_spark_2 4 rfl rfl)
theorem dX4_spark_54 : decode cX4_spark 54 = .ok (.iload 4, 2) := dk_21 4 (dk_at dksX4_spark_2 7 rfl rfl)
theorem dX4_spark_56 : decode cX4_spark 56 = .ok (.iload_n 2, 1) := dk_28 (dk_at dksX4_spark_2 9 rfl rfl)
theorem dX4_spark_57 : decode cX4_spark 57 = .ok (.if_icmp .ge 15, 3) := dk_162 0 15 (dk_at dksX4_spark_2 10 rfl rfl)
theorem dX4_spark_60 : decode cX4_spark 60 = .ok (.aload_n 0, 1) := dk_42 (dk_at dksX4_spark_2 13 rfl rfl)
theorem dX4_spark_61 : decode cX4_spark 61 = .ok (.iload_n 3, 1) := dk_29 (dk_at dksX4_spark_2 14 rfl rfl)
theorem dX4_spark_62 : decode cX4_spark 62 = .ok (.iload_n 1, 1) := dk_27 (dk_at dksX4_spark_2 15 rfl rfl)
theorem dX4_spark_63 : decode cX4_spark 63 = .ok (.invokevirtual 446, 3) := dk_182 1 190 (dk_at dksX4_spark_2 16 rfl rfl)
theorem dX4_spark_66 : decode cX4_spark 66 = .ok (.ifCond .eq 6, 3) := dk_153 0 6 (dk_at dksX4_spark_2 19 rfl rfl)
theorem dX4_spark_69 : decode cX4_spark 69 = .ok (.iload 4, 2) := dk_21 4 (dk_at dksX4_spark_2 22 rfl rfl)
theorem dX4_spark_71 : decode cX4_spark 71 = .ok (.istore_n 2, 1) := dk_61 (dk_at dksX4_spark_3 0 rfl rfl)
theorem dX4_spark_72 : decode cX4_spark 72 = .ok (.iinc 3 1, 3) := dk_132 3 1 (dk_at dksX4_spark_3 1 rfl rfl)
theorem dX4_spark_75 : decode cX4_spark 75 = .ok (.goto (-71), 3) := dk_167 255 185 (dk_at dksX4_spark_3 4 rfl rfl)
theorem dX4_spark_78 : decode cX4_spark 78 = .ok (.iload_n 2, 1) := dk_28 (dk_at dksX4_spark_3 7 rfl rfl)
theorem dX4_spark_79 : decode cX4_spark 79 = .ok (.ireturn, 1) := dk_172 (dk_at dksX4_spark_3 8 rfl rfl)
abbrev cX4_spine : ByteArray := prog_23_method_101_code
def yX4_spine : MethodName := ⟨RX4, "spine", "(I)I"⟩
def dkwX4_spine_1 : List UInt8 := [27, 182, 1, 190, 153, 0, 7, 28, 29, 126, 61, 132, 3, 1, 167, 255, 222, 28, 172]
abbrev dktX4_spine_1 : List UInt8 := dkwX4_spine_1 ++ []
def dkwX4_spine_0 : List UInt8 := [2, 61, 3, 62, 29, 4, 42, 182, 1, 102, 120, 162, 0, 30, 42, 27, 182, 1, 169, 153, 0, 22, 42, 29]
abbrev dktX4_spine_0 : List UInt8 := dkwX4_spine_0 ++ dktX4_spine_1
theorem dksX4_spine_0 : cX4_spine.data.toList.drop 0 = dktX4_spine_0 := by decide +kernel
theorem dksX4_spine_1 : cX4_spine.data.toList.drop 24 = dktX4_spine_1 := dk_seg dksX4_spine_0 24 rfl rfl
theorem dX4_spine_0 : decode cX4_spine 0 = .ok (.iconst (-1), 1) := dk_2 (dk_at dksX4_spine_0 0 rfl rfl)
theorem dX4_spine_1 : decode cX4_spine 1 = .ok (.istore_n 2, 1) := dk_61 (dk_at dksX4_spine_0 1 rfl rfl)
theorem dX4_spine_2 : decode cX4_spine 2 = .ok (.iconst 0, 1) := dk_3 (dk_at dksX4_spine_0 2 rfl rfl)
theorem dX4_spine_3 : decode cX4_spine 3 = .ok (.istore_n 3, 1) := dk_62 (dk_at dksX4_spine_0 3 rfl rfl)
theorem dX4_spine_4 : decode cX4_spine 4 = .ok (.iload_n 3, 1) := dk_29 (dk_at dksX4_spine_0 4 rfl rfl)
theorem dX4_spine_5 : decode cX4_spine 5 = .ok (.iconst 1, 1) := dk_4 (dk_at dksX4_spine_0 5 rfl rfl)
theorem dX4_spine_6 : decode cX4_spine 6 = .ok (.aload_n 0, 1) := dk_42 (dk_at dksX4_spine_0 6 rfl rfl)
theorem dX4_spine_7 : decode cX4_spine 7 = .ok (.invokevirtual 358, 3) := dk_182 1 102 (dk_at dksX4_spine_0 7 rfl rfl)
theorem dX4_spine_10 : decode cX4_spine 10 = .ok (.ishl, 1) := dk_120 (dk_at dksX4_spine_0 10 rfl rfl)
theorem dX4_spine_11 : decode cX4_spine 11 = .ok (.if_icmp .ge 30, 3) := dk_162 0 30 (dk_at dksX4_spine_0 11 rfl rfl)
theorem dX4_spine_14 : decode cX4_spine 14 = .ok (.aload_n 0, 1) := dk_42 (dk_at dksX4_spine_0 14 rfl rfl)
theorem dX4_spine_15 : decode cX4_spine 15 = .ok (.iload_n 1, 1) := dk_27 (dk_at dksX4_spine_0 15 rfl rfl)
theorem dX4_spine_16 : decode cX4_spine 16 = .ok (.invokevirtual 425, 3) := dk_182 1 169 (dk_at dksX4_spine_0 16 rfl rfl)
theorem dX4_spine_19 : decode cX4_spine 19 = .ok (.ifCond .eq 22, 3) := dk_153 0 22 (dk_at dksX4_spine_0 19 rfl rfl)
theorem dX4_spine_22 : decode cX4_spine 22 = .ok (.aload_n 0, 1) := dk_42 (dk_at dksX4_spine_0 22 rfl rfl)
theorem dX4_spine_23 : decode cX4_spine 23 = .ok (.iload_n 3, 1) := dk_29 (dk_at dksX4_spine_0 23 rfl rfl)
theorem dX4_spine_24 : decode cX4_spine 24 = .ok (.iload_n 1, 1) := dk_27 (dk_at dksX4_spine_1 0 rfl rfl)
theorem dX4_spine_25 : decode cX4_spine 25 = .ok (.invokevirtual 446, 3) := dk_182 1 190 (dk_at dksX4_spine_1 1 rfl rfl)
theorem dX4_spine_28 : decode cX4_spine 28 = .ok (.ifCond .eq 7, 3) := dk_153 0 7 (dk_at dksX4_spine_1 4 rfl rfl)
theorem dX4_spine_31 : decode cX4_spine 31 = .ok (.iload_n 2, 1) := dk_28 (dk_at dksX4_spine_1 7 rfl rfl)
theorem dX4_spine_32 : decode cX4_spine 32 = .ok (.iload_n 3, 1) := dk_29 (dk_at dksX4_spine_1 8 rfl rfl)
theorem dX4_spine_33 : decode cX4_spine 33 = .ok (.iand, 1) := dk_126 (dk_at dksX4_spine_1 9 rfl rfl)
theorem dX4_spine_34 : decode cX4_spine 34 = .ok (.istore_n 2, 1) := dk_61 (dk_at dksX4_spine_1 10 rfl rfl)
theorem dX4_spine_35 : decode cX4_spine 35 = .ok (.iinc 3 1, 3) := dk_132 3 1 (dk_at dksX4_spine_1 11 rfl rfl)
theorem dX4_spine_38 : decode cX4_spine 38 = .ok (.goto (-34), 3) := dk_167 255 222 (dk_at dksX4_spine_1 14 rfl rfl)
theorem dX4_spine_41 : decode cX4_spine 41 = .ok (.iload_n 2, 1) := dk_28 (dk_at dksX4_spine_1 17 rfl rfl)
theorem dX4_spine_42 : decode cX4_spine 42 = .ok (.ireturn, 1) := dk_172 (dk_at dksX4_spine_1 18 rfl rfl)
abbrev cX4_gain : ByteArray := prog_23_method_102_code
def yX4_gain : MethodName := ⟨RX4, "gain", "(I)I"⟩
def dkwX4_gain_1 : List UInt8 := [27, 182, 1, 163, 126, 182, 1, 92, 167, 0, 4, 2, 172]
abbrev dktX4_gain_1 : List UInt8 := dkwX4_gain_1 ++ []
def dkwX4_gain_0 : List UInt8 := [42, 27, 182, 1, 154, 153, 0, 30, 42, 42, 42, 180, 0, 88, 3, 46, 4, 27, 120, 128, 182, 1, 193, 42]
abbrev dktX4_gain_0 : List UInt8 := dkwX4_gain_0 ++ dktX4_gain_1
theorem dksX4_gain_0 : cX4_gain.data.toList.drop 0 = dktX4_gain_0 := by decide +kernel
theorem dksX4_gain_1 : cX4_gain.data.toList.drop 24 = dktX4_gain_1 := dk_seg dksX4_gain_0 24 rfl rfl
theorem dX4_gain_0 : decode cX4_gain 0 = .ok (.aload_n 0, 1) := dk_42 (dk_at dksX4_gain_0 0 rfl rfl)
theorem dX4_gain_1 : decode cX4_gain 1 = .ok (.iload_n 1, 1) := dk_27 (dk_at dksX4_gain_0 1 rfl rfl)
theorem dX4_gain_2 : decode cX4_gain 2 = .ok (.invokevirtual 410, 3) := dk_182 1 154 (dk_at dksX4_gain_0 2 rfl rfl)
theorem dX4_gain_5 : decode cX4_gain 5 = .ok (.ifCond .eq 30, 3) := dk_153 0 30 (dk_at dksX4_gain_0 5 rfl rfl)
theorem dX4_gain_8 : decode cX4_gain 8 = .ok (.aload_n 0, 1) := dk_42 (dk_at dksX4_gain_0 8 rfl rfl)
theorem dX4_gain_9 : decode cX4_gain 9 = .ok (.aload_n 0, 1) := dk_42 (dk_at dksX4_gain_0 9 rfl rfl)
theorem dX4_gain_10 : decode cX4_gain 10 = .ok (.aload_n 0, 1) := dk_42 (dk_at dksX4_gain_0 10 rfl rfl)
theorem dX4_gain_11 : decode cX4_gain 11 = .ok (.getfield 88, 3) := dk_180 0 88 (dk_at dksX4_gain_0 11 rfl rfl)
theorem dX4_gain_14 : decode cX4_gain 14 = .ok (.iconst 0, 1) := dk_3 (dk_at dksX4_gain_0 14 rfl rfl)
theorem dX4_gain_15 : decode cX4_gain 15 = .ok (.iaload, 1) := dk_46 (dk_at dksX4_gain_0 15 rfl rfl)
theorem dX4_gain_16 : decode cX4_gain 16 = .ok (.iconst 1, 1) := dk_4 (dk_at dksX4_gain_0 16 rfl rfl)
theorem dX4_gain_17 : decode cX4_gain 17 = .ok (.iload_n 1, 1) := dk_27 (dk_at dksX4_gain_0 17 rfl rfl)
theorem dX4_gain_18 : decode cX4_gain 18 = .ok (.ishl, 1) := dk_120 (dk_at dksX4_gain_0 18 rfl rfl)
theorem dX4_gain_19 : decode cX4_gain 19 = .ok (.ior, 1) := dk_128 (dk_at dksX4_gain_0 19 rfl rfl)
theorem dX4_gain_20 : decode cX4_gain 20 = .ok (.invokevirtual 449, 3) := dk_182 1 193 (dk_at dksX4_gain_0 20 rfl rfl)
theorem dX4_gain_23 : decode cX4_gain 23 = .ok (.aload_n 0, 1) := dk_42 (dk_at dksX4_gain_0 23 rfl rfl)
theorem dX4_gain_24 : decode cX4_gain 24 = .ok (.iload_n 1, 1) := dk_27 (dk_at dksX4_gain_1 0 rfl rfl)
theorem dX4_gain_25 : decode cX4_gain 25 = .ok (.invokevirtual 419, 3) := dk_182 1 163 (dk_at dksX4_gain_1 1 rfl rfl)
theorem dX4_gain_28 : decode cX4_gain 28 = .ok (.iand, 1) := dk_126 (dk_at dksX4_gain_1 4 rfl rfl)
theorem dX4_gain_29 : decode cX4_gain 29 = .ok (.invokevirtual 348, 3) := dk_182 1 92 (dk_at dksX4_gain_1 5 rfl rfl)
theorem dX4_gain_32 : decode cX4_gain 32 = .ok (.goto 4, 3) := dk_167 0 4 (dk_at dksX4_gain_1 8 rfl rfl)
theorem dX4_gain_35 : decode cX4_gain 35 = .ok (.iconst (-1), 1) := dk_2 (dk_at dksX4_gain_1 11 rfl rfl)
theorem dX4_gain_36 : decode cX4_gain 36 = .ok (.ireturn, 1) := dk_172 (dk_at dksX4_gain_1 12 rfl rfl)
abbrev cX4_invite : ByteArray := prog_23_method_103_code
def yX4_invite : MethodName := ⟨RX4, "invite", "(I)I"⟩
def dkwX4_invite_4 : List UInt8 := [172]
abbrev dktX4_invite_4 : List UInt8 := dkwX4_invite_4 ++ []
def dkwX4_invite_3 : List UInt8 := [167, 0, 9, 21, 4, 61, 21, 5, 62, 132, 4, 1, 167, 255, 191, 27, 154, 0, 7, 28, 167, 0, 4, 29]
abbrev dktX4_invite_3 : List UInt8 := dkwX4_invite_3 ++ dktX4_invite_4
def dkwX4_invite_2 : List UInt8 := [180, 0, 88, 3, 46, 4, 21, 4, 120, 128, 182, 1, 193, 184, 1, 83, 54, 5, 21, 5, 29, 163, 0, 6]
abbrev dktX4_invite_2 : List UInt8 := dkwX4_invite_2 ++ dktX4_invite_3
def dkwX4_invite_1 : List UInt8 := [162, 0, 62, 42, 180, 0, 88, 3, 46, 21, 4, 184, 1, 3, 153, 0, 7, 2, 167, 0, 21, 42, 42]
abbrev dktX4_invite_1 : List UInt8 := dkwX4_invite_1 ++ dktX4_invite_2
def dkwX4_invite_0 : List UInt8 := [27, 3, 4, 184, 1, 105, 154, 0, 5, 2, 172, 2, 61, 2, 62, 3, 54, 4, 21, 4, 42, 182, 1, 102]
abbrev dktX4_invite_0 : List UInt8 := dkwX4_invite_0 ++ dktX4_invite_1
theorem dksX4_invite_0 : cX4_invite.data.toList.drop 0 = dktX4_invite_0 := by decide +kernel
theorem dksX4_invite_1 : cX4_invite.data.toList.drop 24 = dktX4_invite_1 := dk_seg dksX4_invite_0 24 rfl rfl
theorem dksX4_invite_2 : cX4_invite.data.toList.drop 47 = dktX4_invite_2 := dk_seg dksX4_invite_1 23 rfl rfl
theorem dksX4_invite_3 : cX4_invite.data.toList.drop 71 = dktX4_invite_3 := dk_seg dksX4_invite_2 24 rfl rfl
theorem dksX4_invite_4 : cX4_invite.data.toList.drop 95 = dktX4_invite_4 := dk_seg dksX4_invite_3 24 rfl rfl
theorem dX4_invite_0 : decode cX4_invite 0 = .ok (.iload_n 1, 1) := dk_27 (dk_at dksX4_invite_0 0 rfl rfl)
theorem dX4_invite_1 : decode cX4_invite 1 = .ok (.iconst 0, 1) := dk_3 (dk_at dksX4_invite_0 1 rfl rfl)
theorem dX4_invite_2 : decode cX4_invite 2 = .ok (.iconst 1, 1) := dk_4 (dk_at dksX4_invite_0 2 rfl rfl)
theorem dX4_invite_3 : decode cX4_invite 3 = .ok (.invokestatic 361, 3) := dk_184 1 105 (dk_at dksX4_invite_0 3 rfl rfl)
theorem dX4_invite_6 : decode cX4_invite 6 = .ok (.ifCond .ne 5, 3) := dk_154 0 5 (dk_at dksX4_invite_0 6 rfl rfl)
theorem dX4_invite_9 : decode cX4_invite 9 = .ok (.iconst (-1), 1) := dk_2 (dk_at dksX4_invite_0 9 rfl rfl)
theorem dX4_invite_10 : decode cX4_invite 10 = .ok (.ireturn, 1) := dk_172 (dk_at dksX4_invite_0 10 rfl rfl)
theorem dX4_invite_11 : decode cX4_invite 11 = .ok (.iconst (-1), 1) := dk_2 (dk_at dksX4_invite_0 11 rfl rfl)
theorem dX4_invite_12 : decode cX4_invite 12 = .ok (.istore_n 2, 1) := dk_61 (dk_at dksX4_invite_0 12 rfl rfl)
theorem dX4_invite_13 : decode cX4_invite 13 = .ok (.iconst (-1), 1) := dk_2 (dk_at dksX4_invite_0 13 rfl rfl)
theorem dX4_invite_14 : decode cX4_invite 14 = .ok (.istore_n 3, 1) := dk_62 (dk_at dksX4_invite_0 14 rfl rfl)
theorem dX4_invite_15 : decode cX4_invite 15 = .ok (.iconst 0, 1) := dk_3 (dk_at dksX4_invite_0 15 rfl rfl)
theorem dX4_invite_16 : decode cX4_invite 16 = .ok (.istore 4, 2) := dk_54 4 (dk_at dksX4_invite_0 16 rfl rfl)
theorem dX4_invite_18 : decode cX4_invite 18 = .ok (.iload 4, 2) := dk_21 4 (dk_at dksX4_invite_0 18 rfl rfl)
theorem dX4_invite_20 : decode cX4_invite 20 = .ok (.aload_n 0, 1) := dk_42 (dk_at dksX4_invite_0 20 rfl rfl)
theorem dX4_invite_21 : decode cX4_invite 21 = .ok (.invokevirtual 358, 3) := dk_182 1 102 (dk_at dksX4_invite_0 21 rfl rfl)
theorem dX4_invite_24 : decode cX4_invite 24 = .ok (.if_icmp .ge 62, 3) := dk_162 0 62 (dk_at dksX4_invite_1 0 rfl rfl)
theorem dX4_invite_27 : decode cX4_invite 27 = .ok (.aload_n 0, 1) := dk_42 (dk_at dksX4_invite_1 3 rfl rfl)
theorem dX4_invite_28 : decode cX4_invite 28 = .ok (.getfield 88, 3) := dk_180 0 88 (dk_at dksX4_invite_1 4 rfl rfl)
theorem dX4_invite_31 : decode cX4_invite 31 = .ok (.iconst 0, 1) := dk_3 (dk_at dksX4_invite_1 7 rfl rfl)
theorem dX4_invite_32 : decode cX4_invite 32 = .ok (.iaload, 1) := dk_46 (dk_at dksX4_invite_1 8 rfl rfl)
theorem dX4_invite_33 : decode cX4_invite 33 = .ok (.iload 4, 2) := dk_21 4 (dk_at dksX4_invite_1 9 rfl rfl)
theorem dX4_invite_35 : decode cX4_invite 35 = .ok (.invokestatic 259, 3) := dk_184 1 3 (dk_at dksX4_invite_1 11 rfl rfl)
theorem dX4_invite_38 : decode cX4_invite 38 = .ok (.ifCond .eq 7, 3) := dk_153 0 7 (dk_at dksX4_invite_1 14 rfl rfl)
theorem dX4_invite_41 : decode cX4_invite 41 = .ok (.iconst (-1), 1) := dk_2 (dk_at dksX4_invite_1 17 rfl rfl)
theorem dX4_invite_42 : decode cX4_invite 42 = .ok (.goto 21, 3) := dk_167 0 21 (dk_at dksX4_invite_1 18 rfl rfl)
theorem dX4_invite_45 : decode cX4_invite 45 = .ok (.aload_n 0, 1) := dk_42 (dk_at dksX4_invite_1 21 rfl rfl)
theorem dX4_invite_46 : decode cX4_invite 46 = .ok (.aload_n 0, 1) := dk_42 (dk_at dksX4_invite_1 22 rfl rfl)
theorem dX4_invite_47 : decode cX4_invite 47 = .ok (.getfield 88, 3) := dk_180 0 88 (dk_at dksX4_invite_2 0 rfl rfl)
theorem dX4_invite_50 : decode cX4_invite 50 = .ok (.iconst 0, 1) := dk_3 (dk_at dksX4_invite_2 3 rfl rfl)
theorem dX4_invite_51 : decode cX4_invite 51 = .ok (.iaload, 1) := dk_46 (dk_at dksX4_invite_2 4 rfl rfl)
theorem dX4_invite_52 : decode cX4_invite 52 = .ok (.iconst 1, 1) := dk_4 (dk_at dksX4_invite_2 5 rfl rfl)
theorem dX4_invite_53 : decode cX4_invite 53 = .ok (.iload 4, 2) := dk_21 4 (dk_at dksX4_invite_2 6 rfl rfl)
theorem dX4_invite_55 : decode cX4_invite 55 = .ok (.ishl, 1) := dk_120 (dk_at dksX4_invite_2 8 rfl rfl)
theorem dX4_invite_56 : decode cX4_invite 56 = .ok (.ior, 1) := dk_128 (dk_at dksX4_invite_2 9 rfl rfl)
theorem dX4_invite_57 : decode cX4_invite 57 = .ok (.invokevirtual 449, 3) := dk_182 1 193 (dk_at dksX4_invite_2 10 rfl rfl)
theorem dX4_invite_60 : decode cX4_invite 60 = .ok (.invokestatic 339, 3) := dk_184 1 83 (dk_at dksX4_invite_2 13 rfl rfl)
theorem dX4_invite_63 : decode cX4_invite 63 = .ok (.istore 5, 2) := dk_54 5 (dk_at dksX4_invite_2 16 rfl rfl)
theorem dX4_invite_65 : decode cX4_invite 65 = .ok (.iload 5, 2) := dk_21 5 (dk_at dksX4_invite_2 18 rfl rfl)
theorem dX4_invite_67 : decode cX4_invite 67 = .ok (.iload_n 3, 1) := dk_29 (dk_at dksX4_invite_2 20 rfl rfl)
theorem dX4_invite_68 : decode cX4_invite 68 = .ok (.if_icmp .gt 6, 3) := dk_163 0 6 (dk_at dksX4_invite_2 21 rfl rfl)
theorem dX4_invite_71 : decode cX4_invite 71 = .ok (.goto 9, 3) := dk_167 0 9 (dk_at dksX4_invite_3 0 rfl rfl)
theorem dX4_invite_74 : decode cX4_invite 74 = .ok (.iload 4, 2) := dk_21 4 (dk_at dksX4_invite_3 3 rfl rfl)
theorem dX4_invite_76 : decode cX4_invite 76 = .ok (.istore_n 2, 1) := dk_61 (dk_at dksX4_invite_3 5 rfl rfl)
theorem dX4_invite_77 : decode cX4_invite 77 = .ok (.iload 5, 2) := dk_21 5 (dk_at dksX4_invite_3 6 rfl rfl)
theorem dX4_invite_79 : decode cX4_invite 79 = .ok (.istore_n 3, 1) := dk_62 (dk_at dksX4_invite_3 8 rfl rfl)
theorem dX4_invite_80 : decode cX4_invite 80 = .ok (.iinc 4 1, 3) := dk_132 4 1 (dk_at dksX4_invite_3 9 rfl rfl)
theorem dX4_invite_83 : decode cX4_invite 83 = .ok (.goto (-65), 3) := dk_167 255 191 (dk_at dksX4_invite_3 12 rfl rfl)
theorem dX4_invite_86 : decode cX4_invite 86 = .ok (.iload_n 1, 1) := dk_27 (dk_at dksX4_invite_3 15 rfl rfl)
theorem dX4_invite_87 : decode cX4_invite 87 = .ok (.ifCond .ne 7, 3) := dk_154 0 7 (dk_at dksX4_invite_3 16 rfl rfl)
theorem dX4_invite_90 : decode cX4_invite 90 = .ok (.iload_n 2, 1) := dk_28 (dk_at dksX4_invite_3 19 rfl rfl)
theorem dX4_invite_91 : decode cX4_invite 91 = .ok (.goto 4, 3) := dk_167 0 4 (dk_at dksX4_invite_3 20 rfl rfl)
theorem dX4_invite_94 : decode cX4_invite 94 = .ok (.iload_n 3, 1) := dk_29 (dk_at dksX4_invite_3 23 rfl rfl)
theorem dX4_invite_95 : decode cX4_invite 95 = .ok (.ireturn, 1) := dk_172 (dk_at dksX4_invite_4 0 rfl rfl)
abbrev cX4_feast : ByteArray := prog_23_method_105_code
def yX4_feast : MethodName := ⟨RX4, "feast", "(II)I"⟩
def dkwX4_feast_8 : List UInt8 := [5, 181, 1, 127, 132, 3, 1, 132, 4, 1, 167, 255, 170, 29, 172]
abbrev dktX4_feast_8 : List UInt8 := dkwX4_feast_8 ++ []
def dkwX4_feast_7 : List UInt8 := [154, 0, 28, 42, 180, 0, 100, 3, 21, 4, 5, 108, 79, 42, 180, 0, 100, 4, 21, 4, 5, 112, 79, 42]
abbrev dktX4_feast_7 : List UInt8 := dkwX4_feast_7 ++ dktX4_feast_8
def dkwX4_feast_6 : List UInt8 := [21, 4, 4, 130, 96, 46, 42, 180, 0, 103, 7, 21, 4, 96, 46, 164, 0, 6, 167, 0, 35, 29]
abbrev dktX4_feast_6 : List UInt8 := dkwX4_feast_6 ++ dktX4_feast_7
def dkwX4_feast_5 : List UInt8 := [180, 0, 103, 21, 4, 5, 130, 46, 42, 180, 0, 103, 21, 4, 46, 163, 0, 61, 42, 180, 0, 103, 7]
abbrev dktX4_feast_5 : List UInt8 := dkwX4_feast_5 ++ dktX4_feast_6
def dkwX4_feast_4 : List UInt8 := [182, 1, 196, 79, 132, 3, 1, 167, 255, 184, 3, 62, 3, 54, 4, 21, 4, 7, 162, 0, 86, 42]
abbrev dktX4_feast_4 : List UInt8 := dkwX4_feast_4 ++ dktX4_feast_5
def dkwX4_feast_3 : List UInt8 := [42, 180, 0, 103, 29, 42, 27, 21, 4, 182, 1, 196, 79, 42, 180, 0, 103, 7, 29, 96, 42, 28, 21, 4]
abbrev dktX4_feast_3 : List UInt8 := dkwX4_feast_3 ++ dktX4_feast_4
def dkwX4_feast_2 : List UInt8 := [126, 4, 28, 120, 2, 130, 126, 29, 5, 108, 27, 120, 128, 29, 5, 112, 28, 120, 128, 182, 1, 193, 54, 4]
abbrev dktX4_feast_2 : List UInt8 := dkwX4_feast_2 ++ dktX4_feast_3
def dkwX4_feast_1 : List UInt8 := [160, 0, 5, 2, 172, 3, 62, 29, 7, 162, 0, 73, 42, 42, 180, 0, 88, 3, 46, 4, 27, 120, 2, 130]
abbrev dktX4_feast_1 : List UInt8 := dkwX4_feast_1 ++ dktX4_feast_2
def dkwX4_feast_0 : List UInt8 := [42, 3, 181, 1, 127, 42, 27, 182, 1, 154, 153, 0, 16, 42, 28, 182, 1, 154, 153, 0, 8, 27, 28]
abbrev dktX4_feast_0 : List UInt8 := dkwX4_feast_0 ++ dktX4_feast_1
theorem dksX4_feast_0 : cX4_feast.data.toList.drop 0 = dktX4_feast_0 := by decide +kernel
theorem dksX4_feast_1 : cX4_feast.data.toList.drop 23 = dktX4_feast_1 := dk_seg dksX4_feast_0 23 rfl rfl
theorem dksX4_feast_2 : cX4_feast.data.toList.drop 47 = dktX4_feast_2 := dk_seg dksX4_feast_1 24 rfl rfl
theorem dksX4_feast_3 : cX4_feast.data.toList.drop 71 = dktX4_feast_3 := dk_seg dksX4_feast_2 24 rfl rfl
theorem dksX4_feast_4 : cX4_feast.data.toList.drop 95 = dktX4_feast_4 := dk_seg dksX4_feast_3 24 rfl rfl
theorem dksX4_feast_5 : cX4_feast.data.toList.drop 117 = dktX4_feast_5 := dk_seg dksX4_feast_4 22 rfl rfl
theorem dksX4_feast_6 : cX4_feast.data.toList.drop 140 = dktX4_feast_6 := dk_seg dksX4_feast_5 23 rfl rfl
theorem dksX4_feast_7 : cX4_feast.data.toList.drop 162 = dktX4_feast_7 := dk_seg dksX4_feast_6 22 rfl rfl
theorem dksX4_feast_8 : cX4_feast.data.toList.drop 186 = dktX4_feast_8 := dk_seg dksX4_feast_7 24 rfl rfl
theorem dX4_feast_0 : decode cX4_feast 0 = .ok (.aload_n 0, 1) := dk_42 (dk_at dksX4_feast_0 0 rfl rfl)
theorem dX4_feast_1 : decode cX4_feast 1 = .ok (.iconst 0, 1) := dk_3 (dk_at dksX4_feast_0 1 rfl rfl)
theorem dX4_feast_2 : decode cX4_feast 2 = .ok (.putfield 383, 3) := dk_181 1 127 (dk_at dksX4_feast_0 2 rfl rfl)
theorem dX4_feast_5 : decode cX4_feast 5 = .ok (.aload_n 0, 1) := dk_42 (dk_at dksX4_feast_0 5 rfl rfl)
theorem dX4_feast_6 : decode cX4_feast 6 = .ok (.iload_n 1, 1) := dk_27 (dk_at dksX4_feast_0 6 rfl rfl)
theorem dX4_feast_7 : decode cX4_feast 7 = .ok (.invokevirtual 410, 3) := dk_182 1 154 (dk_at dksX4_feast_0 7 rfl rfl)
theorem dX4_feast_10 : decode cX4_feast 10 = .ok (.ifCond .eq 16, 3) := dk_153 0 16 (dk_at dksX4_feast_0 10 rfl rfl)
theorem dX4_feast_13 : decode cX4_feast 13 = .ok (.aload_n 0, 1) := dk_42 (dk_at dksX4_feast_0 13 rfl rfl)
theorem dX4_feast_14 : decode cX4_feast 14 = .ok (.iload_n 2, 1) := dk_28 (dk_at dksX4_feast_0 14 rfl rfl)
theorem dX4_feast_15 : decode cX4_feast 15 = .ok (.invokevirtual 410, 3) := dk_182 1 154 (dk_at dksX4_feast_0 15 rfl rfl)
theorem dX4_feast_18 : decode cX4_feast 18 = .ok (.ifCond .eq 8, 3) := dk_153 0 8 (dk_at dksX4_feast_0 18 rfl rfl)
theorem dX4_feast_21 : decode cX4_feast 21 = .ok (.iload_n 1, 1) := dk_27 (dk_at dksX4_feast_0 21 rfl rfl)
theorem dX4_feast_22 : decode cX4_feast 22 = .ok (.iload_n 2, 1) := dk_28 (dk_at dksX4_feast_0 22 rfl rfl)
theorem dX4_feast_23 : decode cX4_feast 23 = .ok (.if_icmp .ne 5, 3) := dk_160 0 5 (dk_at dksX4_feast_1 0 rfl rfl)
theorem dX4_feast_26 : decode cX4_feast 26 = .ok (.iconst (-1), 1) := dk_2 (dk_at dksX4_feast_1 3 rfl rfl)
theorem dX4_feast_27 : decode cX4_feast 27 = .ok (.ireturn, 1) := dk_172 (dk_at dksX4_feast_1 4 rfl rfl)
theorem dX4_feast_28 : decode cX4_feast 28 = .ok (.iconst 0, 1) := dk_3 (dk_at dksX4_feast_1 5 rfl rfl)
theorem dX4_feast_29 : decode cX4_feast 29 = .ok (.istore_n 3, 1) := dk_62 (dk_at dksX4_feast_1 6 rfl rfl)
theorem dX4_feast_30 : decode cX4_feast 30 = .ok (.iload_n 3, 1) := dk_29 (dk_at dksX4_feast_1 7 rfl rfl)
theorem dX4_feast_31 : decode cX4_feast 31 = .ok (.iconst 4, 1) := dk_7 (dk_at dksX4_feast_1 8 rfl rfl)
theorem dX4_feast_32 : decode cX4_feast 32 = .ok (.if_icmp .ge 73, 3) := dk_162 0 73 (dk_at dksX4_feast_1 9 rfl rfl)
theorem dX4_feast_35 : decode cX4_feast 35 = .ok (.aload_n 0, 1) := dk_42 (dk_at dksX4_feast_1 12 rfl rfl)
theorem dX4_feast_36 : decode cX4_feast 36 = .ok (.aload_n 0, 1) := dk_42 (dk_at dksX4_feast_1 13 rfl rfl)
theorem dX4_feast_37 : decode cX4_feast 37 = .ok (.getfield 88, 3) := dk_180 0 88 (dk_at dksX4_feast_1 14 rfl rfl)
theorem dX4_feast_40 : decode cX4_feast 40 = .ok (.iconst 0, 1) := dk_3 (dk_at dksX4_feast_1 17 rfl rfl)
theorem dX4_feast_41 : decode cX4_feast 41 = .ok (.iaload, 1) := dk_46 (dk_at dksX4_feast_1 18 rfl rfl)
theorem dX4_feast_42 : decode cX4_feast 42 = .ok (.iconst 1, 1) := dk_4 (dk_at dksX4_feast_1 19 rfl rfl)
theorem dX4_feast_43 : decode cX4_feast 43 = .ok (.iload_n 1, 1) := dk_27 (dk_at dksX4_feast_1 20 rfl rfl)
theorem dX4_feast_44 : decode cX4_feast 44 = .ok (.ishl, 1) := dk_120 (dk_at dksX4_feast_1 21 rfl rfl)
theorem dX4_feast_45 : decode cX4_feast 45 = .ok (.iconst (-1), 1) := dk_2 (dk_at dksX4_feast_1 22 rfl rfl)
theorem dX4_feast_46 : decode cX4_feast 46 = .ok (.ixor, 1) := dk_130 (dk_at dksX4_feast_1 23 rfl rfl)
theorem dX4_feast_47 : decode cX4_feast 47 = .ok (.iand, 1) := dk_126 (dk_at dksX4_feast_2 0 rfl rfl)
theorem dX4_feast_48 : decode cX4_feast 48 = .ok (.iconst 1, 1) := dk_4 (dk_at dksX4_feast_2 1 rfl rfl)
theorem dX4_feast_49 : decode cX4_feast 49 = .ok (.iload_n 2, 1) := dk_28 (dk_at dksX4_feast_2 2 rfl rfl)
theorem dX4_feast_50 : decode cX4_feast 50 = .ok (.ishl, 1) := dk_120 (dk_at dksX4_feast_2 3 rfl rfl)
theorem dX4_feast_51 : decode cX4_feast 51 = .ok (.iconst (-1), 1) := dk_2 (dk_at dksX4_feast_2 4 rfl rfl)
theorem dX4_feast_52 : decode cX4_feast 52 = .ok (.ixor, 1) := dk_130 (dk_at dksX4_feast_2 5 rfl rfl)
theorem dX4_feast_53 : decode cX4_feast 53 = .ok (.iand, 1) := dk_126 (dk_at dksX4_feast_2 6 rfl rfl)
theorem dX4_feast_54 : decode cX4_feast 54 = .ok (.iload_n 3, 1) := dk_29 (dk_at dksX4_feast_2 7 rfl rfl)
theorem dX4_feast_55 : decode cX4_feast 55 = .ok (.iconst 2, 1) := dk_5 (dk_at dksX4_feast_2 8 rfl rfl)
theorem dX4_feast_56 : decode cX4_feast 56 = .ok (.idiv, 1) := dk_108 (dk_at dksX4_feast_2 9 rfl rfl)
theorem dX4_feast_57 : decode cX4_feast 57 = .ok (.iload_n 1, 1) := dk_27 (dk_at dksX4_feast_2 10 rfl rfl)
theorem dX4_feast_58 : decode cX4_feast 58 = .ok (.ishl, 1) := dk_120 (dk_at dksX4_feast_2 11 rfl rfl)
theorem dX4_feast_59 : decode cX4_feast 59 = .ok (.ior, 1) := dk_128 (dk_at dksX4_feast_2 12 rfl rfl)
theorem dX4_feast_60 : decode cX4_feast 60 = .ok (.iload_n 3, 1) := dk_29 (dk_at dksX4_feast_2 13 rfl rfl)
theorem dX4_feast_61 : decode cX4_feast 61 = .ok (.iconst 2, 1) := dk_5 (dk_at dksX4_feast_2 14 rfl rfl)
theorem dX4_feast_62 : decode cX4_feast 62 = .ok (.irem, 1) := dk_112 (dk_at dksX4_feast_2 15 rfl rfl)
theorem dX4_feast_63 : decode cX4_feast 63 = .ok (.iload_n 2, 1) := dk_28 (dk_at dksX4_feast_2 16 rfl rfl)
theorem dX4_feast_64 : decode cX4_feast 64 = .ok (.ishl, 1) := dk_120 (dk_at dksX4_feast_2 17 rfl rfl)
theorem dX4_feast_65 : decode cX4_feast 65 = .ok (.ior, 1) := dk_128 (dk_at dksX4_feast_2 18 rfl rfl)
theorem dX4_feast_66 : decode cX4_feast 66 = .ok (.invokevirtual 449, 3) := dk_182 1 193 (dk_at dksX4_feast_2 19 rfl rfl)
theorem dX4_feast_69 : decode cX4_feast 69 = .ok (.istore 4, 2) := dk_54 4 (dk_at dksX4_feast_2 22 rfl rfl)
theorem dX4_feast_71 : decode cX4_feast 71 = .ok (.aload_n 0, 1) := dk_42 (dk_at dksX4_feast_3 0 rfl rfl)
theorem dX4_feast_72 : decode cX4_feast 72 = .ok (.getfield 103, 3) := dk_180 0 103 (dk_at dksX4_feast_3 1 rfl rfl)
theorem dX4_feast_75 : decode cX4_feast 75 = .ok (.iload_n 3, 1) := dk_29 (dk_at dksX4_feast_3 4 rfl rfl)
theorem dX4_feast_76 : decode cX4_feast 76 = .ok (.aload_n 0, 1) := dk_42 (dk_at dksX4_feast_3 5 rfl rfl)
theorem dX4_feast_77 : decode cX4_feast 77 = .ok (.iload_n 1, 1) := dk_27 (dk_at dksX4_feast_3 6 rfl rfl)
theorem dX4_feast_78 : decode cX4_feast 78 = .ok (.iload 4, 2) := dk_21 4 (dk_at dksX4_feast_3 7 rfl rfl)
theorem dX4_feast_80 : decode cX4_feast 80 = .ok (.invokevirtual 452, 3) := dk_182 1 196 (dk_at dksX4_feast_3 9 rfl rfl)
theorem dX4_feast_83 : decode cX4_feast 83 = .ok (.iastore, 1) := dk_79 (dk_at dksX4_feast_3 12 rfl rfl)
theorem dX4_feast_84 : decode cX4_feast 84 = .ok (.aload_n 0, 1) := dk_42 (dk_at dksX4_feast_3 13 rfl rfl)
theorem dX4_feast_85 : decode cX4_feast 85 = .ok (.getfield 103, 3) := dk_180 0 103 (dk_at dksX4_feast_3 14 rfl rfl)
theorem dX4_feast_88 : decode cX4_feast 88 = .ok (.iconst 4, 1) := dk_7 (dk_at dksX4_feast_3 17 rfl rfl)
theorem dX4_feast_89 : decode cX4_feast 89 = .ok (.iload_n 3, 1) := dk_29 (dk_at dksX4_feast_3 18 rfl rfl)
theorem dX4_feast_90 : decode cX4_feast 90 = .ok (.iadd, 1) := dk_96 (dk_at dksX4_feast_3 19 rfl rfl)
theorem dX4_feast_91 : decode cX4_feast 91 = .ok (.aload_n 0, 1) := dk_42 (dk_at dksX4_feast_3 20 rfl rfl)
theorem dX4_feast_92 : decode cX4_feast 92 = .ok (.iload_n 2, 1) := dk_28 (dk_at dksX4_feast_3 21 rfl rfl)
theorem dX4_feast_93 : decode cX4_feast 93 = .ok (.iload 4, 2) := dk_21 4 (dk_at dksX4_feast_3 22 rfl rfl)
theorem dX4_feast_95 : decode cX4_feast 95 = .ok (.invokevirtual 452, 3) := dk_182 1 196 (dk_at dksX4_feast_4 0 rfl rfl)
theorem dX4_feast_98 : decode cX4_feast 98 = .ok (.iastore, 1) := dk_79 (dk_at dksX4_feast_4 3 rfl rfl)
theorem dX4_feast_99 : decode cX4_feast 99 = .ok (.iinc 3 1, 3) := dk_132 3 1 (dk_at dksX4_feast_4 4 rfl rfl)
theorem dX4_feast_102 : decode cX4_feast 102 = .ok (.goto (-72), 3) := dk_167 255 184 (dk_at dksX4_feast_4 7 rfl rfl)
theorem dX4_feast_105 : decode cX4_feast 105 = .ok (.iconst 0, 1) := dk_3 (dk_at dksX4_feast_4 10 rfl rfl)
theorem dX4_feast_106 : decode cX4_feast 106 = .ok (.istore_n 3, 1) := dk_62 (dk_at dksX4_feast_4 11 rfl rfl)
theorem dX4_feast_107 : decode cX4_feast 107 = .ok (.iconst 0, 1) := dk_3 (dk_at dksX4_feast_4 12 rfl rfl)
theorem dX4_feast_108 : decode cX4_feast 108 = .ok (.istore 4, 2) := dk_54 4 (dk_at dksX4_feast_4 13 rfl rfl)
theorem dX4_feast_110 : decode cX4_feast 110 = .ok (.iload 4, 2) := dk_21 4 (dk_at dksX4_feast_4 15 rfl rfl)
theorem dX4_feast_112 : decode cX4_feast 112 = .ok (.iconst 4, 1) := dk_7 (dk_at dksX4_feast_4 17 rfl rfl)
theorem dX4_feast_113 : decode cX4_feast 113 = .ok (.if_icmp .ge 86, 3) := dk_162 0 86 (dk_at dksX4_feast_4 18 rfl rfl)
theorem dX4_feast_116 : decode cX4_feast 116 = .ok (.aload_n 0, 1) := dk_42 (dk_at dksX4_feast_4 21 rfl rfl)
theorem dX4_feast_117 : decode cX4_feast 117 = .ok (.getfield 103, 3) := dk_180 0 103 (dk_at dksX4_feast_5 0 rfl rfl)
theorem dX4_feast_120 : decode cX4_feast 120 = .ok (.iload 4, 2) := dk_21 4 (dk_at dksX4_feast_5 3 rfl rfl)
theorem dX4_feast_122 : decode cX4_feast 122 = .ok (.iconst 2, 1) := dk_5 (dk_at dksX4_feast_5 5 rfl rfl)
theorem dX4_feast_123 : decode cX4_feast 123 = .ok (.ixor, 1) := dk_130 (dk_at dksX4_feast_5 6 rfl rfl)
theorem dX4_feast_124 : decode cX4_feast 124 = .ok (.iaload, 1) := dk_46 (dk_at dksX4_feast_5 7 rfl rfl)
theorem dX4_feast_125 : decode cX4_feast 125 = .ok (.aload_n 0, 1) := dk_42 (dk_at dksX4_feast_5 8 rfl rfl)
theorem dX4_feast_126 : decode cX4_feast 126 = .ok (.getfield 103, 3) := dk_180 0 103 (dk_at dksX4_feast_5 9 rfl rfl)
theorem dX4_feast_129 : decode cX4_feast 129 = .ok (.iload 4, 2) := dk_21 4 (dk_at dksX4_feast_5 12 rfl rfl)
theorem dX4_feast_131 : decode cX4_feast 131 = .ok (.iaload, 1) := dk_46 (dk_at dksX4_feast_5 14 rfl rfl)
theorem dX4_feast_132 : decode cX4_feast 132 = .ok (.if_icmp .gt 61, 3) := dk_163 0 61 (dk_at dksX4_feast_5 15 rfl rfl)
theorem dX4_feast_135 : decode cX4_feast 135 = .ok (.aload_n 0, 1) := dk_42 (dk_at dksX4_feast_5 18 rfl rfl)
theorem dX4_feast_136 : decode cX4_feast 136 = .ok (.getfield 103, 3) := dk_180 0 103 (dk_at dksX4_feast_5 19 rfl rfl)
theorem dX4_feast_139 : decode cX4_feast 139 = .ok (.iconst 4, 1) := dk_7 (dk_at dksX4_feast_5 22 rfl rfl)
theorem dX4_feast_140 : decode cX4_feast 140 = .ok (.iload 4, 2) := dk_21 4 (dk_at dksX4_feast_6 0 rfl rfl)
theorem dX4_feast_142 : decode cX4_feast 142 = .ok (.iconst 1, 1) := dk_4 (dk_at dksX4_feast_6 2 rfl rfl)
theorem dX4_feast_143 : decode cX4_feast 143 = .ok (.ixor, 1) := dk_130 (dk_at dksX4_feast_6 3 rfl rfl)
theorem dX4_feast_144 : decode cX4_feast 144 = .ok (.iadd, 1) := dk_96 (dk_at dksX4_feast_6 4 rfl rfl)
theorem dX4_feast_145 : decode cX4_feast 145 = .ok (.iaload, 1) := dk_46 (dk_at dksX4_feast_6 5 rfl rfl)
theorem dX4_feast_146 : decode cX4_feast 146 = .ok (.aload_n 0, 1) := dk_42 (dk_at dksX4_feast_6 6 rfl rfl)
theorem dX4_feast_147 : decode cX4_feast 147 = .ok (.getfield 103, 3) := dk_180 0 103 (dk_at dksX4_feast_6 7 rfl rfl)
theorem dX4_feast_150 : decode cX4_feast 150 = .ok (.iconst 4, 1) := dk_7 (dk_at dksX4_feast_6 10 rfl rfl)
theorem dX4_feast_151 : decode cX4_feast 151 = .ok (.iload 4, 2) := dk_21 4 (dk_at dksX4_feast_6 11 rfl rfl)
theorem dX4_feast_153 : decode cX4_feast 153 = .ok (.iadd, 1) := dk_96 (dk_at dksX4_feast_6 13 rfl rfl)
theorem dX4_feast_154 : decode cX4_feast 154 = .ok (.iaload, 1) := dk_46 (dk_at dksX4_feast_6 14 rfl rfl)
theorem dX4_feast_155 : decode cX4_feast 155 = .ok (.if_icmp .le 6, 3) := dk_164 0 6 (dk_at dksX4_feast_6 15 rfl rfl)
theorem dX4_feast_158 : decode cX4_feast 158 = .ok (.goto 35, 3) := dk_167 0 35 (dk_at dksX4_feast_6 18 rfl rfl)
theorem dX4_feast_161 : decode cX4_feast 161 = .ok (.iload_n 3, 1) := dk_29 (dk_at dksX4_feast_6 21 rfl rfl)
theorem dX4_feast_162 : decode cX4_feast 162 = .ok (.ifCond .ne 28, 3) := dk_154 0 28 (dk_at dksX4_feast_7 0 rfl rfl)
theorem dX4_feast_165 : decode cX4_feast 165 = .ok (.aload_n 0, 1) := dk_42 (dk_at dksX4_feast_7 3 rfl rfl)
theorem dX4_feast_166 : decode cX4_feast 166 = .ok (.getfield 100, 3) := dk_180 0 100 (dk_at dksX4_feast_7 4 rfl rfl)
theorem dX4_feast_169 : decode cX4_feast 169 = .ok (.iconst 0, 1) := dk_3 (dk_at dksX4_feast_7 7 rfl rfl)
theorem dX4_feast_170 : decode cX4_feast 170 = .ok (.iload 4, 2) := dk_21 4 (dk_at dksX4_feast_7 8 rfl rfl)
theorem dX4_feast_172 : decode cX4_feast 172 = .ok (.iconst 2, 1) := dk_5 (dk_at dksX4_feast_7 10 rfl rfl)
theorem dX4_feast_173 : decode cX4_feast 173 = .ok (.idiv, 1) := dk_108 (dk_at dksX4_feast_7 11 rfl rfl)
theorem dX4_feast_174 : decode cX4_feast 174 = .ok (.iastore, 1) := dk_79 (dk_at dksX4_feast_7 12 rfl rfl)
theorem dX4_feast_175 : decode cX4_feast 175 = .ok (.aload_n 0, 1) := dk_42 (dk_at dksX4_feast_7 13 rfl rfl)
theorem dX4_feast_176 : decode cX4_feast 176 = .ok (.getfield 100, 3) := dk_180 0 100 (dk_at dksX4_feast_7 14 rfl rfl)
theorem dX4_feast_179 : decode cX4_feast 179 = .ok (.iconst 1, 1) := dk_4 (dk_at dksX4_feast_7 17 rfl rfl)
theorem dX4_feast_180 : decode cX4_feast 180 = .ok (.iload 4, 2) := dk_21 4 (dk_at dksX4_feast_7 18 rfl rfl)
theorem dX4_feast_182 : decode cX4_feast 182 = .ok (.iconst 2, 1) := dk_5 (dk_at dksX4_feast_7 20 rfl rfl)
theorem dX4_feast_183 : decode cX4_feast 183 = .ok (.irem, 1) := dk_112 (dk_at dksX4_feast_7 21 rfl rfl)
theorem dX4_feast_184 : decode cX4_feast 184 = .ok (.iastore, 1) := dk_79 (dk_at dksX4_feast_7 22 rfl rfl)
theorem dX4_feast_185 : decode cX4_feast 185 = .ok (.aload_n 0, 1) := dk_42 (dk_at dksX4_feast_7 23 rfl rfl)
theorem dX4_feast_186 : decode cX4_feast 186 = .ok (.iconst 2, 1) := dk_5 (dk_at dksX4_feast_8 0 rfl rfl)
theorem dX4_feast_187 : decode cX4_feast 187 = .ok (.putfield 383, 3) := dk_181 1 127 (dk_at dksX4_feast_8 1 rfl rfl)
theorem dX4_feast_190 : decode cX4_feast 190 = .ok (.iinc 3 1, 3) := dk_132 3 1 (dk_at dksX4_feast_8 4 rfl rfl)
theorem dX4_feast_193 : decode cX4_feast 193 = .ok (.iinc 4 1, 3) := dk_132 4 1 (dk_at dksX4_feast_8 7 rfl rfl)
theorem dX4_feast_196 : decode cX4_feast 196 = .ok (.goto (-86), 3) := dk_167 255 170 (dk_at dksX4_feast_8 10 rfl rfl)
theorem dX4_feast_199 : decode cX4_feast 199 = .ok (.iload_n 3, 1) := dk_29 (dk_at dksX4_feast_8 13 rfl rfl)
theorem dX4_feast_200 : decode cX4_feast 200 = .ok (.ireturn, 1) := dk_172 (dk_at dksX4_feast_8 14 rfl rfl)
abbrev cX4_worthTo : ByteArray := prog_23_method_104_code
def yX4_worthTo : MethodName := ⟨RX4, "worthTo", "(II)I"⟩
def dkwX4_worthTo_0 : List UInt8 := [42, 28, 42, 27, 182, 1, 163, 126, 182, 1, 92, 42, 28, 42, 27, 182, 1, 157, 126, 182, 1, 92, 100, 172]
abbrev dktX4_worthTo_0 : List UInt8 := dkwX4_worthTo_0 ++ []
theorem dksX4_worthTo_0 : cX4_worthTo.data.toList.drop 0 = dktX4_worthTo_0 := by decide +kernel
theorem dX4_worthTo_0 : decode cX4_worthTo 0 = .ok (.aload_n 0, 1) := dk_42 (dk_at dksX4_worthTo_0 0 rfl rfl)
theorem dX4_worthTo_1 : decode cX4_worthTo 1 = .ok (.iload_n 2, 1) := dk_28 (dk_at dksX4_worthTo_0 1 rfl rfl)
theorem dX4_worthTo_2 : decode cX4_worthTo 2 = .ok (.aload_n 0, 1) := dk_42 (dk_at dksX4_worthTo_0 2 rfl rfl)
theorem dX4_worthTo_3 : decode cX4_worthTo 3 = .ok (.iload_n 1, 1) := dk_27 (dk_at dksX4_worthTo_0 3 rfl rfl)
theorem dX4_worthTo_4 : decode cX4_worthTo 4 = .ok (.invokevirtual 419, 3) := dk_182 1 163 (dk_at dksX4_worthTo_0 4 rfl rfl)
theorem dX4_worthTo_7 : decode cX4_worthTo 7 = .ok (.iand, 1) := dk_126 (dk_at dksX4_worthTo_0 7 rfl rfl)
theorem dX4_worthTo_8 : decode cX4_worthTo 8 = .ok (.invokevirtual 348, 3) := dk_182 1 92 (dk_at dksX4_worthTo_0 8 rfl rfl)
theorem dX4_worthTo_11 : decode cX4_worthTo 11 = .ok (.aload_n 0, 1) := dk_42 (dk_at dksX4_worthTo_0 11 rfl rfl)
theorem dX4_worthTo_12 : decode cX4_worthTo 12 = .ok (.iload_n 2, 1) := dk_28 (dk_at dksX4_worthTo_0 12 rfl rfl)
theorem dX4_worthTo_13 : decode cX4_worthTo 13 = .ok (.aload_n 0, 1) := dk_42 (dk_at dksX4_worthTo_0 13 rfl rfl)
theorem dX4_worthTo_14 : decode cX4_worthTo 14 = .ok (.iload_n 1, 1) := dk_27 (dk_at dksX4_worthTo_0 14 rfl rfl)
theorem dX4_worthTo_15 : decode cX4_worthTo 15 = .ok (.invokevirtual 413, 3) := dk_182 1 157 (dk_at dksX4_worthTo_0 15 rfl rfl)
theorem dX4_worthTo_18 : decode cX4_worthTo 18 = .ok (.iand, 1) := dk_126 (dk_at dksX4_worthTo_0 18 rfl rfl)
theorem dX4_worthTo_19 : decode cX4_worthTo 19 = .ok (.invokevirtual 348, 3) := dk_182 1 92 (dk_at dksX4_worthTo_0 19 rfl rfl)
theorem dX4_worthTo_22 : decode cX4_worthTo 22 = .ok (.isub, 1) := dk_100 (dk_at dksX4_worthTo_0 22 rfl rfl)
theorem dX4_worthTo_23 : decode cX4_worthTo 23 = .ok (.ireturn, 1) := dk_172 (dk_at dksX4_worthTo_0 23 rfl rfl)
abbrev cX4_round : ByteArray := prog_23_method_107_code
def yX4_round : MethodName := ⟨RX4, "round", "(II)I"⟩
def dkwX4_round_8 : List UInt8 := [112, 172]
abbrev dktX4_round_8 : List UInt8 := dkwX4_round_8 ++ []
def dkwX4_round_7 : List UInt8 := [167, 255, 232, 42, 27, 181, 1, 127, 28, 154, 0, 11, 21, 4, 16, 100, 108, 167, 0, 8, 21, 4, 16, 100]
abbrev dktX4_round_7 : List UInt8 := dkwX4_round_7 ++ dktX4_round_8
def dkwX4_round_6 : List UInt8 := [27, 162, 0, 24, 42, 180, 0, 100, 21, 5, 42, 29, 27, 21, 5, 182, 1, 205, 79, 132, 5, 1]
abbrev dktX4_round_6 : List UInt8 := dkwX4_round_6 ++ dktX4_round_7
def dkwX4_round_5 : List UInt8 := [163, 0, 6, 167, 0, 10, 21, 5, 62, 21, 7, 54, 4, 132, 5, 1, 167, 255, 162, 3, 54, 5, 21, 5]
abbrev dktX4_round_5 : List UInt8 := dkwX4_round_5 ++ dktX4_round_6
def dkwX4_round_4 : List UInt8 := [182, 1, 208, 16, 100, 21, 6, 184, 1, 83, 104, 42, 21, 6, 182, 1, 92, 96, 54, 7, 21, 7, 21, 4]
abbrev dktX4_round_4 : List UInt8 := dkwX4_round_4 ++ dktX4_round_5
def dkwX4_round_3 : List UInt8 := [42, 42, 21, 5, 27, 21, 7, 182, 1, 205, 182, 1, 184, 128, 54, 6, 132, 7, 1, 167, 255, 229, 42]
abbrev dktX4_round_3 : List UInt8 := dkwX4_round_3 ++ dktX4_round_4
def dkwX4_round_2 : List UInt8 := [184, 1, 199, 162, 0, 87, 42, 182, 1, 202, 3, 54, 6, 3, 54, 7, 21, 7, 27, 162, 0, 27, 21, 6]
abbrev dktX4_round_2 : List UInt8 := dkwX4_round_2 ++ dktX4_round_3
def dkwX4_round_1 : List UInt8 := [182, 1, 109, 154, 0, 5, 2, 172, 3, 62, 2, 54, 4, 3, 54, 5, 21, 5, 42, 182, 1, 109, 27]
abbrev dktX4_round_1 : List UInt8 := dkwX4_round_1 ++ dktX4_round_2
def dkwX4_round_0 : List UInt8 := [42, 3, 181, 1, 127, 27, 3, 7, 184, 1, 105, 153, 0, 19, 28, 3, 4, 184, 1, 105, 153, 0, 10, 42]
abbrev dktX4_round_0 : List UInt8 := dkwX4_round_0 ++ dktX4_round_1
theorem dksX4_round_0 : cX4_round.data.toList.drop 0 = dktX4_round_0 := by decide +kernel
theorem dksX4_round_1 : cX4_round.data.toList.drop 24 = dktX4_round_1 := dk_seg dksX4_round_0 24 rfl rfl
theorem dksX4_round_2 : cX4_round.data.toList.drop 47 = dktX4_round_2 := dk_seg dksX4_round_1 23 rfl rfl
theorem dksX4_round_3 : cX4_round.data.toList.drop 71 = dktX4_round_3 := dk_seg dksX4_round_2 24 rfl rfl
theorem dksX4_round_4 : cX4_round.data.toList.drop 94 = dktX4_round_4 := dk_seg dksX4_round_3 23 rfl rfl
theorem dksX4_round_5 : cX4_round.data.toList.drop 118 = dktX4_round_5 := dk_seg dksX4_round_4 24 rfl rfl
theorem dksX4_round_6 : cX4_round.data.toList.drop 142 = dktX4_round_6 := dk_seg dksX4_round_5 24 rfl rfl
theorem dksX4_round_7 : cX4_round.data.toList.drop 164 = dktX4_round_7 := dk_seg dksX4_round_6 22 rfl rfl
theorem dksX4_round_8 : cX4_round.data.toList.drop 188 = dktX4_round_8 := dk_seg dksX4_round_7 24 rfl rfl
theorem dX4_round_0 : decode cX4_round 0 = .ok (.aload_n 0, 1) := dk_42 (dk_at dksX4_round_0 0 rfl rfl)
theorem dX4_round_1 : decode cX4_round 1 = .ok (.iconst 0, 1) := dk_3 (dk_at dksX4_round_0 1 rfl rfl)
theorem dX4_round_2 : decode cX4_round 2 = .ok (.putfield 383, 3) := dk_181 1 127 (dk_at dksX4_round_0 2 rfl rfl)
theorem dX4_round_5 : decode cX4_round 5 = .ok (.iload_n 1, 1) := dk_27 (dk_at dksX4_round_0 5 rfl rfl)
theorem dX4_round_6 : decode cX4_round 6 = .ok (.iconst 0, 1) := dk_3 (dk_at dksX4_round_0 6 rfl rfl)
theorem dX4_round_7 : decode cX4_round 7 = .ok (.iconst 4, 1) := dk_7 (dk_at dksX4_round_0 7 rfl rfl)
theorem dX4_round_8 : decode cX4_round 8 = .ok (.invokestatic 361, 3) := dk_184 1 105 (dk_at dksX4_round_0 8 rfl rfl)
theorem dX4_round_11 : decode cX4_round 11 = .ok (.ifCond .eq 19, 3) := dk_153 0 19 (dk_at dksX4_round_0 11 rfl rfl)
theorem dX4_round_14 : decode cX4_round 14 = .ok (.iload_n 2, 1) := dk_28 (dk_at dksX4_round_0 14 rfl rfl)
theorem dX4_round_15 : decode cX4_round 15 = .ok (.iconst 0, 1) := dk_3 (dk_at dksX4_round_0 15 rfl rfl)
theorem dX4_round_16 : decode cX4_round 16 = .ok (.iconst 1, 1) := dk_4 (dk_at dksX4_round_0 16 rfl rfl)
theorem dX4_round_17 : decode cX4_round 17 = .ok (.invokestatic 361, 3) := dk_184 1 105 (dk_at dksX4_round_0 17 rfl rfl)
theorem dX4_round_20 : decode cX4_round 20 = .ok (.ifCond .eq 10, 3) := dk_153 0 10 (dk_at dksX4_round_0 20 rfl rfl)
theorem dX4_round_23 : decode cX4_round 23 = .ok (.aload_n 0, 1) := dk_42 (dk_at dksX4_round_0 23 rfl rfl)
theorem dX4_round_24 : decode cX4_round 24 = .ok (.invokevirtual 365, 3) := dk_182 1 109 (dk_at dksX4_round_1 0 rfl rfl)
theorem dX4_round_27 : decode cX4_round 27 = .ok (.ifCond .ne 5, 3) := dk_154 0 5 (dk_at dksX4_round_1 3 rfl rfl)
theorem dX4_round_30 : decode cX4_round 30 = .ok (.iconst (-1), 1) := dk_2 (dk_at dksX4_round_1 6 rfl rfl)
theorem dX4_round_31 : decode cX4_round 31 = .ok (.ireturn, 1) := dk_172 (dk_at dksX4_round_1 7 rfl rfl)
theorem dX4_round_32 : decode cX4_round 32 = .ok (.iconst 0, 1) := dk_3 (dk_at dksX4_round_1 8 rfl rfl)
theorem dX4_round_33 : decode cX4_round 33 = .ok (.istore_n 3, 1) := dk_62 (dk_at dksX4_round_1 9 rfl rfl)
theorem dX4_round_34 : decode cX4_round 34 = .ok (.iconst (-1), 1) := dk_2 (dk_at dksX4_round_1 10 rfl rfl)
theorem dX4_round_35 : decode cX4_round 35 = .ok (.istore 4, 2) := dk_54 4 (dk_at dksX4_round_1 11 rfl rfl)
theorem dX4_round_37 : decode cX4_round 37 = .ok (.iconst 0, 1) := dk_3 (dk_at dksX4_round_1 13 rfl rfl)
theorem dX4_round_38 : decode cX4_round 38 = .ok (.istore 5, 2) := dk_54 5 (dk_at dksX4_round_1 14 rfl rfl)
theorem dX4_round_40 : decode cX4_round 40 = .ok (.iload 5, 2) := dk_21 5 (dk_at dksX4_round_1 16 rfl rfl)
theorem dX4_round_42 : decode cX4_round 42 = .ok (.aload_n 0, 1) := dk_42 (dk_at dksX4_round_1 18 rfl rfl)
theorem dX4_round_43 : decode cX4_round 43 = .ok (.invokevirtual 365, 3) := dk_182 1 109 (dk_at dksX4_round_1 19 rfl rfl)
theorem dX4_round_46 : decode cX4_round 46 = .ok (.iload_n 1, 1) := dk_27 (dk_at dksX4_round_1 22 rfl rfl)
theorem dX4_round_47 : decode cX4_round 47 = .ok (.invokestatic 455, 3) := dk_184 1 199 (dk_at dksX4_round_2 0 rfl rfl)
theorem dX4_round_50 : decode cX4_round 50 = .ok (.if_icmp .ge 87, 3) := dk_162 0 87 (dk_at dksX4_round_2 3 rfl rfl)
theorem dX4_round_53 : decode cX4_round 53 = .ok (.aload_n 0, 1) := dk_42 (dk_at dksX4_round_2 6 rfl rfl)
theorem dX4_round_54 : decode cX4_round 54 = .ok (.invokevirtual 458, 3) := dk_182 1 202 (dk_at dksX4_round_2 7 rfl rfl)
theorem dX4_round_57 : decode cX4_round 57 = .ok (.iconst 0, 1) := dk_3 (dk_at dksX4_round_2 10 rfl rfl)
theorem dX4_round_58 : decode cX4_round 58 = .ok (.istore 6, 2) := dk_54 6 (dk_at dksX4_round_2 11 rfl rfl)
theorem dX4_round_60 : decode cX4_round 60 = .ok (.iconst 0, 1) := dk_3 (dk_at dksX4_round_2 13 rfl rfl)
theorem dX4_round_61 : decode cX4_round 61 = .ok (.istore 7, 2) := dk_54 7 (dk_at dksX4_round_2 14 rfl rfl)
theorem dX4_round_63 : decode cX4_round 63 = .ok (.iload 7, 2) := dk_21 7 (dk_at dksX4_round_2 16 rfl rfl)
theorem dX4_round_65 : decode cX4_round 65 = .ok (.iload_n 1, 1) := dk_27 (dk_at dksX4_round_2 18 rfl rfl)
theorem dX4_round_66 : decode cX4_round 66 = .ok (.if_icmp .ge 27, 3) := dk_162 0 27 (dk_at dksX4_round_2 19 rfl rfl)
theorem dX4_round_69 : decode cX4_round 69 = .ok (.iload 6, 2) := dk_21 6 (dk_at dksX4_round_2 22 rfl rfl)
theorem dX4_round_71 : decode cX4_round 71 = .ok (.aload_n 0, 1) := dk_42 (dk_at dksX4_round_3 0 rfl rfl)
theorem dX4_round_72 : decode cX4_round 72 = .ok (.aload_n 0, 1) := dk_42 (dk_at dksX4_round_3 1 rfl rfl)
theorem dX4_round_73 : decode cX4_round 73 = .ok (.iload 5, 2) := dk_21 5 (dk_at dksX4_round_3 2 rfl rfl)
theorem dX4_round_75 : decode cX4_round 75 = .ok (.iload_n 1, 1) := dk_27 (dk_at dksX4_round_3 4 rfl rfl)
theorem dX4_round_76 : decode cX4_round 76 = .ok (.iload 7, 2) := dk_21 7 (dk_at dksX4_round_3 5 rfl rfl)
theorem dX4_round_78 : decode cX4_round 78 = .ok (.invokevirtual 461, 3) := dk_182 1 205 (dk_at dksX4_round_3 7 rfl rfl)
theorem dX4_round_81 : decode cX4_round 81 = .ok (.invokevirtual 440, 3) := dk_182 1 184 (dk_at dksX4_round_3 10 rfl rfl)
theorem dX4_round_84 : decode cX4_round 84 = .ok (.ior, 1) := dk_128 (dk_at dksX4_round_3 13 rfl rfl)
theorem dX4_round_85 : decode cX4_round 85 = .ok (.istore 6, 2) := dk_54 6 (dk_at dksX4_round_3 14 rfl rfl)
theorem dX4_round_87 : decode cX4_round 87 = .ok (.iinc 7 1, 3) := dk_132 7 1 (dk_at dksX4_round_3 16 rfl rfl)
theorem dX4_round_90 : decode cX4_round 90 = .ok (.goto (-27), 3) := dk_167 255 229 (dk_at dksX4_round_3 19 rfl rfl)
theorem dX4_round_93 : decode cX4_round 93 = .ok (.aload_n 0, 1) := dk_42 (dk_at dksX4_round_3 22 rfl rfl)
theorem dX4_round_94 : decode cX4_round 94 = .ok (.invokevirtual 464, 3) := dk_182 1 208 (dk_at dksX4_round_4 0 rfl rfl)
theorem dX4_round_97 : decode cX4_round 97 = .ok (.bipush 100, 2) := dk_16 100 (dk_at dksX4_round_4 3 rfl rfl)
theorem dX4_round_99 : decode cX4_round 99 = .ok (.iload 6, 2) := dk_21 6 (dk_at dksX4_round_4 5 rfl rfl)
theorem dX4_round_101 : decode cX4_round 101 = .ok (.invokestatic 339, 3) := dk_184 1 83 (dk_at dksX4_round_4 7 rfl rfl)
theorem dX4_round_104 : decode cX4_round 104 = .ok (.imul, 1) := dk_104 (dk_at dksX4_round_4 10 rfl rfl)
theorem dX4_round_105 : decode cX4_round 105 = .ok (.aload_n 0, 1) := dk_42 (dk_at dksX4_round_4 11 rfl rfl)
theorem dX4_round_106 : decode cX4_round 106 = .ok (.iload 6, 2) := dk_21 6 (dk_at dksX4_round_4 12 rfl rfl)
theorem dX4_round_108 : decode cX4_round 108 = .ok (.invokevirtual 348, 3) := dk_182 1 92 (dk_at dksX4_round_4 14 rfl rfl)
theorem dX4_round_111 : decode cX4_round 111 = .ok (.iadd, 1) := dk_96 (dk_at dksX4_round_4 17 rfl rfl)
theorem dX4_round_112 : decode cX4_round 112 = .ok (.istore 7, 2) := dk_54 7 (dk_at dksX4_round_4 18 rfl rfl)
theorem dX4_round_114 : decode cX4_round 114 = .ok (.iload 7, 2) := dk_21 7 (dk_at dksX4_round_4 20 rfl rfl)
theorem dX4_round_116 : decode cX4_round 116 = .ok (.iload 4, 2) := dk_21 4 (dk_at dksX4_round_4 22 rfl rfl)
theorem dX4_round_118 : decode cX4_round 118 = .ok (.if_icmp .gt 6, 3) := dk_163 0 6 (dk_at dksX4_round_5 0 rfl rfl)
theorem dX4_round_121 : decode cX4_round 121 = .ok (.goto 10, 3) := dk_167 0 10 (dk_at dksX4_round_5 3 rfl rfl)
theorem dX4_round_124 : decode cX4_round 124 = .ok (.iload 5, 2) := dk_21 5 (dk_at dksX4_round_5 6 rfl rfl)
theorem dX4_round_126 : decode cX4_round 126 = .ok (.istore_n 3, 1) := dk_62 (dk_at dksX4_round_5 8 rfl rfl)
theorem dX4_round_127 : decode cX4_round 127 = .ok (.iload 7, 2) := dk_21 7 (dk_at dksX4_round_5 9 rfl rfl)
theorem dX4_round_129 : decode cX4_round 129 = .ok (.istore 4, 2) := dk_54 4 (dk_at dksX4_round_5 11 rfl rfl)
theorem dX4_round_131 : decode cX4_round 131 = .ok (.iinc 5 1, 3) := dk_132 5 1 (dk_at dksX4_round_5 13 rfl rfl)
theorem dX4_round_134 : decode cX4_round 134 = .ok (.goto (-94), 3) := dk_167 255 162 (dk_at dksX4_round_5 16 rfl rfl)
theorem dX4_round_137 : decode cX4_round 137 = .ok (.iconst 0, 1) := dk_3 (dk_at dksX4_round_5 19 rfl rfl)
theorem dX4_round_138 : decode cX4_round 138 = .ok (.istore 5, 2) := dk_54 5 (dk_at dksX4_round_5 20 rfl rfl)
theorem dX4_round_140 : decode cX4_round 140 = .ok (.iload 5, 2) := dk_21 5 (dk_at dksX4_round_5 22 rfl rfl)
theorem dX4_round_142 : decode cX4_round 142 = .ok (.iload_n 1, 1) := dk_27 (dk_at dksX4_round_6 0 rfl rfl)
theorem dX4_round_143 : decode cX4_round 143 = .ok (.if_icmp .ge 24, 3) := dk_162 0 24 (dk_at dksX4_round_6 1 rfl rfl)
theorem dX4_round_146 : decode cX4_round 146 = .ok (.aload_n 0, 1) := dk_42 (dk_at dksX4_round_6 4 rfl rfl)
theorem dX4_round_147 : decode cX4_round 147 = .ok (.getfield 100, 3) := dk_180 0 100 (dk_at dksX4_round_6 5 rfl rfl)
theorem dX4_round_150 : decode cX4_round 150 = .ok (.iload 5, 2) := dk_21 5 (dk_at dksX4_round_6 8 rfl rfl)
theorem dX4_round_152 : decode cX4_round 152 = .ok (.aload_n 0, 1) := dk_42 (dk_at dksX4_round_6 10 rfl rfl)
theorem dX4_round_153 : decode cX4_round 153 = .ok (.iload_n 3, 1) := dk_29 (dk_at dksX4_round_6 11 rfl rfl)
theorem dX4_round_154 : decode cX4_round 154 = .ok (.iload_n 1, 1) := dk_27 (dk_at dksX4_round_6 12 rfl rfl)
theorem dX4_round_155 : decode cX4_round 155 = .ok (.iload 5, 2) := dk_21 5 (dk_at dksX4_round_6 13 rfl rfl)
theorem dX4_round_157 : decode cX4_round 157 = .ok (.invokevirtual 461, 3) := dk_182 1 205 (dk_at dksX4_round_6 15 rfl rfl)
theorem dX4_round_160 : decode cX4_round 160 = .ok (.iastore, 1) := dk_79 (dk_at dksX4_round_6 18 rfl rfl)
theorem dX4_round_161 : decode cX4_round 161 = .ok (.iinc 5 1, 3) := dk_132 5 1 (dk_at dksX4_round_6 19 rfl rfl)
theorem dX4_round_164 : decode cX4_round 164 = .ok (.goto (-24), 3) := dk_167 255 232 (dk_at dksX4_round_7 0 rfl rfl)
theorem dX4_round_167 : decode cX4_round 167 = .ok (.aload_n 0, 1) := dk_42 (dk_at dksX4_round_7 3 rfl rfl)
theorem dX4_round_168 : decode cX4_round 168 = .ok (.iload_n 1, 1) := dk_27 (dk_at dksX4_round_7 4 rfl rfl)
theorem dX4_round_169 : decode cX4_round 169 = .ok (.putfield 383, 3) := dk_181 1 127 (dk_at dksX4_round_7 5 rfl rfl)
theorem dX4_round_172 : decode cX4_round 172 = .ok (.iload_n 2, 1) := dk_28 (dk_at dksX4_round_7 8 rfl rfl)
theorem dX4_round_173 : decode cX4_round 173 = .ok (.ifCond .ne 11, 3) := dk_154 0 11 (dk_at dksX4_round_7 9 rfl rfl)
theorem dX4_round_176 : decode cX4_round 176 = .ok (.iload 4, 2) := dk_21 4 (dk_at dksX4_round_7 12 rfl rfl)
theorem dX4_round_178 : decode cX4_round 178 = .ok (.bipush 100, 2) := dk_16 100 (dk_at dksX4_round_7 14 rfl rfl)
theorem dX4_round_180 : decode cX4_round 180 = .ok (.idiv, 1) := dk_108 (dk_at dksX4_round_7 16 rfl rfl)
theorem dX4_round_181 : decode cX4_round 181 = .ok (.goto 8, 3) := dk_167 0 8 (dk_at dksX4_round_7 17 rfl rfl)
theorem dX4_round_184 : decode cX4_round 184 = .ok (.iload 4, 2) := dk_21 4 (dk_at dksX4_round_7 20 rfl rfl)
theorem dX4_round_186 : decode cX4_round 186 = .ok (.bipush 100, 2) := dk_16 100 (dk_at dksX4_round_7 22 rfl rfl)
theorem dX4_round_188 : decode cX4_round 188 = .ok (.irem, 1) := dk_112 (dk_at dksX4_round_8 0 rfl rfl)
theorem dX4_round_189 : decode cX4_round 189 = .ok (.ireturn, 1) := dk_172 (dk_at dksX4_round_8 1 rfl rfl)
abbrev cX4_power : ByteArray := prog_23_method_43_code
def yX4_power : MethodName := ⟨RX4, "power", "(II)I"⟩
def dkwX4_power_0 : List UInt8 := [4, 61, 3, 62, 29, 27, 162, 0, 13, 28, 26, 104, 61, 132, 3, 1, 167, 255, 244, 28, 172]
abbrev dktX4_power_0 : List UInt8 := dkwX4_power_0 ++ []
theorem dksX4_power_0 : cX4_power.data.toList.drop 0 = dktX4_power_0 := by decide +kernel
theorem dX4_power_0 : decode cX4_power 0 = .ok (.iconst 1, 1) := dk_4 (dk_at dksX4_power_0 0 rfl rfl)
theorem dX4_power_1 : decode cX4_power 1 = .ok (.istore_n 2, 1) := dk_61 (dk_at dksX4_power_0 1 rfl rfl)
theorem dX4_power_2 : decode cX4_power 2 = .ok (.iconst 0, 1) := dk_3 (dk_at dksX4_power_0 2 rfl rfl)
theorem dX4_power_3 : decode cX4_power 3 = .ok (.istore_n 3, 1) := dk_62 (dk_at dksX4_power_0 3 rfl rfl)
theorem dX4_power_4 : decode cX4_power 4 = .ok (.iload_n 3, 1) := dk_29 (dk_at dksX4_power_0 4 rfl rfl)
theorem dX4_power_5 : decode cX4_power 5 = .ok (.iload_n 1, 1) := dk_27 (dk_at dksX4_power_0 5 rfl rfl)
theorem dX4_power_6 : decode cX4_power 6 = .ok (.if_icmp .ge 13, 3) := dk_162 0 13 (dk_at dksX4_power_0 6 rfl rfl)
theorem dX4_power_9 : decode cX4_power 9 = .ok (.iload_n 2, 1) := dk_28 (dk_at dksX4_power_0 9 rfl rfl)
theorem dX4_power_10 : decode cX4_power 10 = .ok (.iload_n 0, 1) := dk_26 (dk_at dksX4_power_0 10 rfl rfl)
theorem dX4_power_11 : decode cX4_power 11 = .ok (.imul, 1) := dk_104 (dk_at dksX4_power_0 11 rfl rfl)
theorem dX4_power_12 : decode cX4_power 12 = .ok (.istore_n 2, 1) := dk_61 (dk_at dksX4_power_0 12 rfl rfl)
theorem dX4_power_13 : decode cX4_power 13 = .ok (.iinc 3 1, 3) := dk_132 3 1 (dk_at dksX4_power_0 13 rfl rfl)
theorem dX4_power_16 : decode cX4_power 16 = .ok (.goto (-12), 3) := dk_167 255 244 (dk_at dksX4_power_0 16 rfl rfl)
theorem dX4_power_19 : decode cX4_power 19 = .ok (.iload_n 2, 1) := dk_28 (dk_at dksX4_power_0 19 rfl rfl)
theorem dX4_power_20 : decode cX4_power 20 = .ok (.ireturn, 1) := dk_172 (dk_at dksX4_power_0 20 rfl rfl)
abbrev cX4_keepNow : ByteArray := prog_23_method_93_code
def yX4_keepNow : MethodName := ⟨RX4, "keepNow", "()V"⟩
def dkwX4_keepNow_1 : List UInt8 := [167, 255, 235, 177]
abbrev dktX4_keepNow_1 : List UInt8 := dkwX4_keepNow_1 ++ []
def dkwX4_keepNow_0 : List UInt8 := [3, 60, 27, 16, 19, 162, 0, 21, 42, 180, 0, 97, 27, 42, 180, 0, 88, 27, 46, 79, 132, 1, 1]
abbrev dktX4_keepNow_0 : List UInt8 := dkwX4_keepNow_0 ++ dktX4_keepNow_1
theorem dksX4_keepNow_0 : cX4_keepNow.data.toList.drop 0 = dktX4_keepNow_0 := by decide +kernel
theorem dksX4_keepNow_1 : cX4_keepNow.data.toList.drop 23 = dktX4_keepNow_1 := dk_seg dksX4_keepNow_0 23 rfl rfl
theorem dX4_keepNow_0 : decode cX4_keepNow 0 = .ok (.iconst 0, 1) := dk_3 (dk_at dksX4_keepNow_0 0 rfl rfl)
theorem dX4_keepNow_1 : decode cX4_keepNow 1 = .ok (.istore_n 1, 1) := dk_60 (dk_at dksX4_keepNow_0 1 rfl rfl)
theorem dX4_keepNow_2 : decode cX4_keepNow 2 = .ok (.iload_n 1, 1) := dk_27 (dk_at dksX4_keepNow_0 2 rfl rfl)
theorem dX4_keepNow_3 : decode cX4_keepNow 3 = .ok (.bipush 19, 2) := dk_16 19 (dk_at dksX4_keepNow_0 3 rfl rfl)
theorem dX4_keepNow_5 : decode cX4_keepNow 5 = .ok (.if_icmp .ge 21, 3) := dk_162 0 21 (dk_at dksX4_keepNow_0 5 rfl rfl)
theorem dX4_keepNow_8 : decode cX4_keepNow 8 = .ok (.aload_n 0, 1) := dk_42 (dk_at dksX4_keepNow_0 8 rfl rfl)
theorem dX4_keepNow_9 : decode cX4_keepNow 9 = .ok (.getfield 97, 3) := dk_180 0 97 (dk_at dksX4_keepNow_0 9 rfl rfl)
theorem dX4_keepNow_12 : decode cX4_keepNow 12 = .ok (.iload_n 1, 1) := dk_27 (dk_at dksX4_keepNow_0 12 rfl rfl)
theorem dX4_keepNow_13 : decode cX4_keepNow 13 = .ok (.aload_n 0, 1) := dk_42 (dk_at dksX4_keepNow_0 13 rfl rfl)
theorem dX4_keepNow_14 : decode cX4_keepNow 14 = .ok (.getfield 88, 3) := dk_180 0 88 (dk_at dksX4_keepNow_0 14 rfl rfl)
theorem dX4_keepNow_17 : decode cX4_keepNow 17 = .ok (.iload_n 1, 1) := dk_27 (dk_at dksX4_keepNow_0 17 rfl rfl)
theorem dX4_keepNow_18 : decode cX4_keepNow 18 = .ok (.iaload, 1) := dk_46 (dk_at dksX4_keepNow_0 18 rfl rfl)
theorem dX4_keepNow_19 : decode cX4_keepNow 19 = .ok (.iastore, 1) := dk_79 (dk_at dksX4_keepNow_0 19 rfl rfl)
theorem dX4_keepNow_20 : decode cX4_keepNow 20 = .ok (.iinc 1 1, 3) := dk_132 1 1 (dk_at dksX4_keepNow_0 20 rfl rfl)
theorem dX4_keepNow_23 : decode cX4_keepNow 23 = .ok (.goto (-21), 3) := dk_167 255 235 (dk_at dksX4_keepNow_1 0 rfl rfl)
theorem dX4_keepNow_26 : decode cX4_keepNow 26 = .ok (.return_, 1) := dk_177 (dk_at dksX4_keepNow_1 3 rfl rfl)
abbrev cX4_inRow : ByteArray := prog_23_method_106_code
def yX4_inRow : MethodName := ⟨RX4, "inRow", "(III)I"⟩
def dkwX4_inRow_0 : List UInt8 := [27, 42, 182, 1, 109, 28, 4, 100, 29, 100, 184, 1, 199, 108, 42, 182, 1, 109, 112, 172]
abbrev dktX4_inRow_0 : List UInt8 := dkwX4_inRow_0 ++ []
theorem dksX4_inRow_0 : cX4_inRow.data.toList.drop 0 = dktX4_inRow_0 := by decide +kernel
theorem dX4_inRow_0 : decode cX4_inRow 0 = .ok (.iload_n 1, 1) := dk_27 (dk_at dksX4_inRow_0 0 rfl rfl)
theorem dX4_inRow_1 : decode cX4_inRow 1 = .ok (.aload_n 0, 1) := dk_42 (dk_at dksX4_inRow_0 1 rfl rfl)
theorem dX4_inRow_2 : decode cX4_inRow 2 = .ok (.invokevirtual 365, 3) := dk_182 1 109 (dk_at dksX4_inRow_0 2 rfl rfl)
theorem dX4_inRow_5 : decode cX4_inRow 5 = .ok (.iload_n 2, 1) := dk_28 (dk_at dksX4_inRow_0 5 rfl rfl)
theorem dX4_inRow_6 : decode cX4_inRow 6 = .ok (.iconst 1, 1) := dk_4 (dk_at dksX4_inRow_0 6 rfl rfl)
theorem dX4_inRow_7 : decode cX4_inRow 7 = .ok (.isub, 1) := dk_100 (dk_at dksX4_inRow_0 7 rfl rfl)
theorem dX4_inRow_8 : decode cX4_inRow 8 = .ok (.iload_n 3, 1) := dk_29 (dk_at dksX4_inRow_0 8 rfl rfl)
theorem dX4_inRow_9 : decode cX4_inRow 9 = .ok (.isub, 1) := dk_100 (dk_at dksX4_inRow_0 9 rfl rfl)
theorem dX4_inRow_10 : decode cX4_inRow 10 = .ok (.invokestatic 455, 3) := dk_184 1 199 (dk_at dksX4_inRow_0 10 rfl rfl)
theorem dX4_inRow_13 : decode cX4_inRow 13 = .ok (.idiv, 1) := dk_108 (dk_at dksX4_inRow_0 13 rfl rfl)
theorem dX4_inRow_14 : decode cX4_inRow 14 = .ok (.aload_n 0, 1) := dk_42 (dk_at dksX4_inRow_0 14 rfl rfl)
theorem dX4_inRow_15 : decode cX4_inRow 15 = .ok (.invokevirtual 365, 3) := dk_182 1 109 (dk_at dksX4_inRow_0 15 rfl rfl)
theorem dX4_inRow_18 : decode cX4_inRow 18 = .ok (.irem, 1) := dk_112 (dk_at dksX4_inRow_0 18 rfl rfl)
theorem dX4_inRow_19 : decode cX4_inRow 19 = .ok (.ireturn, 1) := dk_172 (dk_at dksX4_inRow_0 19 rfl rfl)
abbrev cX4_bringBack : ByteArray := prog_23_method_94_code
def yX4_bringBack : MethodName := ⟨RX4, "bringBack", "()V"⟩
def dkwX4_bringBack_1 : List UInt8 := [167, 255, 235, 177]
abbrev dktX4_bringBack_1 : List UInt8 := dkwX4_bringBack_1 ++ []
def dkwX4_bringBack_0 : List UInt8 := [3, 60, 27, 16, 19, 162, 0, 21, 42, 180, 0, 88, 27, 42, 180, 0, 97, 27, 46, 79, 132, 1, 1]
abbrev dktX4_bringBack_0 : List UInt8 := dkwX4_bringBack_0 ++ dktX4_bringBack_1
theorem dksX4_bringBack_0 : cX4_bringBack.data.toList.drop 0 = dktX4_bringBack_0 := by decide +kernel
theorem dksX4_bringBack_1 : cX4_bringBack.data.toList.drop 23 = dktX4_bringBack_1 := dk_seg dksX4_bringBack_0 23 rfl rfl
theorem dX4_bringBack_0 : decode cX4_bringBack 0 = .ok (.iconst 0, 1) := dk_3 (dk_at dksX4_bringBack_0 0 rfl rfl)
theorem dX4_bringBack_1 : decode cX4_bringBack 1 = .ok (.istore_n 1, 1) := dk_60 (dk_at dksX4_bringBack_0 1 rfl rfl)
theorem dX4_bringBack_2 : decode cX4_bringBack 2 = .ok (.iload_n 1, 1) := dk_27 (dk_at dksX4_bringBack_0 2 rfl rfl)
theorem dX4_bringBack_3 : decode cX4_bringBack 3 = .ok (.bipush 19, 2) := dk_16 19 (dk_at dksX4_bringBack_0 3 rfl rfl)
theorem dX4_bringBack_5 : decode cX4_bringBack 5 = .ok (.if_icmp .ge 21, 3) := dk_162 0 21 (dk_at dksX4_bringBack_0 5 rfl rfl)
theorem dX4_bringBack_8 : decode cX4_bringBack 8 = .ok (.aload_n 0, 1) := dk_42 (dk_at dksX4_bringBack_0 8 rfl rfl)
theorem dX4_bringBack_9 : decode cX4_bringBack 9 = .ok (.getfield 88, 3) := dk_180 0 88 (dk_at dksX4_bringBack_0 9 rfl rfl)
theorem dX4_bringBack_12 : decode cX4_bringBack 12 = .ok (.iload_n 1, 1) := dk_27 (dk_at dksX4_bringBack_0 12 rfl rfl)
theorem dX4_bringBack_13 : decode cX4_bringBack 13 = .ok (.aload_n 0, 1) := dk_42 (dk_at dksX4_bringBack_0 13 rfl rfl)
theorem dX4_bringBack_14 : decode cX4_bringBack 14 = .ok (.getfield 97, 3) := dk_180 0 97 (dk_at dksX4_bringBack_0 14 rfl rfl)
theorem dX4_bringBack_17 : decode cX4_bringBack 17 = .ok (.iload_n 1, 1) := dk_27 (dk_at dksX4_bringBack_0 17 rfl rfl)
theorem dX4_bringBack_18 : decode cX4_bringBack 18 = .ok (.iaload, 1) := dk_46 (dk_at dksX4_bringBack_0 18 rfl rfl)
theorem dX4_bringBack_19 : decode cX4_bringBack 19 = .ok (.iastore, 1) := dk_79 (dk_at dksX4_bringBack_0 19 rfl rfl)
theorem dX4_bringBack_20 : decode cX4_bringBack 20 = .ok (.iinc 1 1, 3) := dk_132 1 1 (dk_at dksX4_bringBack_0 20 rfl rfl)
theorem dX4_bringBack_23 : decode cX4_bringBack 23 = .ok (.goto (-21), 3) := dk_167 255 235 (dk_at dksX4_bringBack_1 0 rfl rfl)
theorem dX4_bringBack_26 : decode cX4_bringBack 26 = .ok (.return_, 1) := dk_177 (dk_at dksX4_bringBack_1 3 rfl rfl)
abbrev cX4_fewest : ByteArray := prog_23_method_108_code
def yX4_fewest : MethodName := ⟨RX4, "fewest", "(I)I"⟩
def dkwX4_fewest_3 : List UInt8 := [154, 0, 10, 29, 184, 1, 83, 167, 0, 13, 27, 4, 160, 0, 7, 29, 167, 0, 4, 28, 172]
abbrev dktX4_fewest_3 : List UInt8 := dkwX4_fewest_3 ++ []
def dkwX4_fewest_2 : List UInt8 := [162, 0, 16, 42, 21, 4, 182, 1, 175, 28, 160, 0, 6, 21, 4, 62, 132, 4, 1, 167, 255, 215, 27]
abbrev dktX4_fewest_2 : List UInt8 := dkwX4_fewest_2 ++ dktX4_fewest_3
def dkwX4_fewest_1 : List UInt8 := [54, 4, 21, 4, 42, 182, 1, 172, 163, 0, 38, 29, 155, 0, 15, 21, 4, 184, 1, 83, 29, 184, 1, 83]
abbrev dktX4_fewest_1 : List UInt8 := dkwX4_fewest_1 ++ dktX4_fewest_2
def dkwX4_fewest_0 : List UInt8 := [27, 3, 5, 184, 1, 105, 154, 0, 5, 2, 172, 42, 42, 182, 1, 172, 182, 1, 175, 61, 2, 62, 3]
abbrev dktX4_fewest_0 : List UInt8 := dkwX4_fewest_0 ++ dktX4_fewest_1
theorem dksX4_fewest_0 : cX4_fewest.data.toList.drop 0 = dktX4_fewest_0 := by decide +kernel
theorem dksX4_fewest_1 : cX4_fewest.data.toList.drop 23 = dktX4_fewest_1 := dk_seg dksX4_fewest_0 23 rfl rfl
theorem dksX4_fewest_2 : cX4_fewest.data.toList.drop 47 = dktX4_fewest_2 := dk_seg dksX4_fewest_1 24 rfl rfl
theorem dksX4_fewest_3 : cX4_fewest.data.toList.drop 70 = dktX4_fewest_3 := dk_seg dksX4_fewest_2 23 rfl rfl
theorem dX4_fewest_0 : decode cX4_fewest 0 = .ok (.iload_n 1, 1) := dk_27 (dk_at dksX4_fewest_0 0 rfl rfl)
theorem dX4_fewest_1 : decode cX4_fewest 1 = .ok (.iconst 0, 1) := dk_3 (dk_at dksX4_fewest_0 1 rfl rfl)
theorem dX4_fewest_2 : decode cX4_fewest 2 = .ok (.iconst 2, 1) := dk_5 (dk_at dksX4_fewest_0 2 rfl rfl)
theorem dX4_fewest_3 : decode cX4_fewest 3 = .ok (.invokestatic 361, 3) := dk_184 1 105 (dk_at dksX4_fewest_0 3 rfl rfl)
theorem dX4_fewest_6 : decode cX4_fewest 6 = .ok (.ifCond .ne 5, 3) := dk_154 0 5 (dk_at dksX4_fewest_0 6 rfl rfl)
theorem dX4_fewest_9 : decode cX4_fewest 9 = .ok (.iconst (-1), 1) := dk_2 (dk_at dksX4_fewest_0 9 rfl rfl)
theorem dX4_fewest_10 : decode cX4_fewest 10 = .ok (.ireturn, 1) := dk_172 (dk_at dksX4_fewest_0 10 rfl rfl)
theorem dX4_fewest_11 : decode cX4_fewest 11 = .ok (.aload_n 0, 1) := dk_42 (dk_at dksX4_fewest_0 11 rfl rfl)
theorem dX4_fewest_12 : decode cX4_fewest 12 = .ok (.aload_n 0, 1) := dk_42 (dk_at dksX4_fewest_0 12 rfl rfl)
theorem dX4_fewest_13 : decode cX4_fewest 13 = .ok (.invokevirtual 428, 3) := dk_182 1 172 (dk_at dksX4_fewest_0 13 rfl rfl)
theorem dX4_fewest_16 : decode cX4_fewest 16 = .ok (.invokevirtual 431, 3) := dk_182 1 175 (dk_at dksX4_fewest_0 16 rfl rfl)
theorem dX4_fewest_19 : decode cX4_fewest 19 = .ok (.istore_n 2, 1) := dk_61 (dk_at dksX4_fewest_0 19 rfl rfl)
theorem dX4_fewest_20 : decode cX4_fewest 20 = .ok (.iconst (-1), 1) := dk_2 (dk_at dksX4_fewest_0 20 rfl rfl)
theorem dX4_fewest_21 : decode cX4_fewest 21 = .ok (.istore_n 3, 1) := dk_62 (dk_at dksX4_fewest_0 21 rfl rfl)
theorem dX4_fewest_22 : decode cX4_fewest 22 = .ok (.iconst 0, 1) := dk_3 (dk_at dksX4_fewest_0 22 rfl rfl)
theorem dX4_fewest_23 : decode cX4_fewest 23 = .ok (.istore 4, 2) := dk_54 4 (dk_at dksX4_fewest_1 0 rfl rfl)
theorem dX4_fewest_25 : decode cX4_fewest 25 = .ok (.iload 4, 2) := dk_21 4 (dk_at dksX4_fewest_1 2 rfl rfl)
theorem dX4_fewest_27 : decode cX4_fewest 27 = .ok (.aload_n 0, 1) := dk_42 (dk_at dksX4_fewest_1 4 rfl rfl)
theorem dX4_fewest_28 : decode cX4_fewest 28 = .ok (.invokevirtual 428, 3) := dk_182 1 172 (dk_at dksX4_fewest_1 5 rfl rfl)
theorem dX4_fewest_31 : decode cX4_fewest 31 = .ok (.if_icmp .gt 38, 3) := dk_163 0 38 (dk_at dksX4_fewest_1 8 rfl rfl)
theorem dX4_fewest_34 : decode cX4_fewest 34 = .ok (.iload_n 3, 1) := dk_29 (dk_at dksX4_fewest_1 11 rfl rfl)
theorem dX4_fewest_35 : decode cX4_fewest 35 = .ok (.ifCond .lt 15, 3) := dk_155 0 15 (dk_at dksX4_fewest_1 12 rfl rfl)
theorem dX4_fewest_38 : decode cX4_fewest 38 = .ok (.iload 4, 2) := dk_21 4 (dk_at dksX4_fewest_1 15 rfl rfl)
theorem dX4_fewest_40 : decode cX4_fewest 40 = .ok (.invokestatic 339, 3) := dk_184 1 83 (dk_at dksX4_fewest_1 17 rfl rfl)
theorem dX4_fewest_43 : decode cX4_fewest 43 = .ok (.iload_n 3, 1) := dk_29 (dk_at dksX4_fewest_1 20 rfl rfl)
theorem dX4_fewest_44 : decode cX4_fewest 44 = .ok (.invokestatic 339, 3) := dk_184 1 83 (dk_at dksX4_fewest_1 21 rfl rfl)
theorem dX4_fewest_47 : decode cX4_fewest 47 = .ok (.if_icmp .ge 16, 3) := dk_162 0 16 (dk_at dksX4_fewest_2 0 rfl rfl)
theorem dX4_fewest_50 : decode cX4_fewest 50 = .ok (.aload_n 0, 1) := dk_42 (dk_at dksX4_fewest_2 3 rfl rfl)
theorem dX4_fewest_51 : decode cX4_fewest 51 = .ok (.iload 4, 2) := dk_21 4 (dk_at dksX4_fewest_2 4 rfl rfl)
theorem dX4_fewest_53 : decode cX4_fewest 53 = .ok (.invokevirtual 431, 3) := dk_182 1 175 (dk_at dksX4_fewest_2 6 rfl rfl)
theorem dX4_fewest_56 : decode cX4_fewest 56 = .ok (.iload_n 2, 1) := dk_28 (dk_at dksX4_fewest_2 9 rfl rfl)
theorem dX4_fewest_57 : decode cX4_fewest 57 = .ok (.if_icmp .ne 6, 3) := dk_160 0 6 (dk_at dksX4_fewest_2 10 rfl rfl)
theorem dX4_fewest_60 : decode cX4_fewest 60 = .ok (.iload 4, 2) := dk_21 4 (dk_at dksX4_fewest_2 13 rfl rfl)
theorem dX4_fewest_62 : decode cX4_fewest 62 = .ok (.istore_n 3, 1) := dk_62 (dk_at dksX4_fewest_2 15 rfl rfl)
theorem dX4_fewest_63 : decode cX4_fewest 63 = .ok (.iinc 4 1, 3) := dk_132 4 1 (dk_at dksX4_fewest_2 16 rfl rfl)
theorem dX4_fewest_66 : decode cX4_fewest 66 = .ok (.goto (-41), 3) := dk_167 255 215 (dk_at dksX4_fewest_2 19 rfl rfl)
theorem dX4_fewest_69 : decode cX4_fewest 69 = .ok (.iload_n 1, 1) := dk_27 (dk_at dksX4_fewest_2 22 rfl rfl)
theorem dX4_fewest_70 : decode cX4_fewest 70 = .ok (.ifCond .ne 10, 3) := dk_154 0 10 (dk_at dksX4_fewest_3 0 rfl rfl)
theorem dX4_fewest_73 : decode cX4_fewest 73 = .ok (.iload_n 3, 1) := dk_29 (dk_at dksX4_fewest_3 3 rfl rfl)
theorem dX4_fewest_74 : decode cX4_fewest 74 = .ok (.invokestatic 339, 3) := dk_184 1 83 (dk_at dksX4_fewest_3 4 rfl rfl)
theorem dX4_fewest_77 : decode cX4_fewest 77 = .ok (.goto 13, 3) := dk_167 0 13 (dk_at dksX4_fewest_3 7 rfl rfl)
theorem dX4_fewest_80 : decode cX4_fewest 80 = .ok (.iload_n 1, 1) := dk_27 (dk_at dksX4_fewest_3 10 rfl rfl)
theorem dX4_fewest_81 : decode cX4_fewest 81 = .ok (.iconst 1, 1) := dk_4 (dk_at dksX4_fewest_3 11 rfl rfl)
theorem dX4_fewest_82 : decode cX4_fewest 82 = .ok (.if_icmp .ne 7, 3) := dk_160 0 7 (dk_at dksX4_fewest_3 12 rfl rfl)
theorem dX4_fewest_85 : decode cX4_fewest 85 = .ok (.iload_n 3, 1) := dk_29 (dk_at dksX4_fewest_3 15 rfl rfl)
theorem dX4_fewest_86 : decode cX4_fewest 86 = .ok (.goto 4, 3) := dk_167 0 4 (dk_at dksX4_fewest_3 16 rfl rfl)
theorem dX4_fewest_89 : decode cX4_fewest 89 = .ok (.iload_n 2, 1) := dk_28 (dk_at dksX4_fewest_3 19 rfl rfl)
theorem dX4_fewest_90 : decode cX4_fewest 90 = .ok (.ireturn, 1) := dk_172 (dk_at dksX4_fewest_3 20 rfl rfl)
abbrev cX4_hide : ByteArray := prog_23_method_109_code
def yX4_hide : MethodName := ⟨RX4, "hide", "(II)I"⟩
def dkwX4_hide_6 : List UInt8 := [21, 5, 172]
abbrev dktX4_hide_6 : List UInt8 := dkwX4_hide_6 ++ []
def dkwX4_hide_5 : List UInt8 := [5, 27, 96, 29, 79, 21, 4, 156, 0, 7, 2, 167, 0, 14, 28, 154, 0, 8, 21, 4, 167, 0, 5]
abbrev dktX4_hide_5 : List UInt8 := dkwX4_hide_5 ++ dktX4_hide_6
def dkwX4_hide_4 : List UInt8 := [167, 0, 14, 21, 6, 54, 4, 21, 7, 184, 1, 83, 54, 5, 132, 6, 1, 167, 255, 193, 42, 180, 0, 88]
abbrev dktX4_hide_4 : List UInt8 := dkwX4_hide_4 ++ dktX4_hide_5
def dkwX4_hide_3 : List UInt8 := [182, 1, 151, 54, 7, 21, 7, 27, 184, 1, 3, 154, 0, 27, 21, 7, 184, 1, 83, 21, 5, 161, 0, 6]
abbrev dktX4_hide_3 : List UInt8 := dkwX4_hide_3 ++ dktX4_hide_4
def dkwX4_hide_2 : List UInt8 := [21, 6, 42, 182, 1, 109, 162, 0, 60, 42, 180, 0, 88, 5, 27, 96, 21, 6, 79, 42, 21, 6]
abbrev dktX4_hide_2 : List UInt8 := dkwX4_hide_2 ++ dktX4_hide_3
def dkwX4_hide_1 : List UInt8 := [154, 0, 5, 2, 172, 42, 180, 0, 88, 5, 27, 96, 46, 62, 2, 54, 4, 16, 100, 54, 5, 3, 54, 6]
abbrev dktX4_hide_1 : List UInt8 := dkwX4_hide_1 ++ dktX4_hide_2
def dkwX4_hide_0 : List UInt8 := [42, 27, 182, 1, 166, 153, 0, 20, 42, 27, 182, 1, 130, 153, 0, 12, 28, 3, 4, 184, 1, 105]
abbrev dktX4_hide_0 : List UInt8 := dkwX4_hide_0 ++ dktX4_hide_1
theorem dksX4_hide_0 : cX4_hide.data.toList.drop 0 = dktX4_hide_0 := by decide +kernel
theorem dksX4_hide_1 : cX4_hide.data.toList.drop 22 = dktX4_hide_1 := dk_seg dksX4_hide_0 22 rfl rfl
theorem dksX4_hide_2 : cX4_hide.data.toList.drop 46 = dktX4_hide_2 := dk_seg dksX4_hide_1 24 rfl rfl
theorem dksX4_hide_3 : cX4_hide.data.toList.drop 68 = dktX4_hide_3 := dk_seg dksX4_hide_2 22 rfl rfl
theorem dksX4_hide_4 : cX4_hide.data.toList.drop 92 = dktX4_hide_4 := dk_seg dksX4_hide_3 24 rfl rfl
theorem dksX4_hide_5 : cX4_hide.data.toList.drop 116 = dktX4_hide_5 := dk_seg dksX4_hide_4 24 rfl rfl
theorem dksX4_hide_6 : cX4_hide.data.toList.drop 139 = dktX4_hide_6 := dk_seg dksX4_hide_5 23 rfl rfl
theorem dX4_hide_0 : decode cX4_hide 0 = .ok (.aload_n 0, 1) := dk_42 (dk_at dksX4_hide_0 0 rfl rfl)
theorem dX4_hide_1 : decode cX4_hide 1 = .ok (.iload_n 1, 1) := dk_27 (dk_at dksX4_hide_0 1 rfl rfl)
theorem dX4_hide_2 : decode cX4_hide 2 = .ok (.invokevirtual 422, 3) := dk_182 1 166 (dk_at dksX4_hide_0 2 rfl rfl)
theorem dX4_hide_5 : decode cX4_hide 5 = .ok (.ifCond .eq 20, 3) := dk_153 0 20 (dk_at dksX4_hide_0 5 rfl rfl)
theorem dX4_hide_8 : decode cX4_hide 8 = .ok (.aload_n 0, 1) := dk_42 (dk_at dksX4_hide_0 8 rfl rfl)
theorem dX4_hide_9 : decode cX4_hide 9 = .ok (.iload_n 1, 1) := dk_27 (dk_at dksX4_hide_0 9 rfl rfl)
theorem dX4_hide_10 : decode cX4_hide 10 = .ok (.invokevirtual 386, 3) := dk_182 1 130 (dk_at dksX4_hide_0 10 rfl rfl)
theorem dX4_hide_13 : decode cX4_hide 13 = .ok (.ifCond .eq 12, 3) := dk_153 0 12 (dk_at dksX4_hide_0 13 rfl rfl)
theorem dX4_hide_16 : decode cX4_hide 16 = .ok (.iload_n 2, 1) := dk_28 (dk_at dksX4_hide_0 16 rfl rfl)
theorem dX4_hide_17 : decode cX4_hide 17 = .ok (.iconst 0, 1) := dk_3 (dk_at dksX4_hide_0 17 rfl rfl)
theorem dX4_hide_18 : decode cX4_hide 18 = .ok (.iconst 1, 1) := dk_4 (dk_at dksX4_hide_0 18 rfl rfl)
theorem dX4_hide_19 : decode cX4_hide 19 = .ok (.invokestatic 361, 3) := dk_184 1 105 (dk_at dksX4_hide_0 19 rfl rfl)
theorem dX4_hide_22 : decode cX4_hide 22 = .ok (.ifCond .ne 5, 3) := dk_154 0 5 (dk_at dksX4_hide_1 0 rfl rfl)
theorem dX4_hide_25 : decode cX4_hide 25 = .ok (.iconst (-1), 1) := dk_2 (dk_at dksX4_hide_1 3 rfl rfl)
theorem dX4_hide_26 : decode cX4_hide 26 = .ok (.ireturn, 1) := dk_172 (dk_at dksX4_hide_1 4 rfl rfl)
theorem dX4_hide_27 : decode cX4_hide 27 = .ok (.aload_n 0, 1) := dk_42 (dk_at dksX4_hide_1 5 rfl rfl)
theorem dX4_hide_28 : decode cX4_hide 28 = .ok (.getfield 88, 3) := dk_180 0 88 (dk_at dksX4_hide_1 6 rfl rfl)
theorem dX4_hide_31 : decode cX4_hide 31 = .ok (.iconst 2, 1) := dk_5 (dk_at dksX4_hide_1 9 rfl rfl)
theorem dX4_hide_32 : decode cX4_hide 32 = .ok (.iload_n 1, 1) := dk_27 (dk_at dksX4_hide_1 10 rfl rfl)
theorem dX4_hide_33 : decode cX4_hide 33 = .ok (.iadd, 1) := dk_96 (dk_at dksX4_hide_1 11 rfl rfl)
theorem dX4_hide_34 : decode cX4_hide 34 = .ok (.iaload, 1) := dk_46 (dk_at dksX4_hide_1 12 rfl rfl)
theorem dX4_hide_35 : decode cX4_hide 35 = .ok (.istore_n 3, 1) := dk_62 (dk_at dksX4_hide_1 13 rfl rfl)
theorem dX4_hide_36 : decode cX4_hide 36 = .ok (.iconst (-1), 1) := dk_2 (dk_at dksX4_hide_1 14 rfl rfl)
theorem dX4_hide_37 : decode cX4_hide 37 = .ok (.istore 4, 2) := dk_54 4 (dk_at dksX4_hide_1 15 rfl rfl)
theorem dX4_hide_39 : decode cX4_hide 39 = .ok (.bipush 100, 2) := dk_16 100 (dk_at dksX4_hide_1 17 rfl rfl)
theorem dX4_hide_41 : decode cX4_hide 41 = .ok (.istore 5, 2) := dk_54 5 (dk_at dksX4_hide_1 19 rfl rfl)
theorem dX4_hide_43 : decode cX4_hide 43 = .ok (.iconst 0, 1) := dk_3 (dk_at dksX4_hide_1 21 rfl rfl)
theorem dX4_hide_44 : decode cX4_hide 44 = .ok (.istore 6, 2) := dk_54 6 (dk_at dksX4_hide_1 22 rfl rfl)
theorem dX4_hide_46 : decode cX4_hide 46 = .ok (.iload 6, 2) := dk_21 6 (dk_at dksX4_hide_2 0 rfl rfl)
theorem dX4_hide_48 : decode cX4_hide 48 = .ok (.aload_n 0, 1) := dk_42 (dk_at dksX4_hide_2 2 rfl rfl)
theorem dX4_hide_49 : decode cX4_hide 49 = .ok (.invokevirtual 365, 3) := dk_182 1 109 (dk_at dksX4_hide_2 3 rfl rfl)
theorem dX4_hide_52 : decode cX4_hide 52 = .ok (.if_icmp .ge 60, 3) := dk_162 0 60 (dk_at dksX4_hide_2 6 rfl rfl)
theorem dX4_hide_55 : decode cX4_hide 55 = .ok (.aload_n 0, 1) := dk_42 (dk_at dksX4_hide_2 9 rfl rfl)
theorem dX4_hide_56 : decode cX4_hide 56 = .ok (.getfield 88, 3) := dk_180 0 88 (dk_at dksX4_hide_2 10 rfl rfl)
theorem dX4_hide_59 : decode cX4_hide 59 = .ok (.iconst 2, 1) := dk_5 (dk_at dksX4_hide_2 13 rfl rfl)
theorem dX4_hide_60 : decode cX4_hide 60 = .ok (.iload_n 1, 1) := dk_27 (dk_at dksX4_hide_2 14 rfl rfl)
theorem dX4_hide_61 : decode cX4_hide 61 = .ok (.iadd, 1) := dk_96 (dk_at dksX4_hide_2 15 rfl rfl)
theorem dX4_hide_62 : decode cX4_hide 62 = .ok (.iload 6, 2) := dk_21 6 (dk_at dksX4_hide_2 16 rfl rfl)
theorem dX4_hide_64 : decode cX4_hide 64 = .ok (.iastore, 1) := dk_79 (dk_at dksX4_hide_2 18 rfl rfl)
theorem dX4_hide_65 : decode cX4_hide 65 = .ok (.aload_n 0, 1) := dk_42 (dk_at dksX4_hide_2 19 rfl rfl)
theorem dX4_hide_66 : decode cX4_hide 66 = .ok (.iload 6, 2) := dk_21 6 (dk_at dksX4_hide_2 20 rfl rfl)
theorem dX4_hide_68 : decode cX4_hide 68 = .ok (.invokevirtual 407, 3) := dk_182 1 151 (dk_at dksX4_hide_3 0 rfl rfl)
theorem dX4_hide_71 : decode cX4_hide 71 = .ok (.istore 7, 2) := dk_54 7 (dk_at dksX4_hide_3 3 rfl rfl)
theorem dX4_hide_73 : decode cX4_hide 73 = .ok (.iload 7, 2) := dk_21 7 (dk_at dksX4_hide_3 5 rfl rfl)
theorem dX4_hide_75 : decode cX4_hide 75 = .ok (.iload_n 1, 1) := dk_27 (dk_at dksX4_hide_3 7 rfl rfl)
theorem dX4_hide_76 : decode cX4_hide 76 = .ok (.invokestatic 259, 3) := dk_184 1 3 (dk_at dksX4_hide_3 8 rfl rfl)
theorem dX4_hide_79 : decode cX4_hide 79 = .ok (.ifCond .ne 27, 3) := dk_154 0 27 (dk_at dksX4_hide_3 11 rfl rfl)
theorem dX4_hide_82 : decode cX4_hide 82 = .ok (.iload 7, 2) := dk_21 7 (dk_at dksX4_hide_3 14 rfl rfl)
theorem dX4_hide_84 : decode cX4_hide 84 = .ok (.invokestatic 339, 3) := dk_184 1 83 (dk_at dksX4_hide_3 16 rfl rfl)
theorem dX4_hide_87 : decode cX4_hide 87 = .ok (.iload 5, 2) := dk_21 5 (dk_at dksX4_hide_3 19 rfl rfl)
theorem dX4_hide_89 : decode cX4_hide 89 = .ok (.if_icmp .lt 6, 3) := dk_161 0 6 (dk_at dksX4_hide_3 21 rfl rfl)
theorem dX4_hide_92 : decode cX4_hide 92 = .ok (.goto 14, 3) := dk_167 0 14 (dk_at dksX4_hide_4 0 rfl rfl)
theorem dX4_hide_95 : decode cX4_hide 95 = .ok (.iload 6, 2) := dk_21 6 (dk_at dksX4_hide_4 3 rfl rfl)
theorem dX4_hide_97 : decode cX4_hide 97 = .ok (.istore 4, 2) := dk_54 4 (dk_at dksX4_hide_4 5 rfl rfl)
theorem dX4_hide_99 : decode cX4_hide 99 = .ok (.iload 7, 2) := dk_21 7 (dk_at dksX4_hide_4 7 rfl rfl)
theorem dX4_hide_101 : decode cX4_hide 101 = .ok (.invokestatic 339, 3) := dk_184 1 83 (dk_at dksX4_hide_4 9 rfl rfl)
theorem dX4_hide_104 : decode cX4_hide 104 = .ok (.istore 5, 2) := dk_54 5 (dk_at dksX4_hide_4 12 rfl rfl)
theorem dX4_hide_106 : decode cX4_hide 106 = .ok (.iinc 6 1, 3) := dk_132 6 1 (dk_at dksX4_hide_4 14 rfl rfl)
theorem dX4_hide_109 : decode cX4_hide 109 = .ok (.goto (-63), 3) := dk_167 255 193 (dk_at dksX4_hide_4 17 rfl rfl)
theorem dX4_hide_112 : decode cX4_hide 112 = .ok (.aload_n 0, 1) := dk_42 (dk_at dksX4_hide_4 20 rfl rfl)
theorem dX4_hide_113 : decode cX4_hide 113 = .ok (.getfield 88, 3) := dk_180 0 88 (dk_at dksX4_hide_4 21 rfl rfl)
theorem dX4_hide_116 : decode cX4_hide 116 = .ok (.iconst 2, 1) := dk_5 (dk_at dksX4_hide_5 0 rfl rfl)
theorem dX4_hide_117 : decode cX4_hide 117 = .ok (.iload_n 1, 1) := dk_27 (dk_at dksX4_hide_5 1 rfl rfl)
theorem dX4_hide_118 : decode cX4_hide 118 = .ok (.iadd, 1) := dk_96 (dk_at dksX4_hide_5 2 rfl rfl)
theorem dX4_hide_119 : decode cX4_hide 119 = .ok (.iload_n 3, 1) := dk_29 (dk_at dksX4_hide_5 3 rfl rfl)
theorem dX4_hide_120 : decode cX4_hide 120 = .ok (.iastore, 1) := dk_79 (dk_at dksX4_hide_5 4 rfl rfl)
theorem dX4_hide_121 : decode cX4_hide 121 = .ok (.iload 4, 2) := dk_21 4 (dk_at dksX4_hide_5 5 rfl rfl)
theorem dX4_hide_123 : decode cX4_hide 123 = .ok (.ifCond .ge 7, 3) := dk_156 0 7 (dk_at dksX4_hide_5 7 rfl rfl)
theorem dX4_hide_126 : decode cX4_hide 126 = .ok (.iconst (-1), 1) := dk_2 (dk_at dksX4_hide_5 10 rfl rfl)
theorem dX4_hide_127 : decode cX4_hide 127 = .ok (.goto 14, 3) := dk_167 0 14 (dk_at dksX4_hide_5 11 rfl rfl)
theorem dX4_hide_130 : decode cX4_hide 130 = .ok (.iload_n 2, 1) := dk_28 (dk_at dksX4_hide_5 14 rfl rfl)
theorem dX4_hide_131 : decode cX4_hide 131 = .ok (.ifCond .ne 8, 3) := dk_154 0 8 (dk_at dksX4_hide_5 15 rfl rfl)
theorem dX4_hide_134 : decode cX4_hide 134 = .ok (.iload 4, 2) := dk_21 4 (dk_at dksX4_hide_5 18 rfl rfl)
theorem dX4_hide_136 : decode cX4_hide 136 = .ok (.goto 5, 3) := dk_167 0 5 (dk_at dksX4_hide_5 20 rfl rfl)
theorem dX4_hide_139 : decode cX4_hide 139 = .ok (.iload 5, 2) := dk_21 5 (dk_at dksX4_hide_6 0 rfl rfl)
theorem dX4_hide_141 : decode cX4_hide 141 = .ok (.ireturn, 1) := dk_172 (dk_at dksX4_hide_6 2 rfl rfl)
abbrev cX4_blend : ByteArray := prog_23_method_110_code
def yX4_blend : MethodName := ⟨RX4, "blend", "(II)I"⟩
def dkwX4_blend_3 : List UInt8 := [167, 255, 216, 42, 27, 182, 1, 151, 184, 1, 83, 62, 42, 182, 1, 208, 29, 172]
abbrev dktX4_blend_3 : List UInt8 := dkwX4_blend_3 ++ []
def dkwX4_blend_2 : List UInt8 := [180, 0, 88, 5, 29, 96, 46, 28, 160, 0, 12, 42, 180, 0, 88, 5, 29, 96, 27, 79, 132, 3, 1]
abbrev dktX4_blend_2 : List UInt8 := dkwX4_blend_2 ++ dktX4_blend_3
def dkwX4_blend_1 : List UInt8 := [182, 1, 202, 3, 62, 29, 42, 182, 1, 112, 162, 0, 38, 42, 29, 182, 1, 130, 153, 0, 24, 42]
abbrev dktX4_blend_1 : List UInt8 := dkwX4_blend_1 ++ dktX4_blend_2
def dkwX4_blend_0 : List UInt8 := [42, 27, 182, 1, 169, 153, 0, 16, 42, 28, 182, 1, 169, 153, 0, 8, 27, 28, 160, 0, 5, 2, 172, 42]
abbrev dktX4_blend_0 : List UInt8 := dkwX4_blend_0 ++ dktX4_blend_1
theorem dksX4_blend_0 : cX4_blend.data.toList.drop 0 = dktX4_blend_0 := by decide +kernel
theorem dksX4_blend_1 : cX4_blend.data.toList.drop 24 = dktX4_blend_1 := dk_seg dksX4_blend_0 24 rfl rfl
theorem dksX4_blend_2 : cX4_blend.data.toList.drop 46 = dktX4_blend_2 := dk_seg dksX4_blend_1 22 rfl rfl
theorem dksX4_blend_3 : cX4_blend.data.toList.drop 69 = dktX4_blend_3 := dk_seg dksX4_blend_2 23 rfl rfl
theorem dX4_blend_0 : decode cX4_blend 0 = .ok (.aload_n 0, 1) := dk_42 (dk_at dksX4_blend_0 0 rfl rfl)
theorem dX4_blend_1 : decode cX4_blend 1 = .ok (.iload_n 1, 1) := dk_27 (dk_at dksX4_blend_0 1 rfl rfl)
theorem dX4_blend_2 : decode cX4_blend 2 = .ok (.invokevirtual 425, 3) := dk_182 1 169 (dk_at dksX4_blend_0 2 rfl rfl)
theorem dX4_blend_5 : decode cX4_blend 5 = .ok (.ifCond .eq 16, 3) := dk_153 0 16 (dk_at dksX4_blend_0 5 rfl rfl)
theorem dX4_blend_8 : decode cX4_blend 8 = .ok (.aload_n 0, 1) := dk_42 (dk_at dksX4_blend_0 8 rfl rfl)
theorem dX4_blend_9 : decode cX4_blend 9 = .ok (.iload_n 2, 1) := dk_28 (dk_at dksX4_blend_0 9 rfl rfl)
theorem dX4_blend_10 : decode cX4_blend 10 = .ok (.invokevirtual 425, 3) := dk_182 1 169 (dk_at dksX4_blend_0 10 rfl rfl)
theorem dX4_blend_13 : decode cX4_blend 13 = .ok (.ifCond .eq 8, 3) := dk_153 0 8 (dk_at dksX4_blend_0 13 rfl rfl)
theorem dX4_blend_16 : decode cX4_blend 16 = .ok (.iload_n 1, 1) := dk_27 (dk_at dksX4_blend_0 16 rfl rfl)
theorem dX4_blend_17 : decode cX4_blend 17 = .ok (.iload_n 2, 1) := dk_28 (dk_at dksX4_blend_0 17 rfl rfl)
theorem dX4_blend_18 : decode cX4_blend 18 = .ok (.if_icmp .ne 5, 3) := dk_160 0 5 (dk_at dksX4_blend_0 18 rfl rfl)
theorem dX4_blend_21 : decode cX4_blend 21 = .ok (.iconst (-1), 1) := dk_2 (dk_at dksX4_blend_0 21 rfl rfl)
theorem dX4_blend_22 : decode cX4_blend 22 = .ok (.ireturn, 1) := dk_172 (dk_at dksX4_blend_0 22 rfl rfl)
theorem dX4_blend_23 : decode cX4_blend 23 = .ok (.aload_n 0, 1) := dk_42 (dk_at dksX4_blend_0 23 rfl rfl)
theorem dX4_blend_24 : decode cX4_blend 24 = .ok (.invokevirtual 458, 3) := dk_182 1 202 (dk_at dksX4_blend_1 0 rfl rfl)
theorem dX4_blend_27 : decode cX4_blend 27 = .ok (.iconst 0, 1) := dk_3 (dk_at dksX4_blend_1 3 rfl rfl)
theorem dX4_blend_28 : decode cX4_blend 28 = .ok (.istore_n 3, 1) := dk_62 (dk_at dksX4_blend_1 4 rfl rfl)
theorem dX4_blend_29 : decode cX4_blend 29 = .ok (.iload_n 3, 1) := dk_29 (dk_at dksX4_blend_1 5 rfl rfl)
theorem dX4_blend_30 : decode cX4_blend 30 = .ok (.aload_n 0, 1) := dk_42 (dk_at dksX4_blend_1 6 rfl rfl)
theorem dX4_blend_31 : decode cX4_blend 31 = .ok (.invokevirtual 368, 3) := dk_182 1 112 (dk_at dksX4_blend_1 7 rfl rfl)
theorem dX4_blend_34 : decode cX4_blend 34 = .ok (.if_icmp .ge 38, 3) := dk_162 0 38 (dk_at dksX4_blend_1 10 rfl rfl)
theorem dX4_blend_37 : decode cX4_blend 37 = .ok (.aload_n 0, 1) := dk_42 (dk_at dksX4_blend_1 13 rfl rfl)
theorem dX4_blend_38 : decode cX4_blend 38 = .ok (.iload_n 3, 1) := dk_29 (dk_at dksX4_blend_1 14 rfl rfl)
theorem dX4_blend_39 : decode cX4_blend 39 = .ok (.invokevirtual 386, 3) := dk_182 1 130 (dk_at dksX4_blend_1 15 rfl rfl)
theorem dX4_blend_42 : decode cX4_blend 42 = .ok (.ifCond .eq 24, 3) := dk_153 0 24 (dk_at dksX4_blend_1 18 rfl rfl)
theorem dX4_blend_45 : decode cX4_blend 45 = .ok (.aload_n 0, 1) := dk_42 (dk_at dksX4_blend_1 21 rfl rfl)
theorem dX4_blend_46 : decode cX4_blend 46 = .ok (.getfield 88, 3) := dk_180 0 88 (dk_at dksX4_blend_2 0 rfl rfl)
theorem dX4_blend_49 : decode cX4_blend 49 = .ok (.iconst 2, 1) := dk_5 (dk_at dksX4_blend_2 3 rfl rfl)
theorem dX4_blend_50 : decode cX4_blend 50 = .ok (.iload_n 3, 1) := dk_29 (dk_at dksX4_blend_2 4 rfl rfl)
theorem dX4_blend_51 : decode cX4_blend 51 = .ok (.iadd, 1) := dk_96 (dk_at dksX4_blend_2 5 rfl rfl)
theorem dX4_blend_52 : decode cX4_blend 52 = .ok (.iaload, 1) := dk_46 (dk_at dksX4_blend_2 6 rfl rfl)
theorem dX4_blend_53 : decode cX4_blend 53 = .ok (.iload_n 2, 1) := dk_28 (dk_at dksX4_blend_2 7 rfl rfl)
theorem dX4_blend_54 : decode cX4_blend 54 = .ok (.if_icmp .ne 12, 3) := dk_160 0 12 (dk_at dksX4_blend_2 8 rfl rfl)
theorem dX4_blend_57 : decode cX4_blend 57 = .ok (.aload_n 0, 1) := dk_42 (dk_at dksX4_blend_2 11 rfl rfl)
theorem dX4_blend_58 : decode cX4_blend 58 = .ok (.getfield 88, 3) := dk_180 0 88 (dk_at dksX4_blend_2 12 rfl rfl)
theorem dX4_blend_61 : decode cX4_blend 61 = .ok (.iconst 2, 1) := dk_5 (dk_at dksX4_blend_2 15 rfl rfl)
theorem dX4_blend_62 : decode cX4_blend 62 = .ok (.iload_n 3, 1) := dk_29 (dk_at dksX4_blend_2 16 rfl rfl)
theorem dX4_blend_63 : decode cX4_blend 63 = .ok (.iadd, 1) := dk_96 (dk_at dksX4_blend_2 17 rfl rfl)
theorem dX4_blend_64 : decode cX4_blend 64 = .ok (.iload_n 1, 1) := dk_27 (dk_at dksX4_blend_2 18 rfl rfl)
theorem dX4_blend_65 : decode cX4_blend 65 = .ok (.iastore, 1) := dk_79 (dk_at dksX4_blend_2 19 rfl rfl)
theorem dX4_blend_66 : decode cX4_blend 66 = .ok (.iinc 3 1, 3) := dk_132 3 1 (dk_at dksX4_blend_2 20 rfl rfl)
theorem dX4_blend_69 : decode cX4_blend 69 = .ok (.goto (-40), 3) := dk_167 255 216 (dk_at dksX4_blend_3 0 rfl rfl)
theorem dX4_blend_72 : decode cX4_blend 72 = .ok (.aload_n 0, 1) := dk_42 (dk_at dksX4_blend_3 3 rfl rfl)
theorem dX4_blend_73 : decode cX4_blend 73 = .ok (.iload_n 1, 1) := dk_27 (dk_at dksX4_blend_3 4 rfl rfl)
theorem dX4_blend_74 : decode cX4_blend 74 = .ok (.invokevirtual 407, 3) := dk_182 1 151 (dk_at dksX4_blend_3 5 rfl rfl)
theorem dX4_blend_77 : decode cX4_blend 77 = .ok (.invokestatic 339, 3) := dk_184 1 83 (dk_at dksX4_blend_3 8 rfl rfl)
theorem dX4_blend_80 : decode cX4_blend 80 = .ok (.istore_n 3, 1) := dk_62 (dk_at dksX4_blend_3 11 rfl rfl)
theorem dX4_blend_81 : decode cX4_blend 81 = .ok (.aload_n 0, 1) := dk_42 (dk_at dksX4_blend_3 12 rfl rfl)
theorem dX4_blend_82 : decode cX4_blend 82 = .ok (.invokevirtual 464, 3) := dk_182 1 208 (dk_at dksX4_blend_3 13 rfl rfl)
theorem dX4_blend_85 : decode cX4_blend 85 = .ok (.iload_n 3, 1) := dk_29 (dk_at dksX4_blend_3 16 rfl rfl)
theorem dX4_blend_86 : decode cX4_blend 86 = .ok (.ireturn, 1) := dk_172 (dk_at dksX4_blend_3 17 rfl rfl)
abbrev cX4_exchange : ByteArray := prog_23_method_112_code
def yX4_exchange : MethodName := ⟨RX4, "exchange", "(I)I"⟩
def dkwX4_exchange_8 : List UInt8 := [182, 1, 112, 112, 167, 0, 4, 29, 172]
abbrev dktX4_exchange_8 : List UInt8 := dkwX4_exchange_8 ++ []
def dkwX4_exchange_7 : List UInt8 := [167, 0, 31, 27, 154, 0, 12, 28, 42, 182, 1, 112, 108, 167, 0, 18, 27, 4, 160, 0, 12, 28, 42]
abbrev dktX4_exchange_7 : List UInt8 := dkwX4_exchange_7 ++ dktX4_exchange_8
def dkwX4_exchange_6 : List UInt8 := [163, 0, 6, 167, 0, 9, 21, 4, 61, 21, 7, 62, 132, 4, 1, 167, 255, 128, 28, 156, 0, 7, 2]
abbrev dktX4_exchange_6 : List UInt8 := dkwX4_exchange_6 ++ dktX4_exchange_7
def dkwX4_exchange_5 : List UInt8 := [96, 46, 79, 42, 42, 182, 1, 172, 182, 1, 175, 184, 1, 83, 54, 7, 42, 182, 1, 208, 21, 7, 29]
abbrev dktX4_exchange_5 : List UInt8 := dkwX4_exchange_5 ++ dktX4_exchange_6
def dkwX4_exchange_4 : List UInt8 := [180, 0, 97, 5, 21, 6, 96, 46, 79, 42, 180, 0, 88, 5, 21, 6, 96, 42, 180, 0, 97, 5, 21, 5]
abbrev dktX4_exchange_4 : List UInt8 := dkwX4_exchange_4 ++ dktX4_exchange_5
def dkwX4_exchange_3 : List UInt8 := [182, 1, 211, 154, 0, 6, 167, 0, 75, 42, 182, 1, 202, 42, 180, 0, 88, 5, 21, 5, 96, 42]
abbrev dktX4_exchange_3 : List UInt8 := dkwX4_exchange_3 ++ dktX4_exchange_4
def dkwX4_exchange_2 : List UInt8 := [108, 54, 5, 21, 4, 42, 182, 1, 112, 112, 54, 6, 21, 5, 21, 6, 162, 0, 89, 42, 21, 5, 21, 6]
abbrev dktX4_exchange_2 : List UInt8 := dkwX4_exchange_2 ++ dktX4_exchange_3
def dkwX4_exchange_1 : List UInt8 := [62, 3, 54, 4, 21, 4, 42, 182, 1, 112, 42, 182, 1, 112, 104, 162, 0, 120, 21, 4, 42, 182, 1, 112]
abbrev dktX4_exchange_1 : List UInt8 := dkwX4_exchange_1 ++ dktX4_exchange_2
def dkwX4_exchange_0 : List UInt8 := [27, 3, 5, 184, 1, 105, 154, 0, 5, 2, 172, 2, 61, 42, 42, 182, 1, 172, 182, 1, 175, 184, 1, 83]
abbrev dktX4_exchange_0 : List UInt8 := dkwX4_exchange_0 ++ dktX4_exchange_1
theorem dksX4_exchange_0 : cX4_exchange.data.toList.drop 0 = dktX4_exchange_0 := by decide +kernel
theorem dksX4_exchange_1 : cX4_exchange.data.toList.drop 24 = dktX4_exchange_1 := dk_seg dksX4_exchange_0 24 rfl rfl
theorem dksX4_exchange_2 : cX4_exchange.data.toList.drop 48 = dktX4_exchange_2 := dk_seg dksX4_exchange_1 24 rfl rfl
theorem dksX4_exchange_3 : cX4_exchange.data.toList.drop 72 = dktX4_exchange_3 := dk_seg dksX4_exchange_2 24 rfl rfl
theorem dksX4_exchange_4 : cX4_exchange.data.toList.drop 94 = dktX4_exchange_4 := dk_seg dksX4_exchange_3 22 rfl rfl
theorem dksX4_exchange_5 : cX4_exchange.data.toList.drop 118 = dktX4_exchange_5 := dk_seg dksX4_exchange_4 24 rfl rfl
theorem dksX4_exchange_6 : cX4_exchange.data.toList.drop 141 = dktX4_exchange_6 := dk_seg dksX4_exchange_5 23 rfl rfl
theorem dksX4_exchange_7 : cX4_exchange.data.toList.drop 164 = dktX4_exchange_7 := dk_seg dksX4_exchange_6 23 rfl rfl
theorem dksX4_exchange_8 : cX4_exchange.data.toList.drop 187 = dktX4_exchange_8 := dk_seg dksX4_exchange_7 23 rfl rfl
theorem dX4_exchange_0 : decode cX4_exchange 0 = .ok (.iload_n 1, 1) := dk_27 (dk_at dksX4_exchange_0 0 rfl rfl)
theorem dX4_exchange_1 : decode cX4_exchange 1 = .ok (.iconst 0, 1) := dk_3 (dk_at dksX4_exchange_0 1 rfl rfl)
theorem dX4_exchange_2 : decode cX4_exchange 2 = .ok (.iconst 2, 1) := dk_5 (dk_at dksX4_exchange_0 2 rfl rfl)
theorem dX4_exchange_3 : decode cX4_exchange 3 = .ok (.invokestatic 361, 3) := dk_184 1 105 (dk_at dksX4_exchange_0 3 rfl rfl)
theorem dX4_exchange_6 : decode cX4_exchange 6 = .ok (.ifCond .ne 5, 3) := dk_154 0 5 (dk_at dksX4_exchange_0 6 rfl rfl)
theorem dX4_exchange_9 : decode cX4_exchange 9 = .ok (.iconst (-1), 1) := dk_2 (dk_at dksX4_exchange_0 9 rfl rfl)
theorem dX4_exchange_10 : decode cX4_exchange 10 = .ok (.ireturn, 1) := dk_172 (dk_at dksX4_exchange_0 10 rfl rfl)
theorem dX4_exchange_11 : decode cX4_exchange 11 = .ok (.iconst (-1), 1) := dk_2 (dk_at dksX4_exchange_0 11 rfl rfl)
theorem dX4_exchange_12 : decode cX4_exchange 12 = .ok (.istore_n 2, 1) := dk_61 (dk_at dksX4_exchange_0 12 rfl rfl)
theorem dX4_exchange_13 : decode cX4_exchange 13 = .ok (.aload_n 0, 1) := dk_42 (dk_at dksX4_exchange_0 13 rfl rfl)
theorem dX4_exchange_14 : decode cX4_exchange 14 = .ok (.aload_n 0, 1) := dk_42 (dk_at dksX4_exchange_0 14 rfl rfl)
theorem dX4_exchange_15 : decode cX4_exchange 15 = .ok (.invokevirtual 428, 3) := dk_182 1 172 (dk_at dksX4_exchange_0 15 rfl rfl)
theorem dX4_exchange_18 : decode cX4_exchange 18 = .ok (.invokevirtual 431, 3) := dk_182 1 175 (dk_at dksX4_exchange_0 18 rfl rfl)
theorem dX4_exchange_21 : decode cX4_exchange 21 = .ok (.invokestatic 339, 3) := dk_184 1 83 (dk_at dksX4_exchange_0 21 rfl rfl)
theorem dX4_exchange_24 : decode cX4_exchange 24 = .ok (.istore_n 3, 1) := dk_62 (dk_at dksX4_exchange_1 0 rfl rfl)
theorem dX4_exchange_25 : decode cX4_exchange 25 = .ok (.iconst 0, 1) := dk_3 (dk_at dksX4_exchange_1 1 rfl rfl)
theorem dX4_exchange_26 : decode cX4_exchange 26 = .ok (.istore 4, 2) := dk_54 4 (dk_at dksX4_exchange_1 2 rfl rfl)
theorem dX4_exchange_28 : decode cX4_exchange 28 = .ok (.iload 4, 2) := dk_21 4 (dk_at dksX4_exchange_1 4 rfl rfl)
theorem dX4_exchange_30 : decode cX4_exchange 30 = .ok (.aload_n 0, 1) := dk_42 (dk_at dksX4_exchange_1 6 rfl rfl)
theorem dX4_exchange_31 : decode cX4_exchange 31 = .ok (.invokevirtual 368, 3) := dk_182 1 112 (dk_at dksX4_exchange_1 7 rfl rfl)
theorem dX4_exchange_34 : decode cX4_exchange 34 = .ok (.aload_n 0, 1) := dk_42 (dk_at dksX4_exchange_1 10 rfl rfl)
theorem dX4_exchange_35 : decode cX4_exchange 35 = .ok (.invokevirtual 368, 3) := dk_182 1 112 (dk_at dksX4_exchange_1 11 rfl rfl)
theorem dX4_exchange_38 : decode cX4_exchange 38 = .ok (.imul, 1) := dk_104 (dk_at dksX4_exchange_1 14 rfl rfl)
theorem dX4_exchange_39 : decode cX4_exchange 39 = .ok (.if_icmp .ge 120, 3) := dk_162 0 120 (dk_at dksX4_exchange_1 15 rfl rfl)
theorem dX4_exchange_42 : decode cX4_exchange 42 = .ok (.iload 4, 2) := dk_21 4 (dk_at dksX4_exchange_1 18 rfl rfl)
theorem dX4_exchange_44 : decode cX4_exchange 44 = .ok (.aload_n 0, 1) := dk_42 (dk_at dksX4_exchange_1 20 rfl rfl)
theorem dX4_exchange_45 : decode cX4_exchange 45 = .ok (.invokevirtual 368, 3) := dk_182 1 112 (dk_at dksX4_exchange_1 21 rfl rfl)
theorem dX4_exchange_48 : decode cX4_exchange 48 = .ok (.idiv, 1) := dk_108 (dk_at dksX4_exchange_2 0 rfl rfl)
theorem dX4_exchange_49 : decode cX4_exchange 49 = .ok (.istore 5, 2) := dk_54 5 (dk_at dksX4_exchange_2 1 rfl rfl)
theorem dX4_exchange_51 : decode cX4_exchange 51 = .ok (.iload 4, 2) := dk_21 4 (dk_at dksX4_exchange_2 3 rfl rfl)
theorem dX4_exchange_53 : decode cX4_exchange 53 = .ok (.aload_n 0, 1) := dk_42 (dk_at dksX4_exchange_2 5 rfl rfl)
theorem dX4_exchange_54 : decode cX4_exchange 54 = .ok (.invokevirtual 368, 3) := dk_182 1 112 (dk_at dksX4_exchange_2 6 rfl rfl)
theorem dX4_exchange_57 : decode cX4_exchange 57 = .ok (.irem, 1) := dk_112 (dk_at dksX4_exchange_2 9 rfl rfl)
theorem dX4_exchange_58 : decode cX4_exchange 58 = .ok (.istore 6, 2) := dk_54 6 (dk_at dksX4_exchange_2 10 rfl rfl)
theorem dX4_exchange_60 : decode cX4_exchange 60 = .ok (.iload 5, 2) := dk_21 5 (dk_at dksX4_exchange_2 12 rfl rfl)
theorem dX4_exchange_62 : decode cX4_exchange 62 = .ok (.iload 6, 2) := dk_21 6 (dk_at dksX4_exchange_2 14 rfl rfl)
theorem dX4_exchange_64 : decode cX4_exchange 64 = .ok (.if_icmp .ge 89, 3) := dk_162 0 89 (dk_at dksX4_exchange_2 16 rfl rfl)
theorem dX4_exchange_67 : decode cX4_exchange 67 = .ok (.aload_n 0, 1) := dk_42 (dk_at dksX4_exchange_2 19 rfl rfl)
theorem dX4_exchange_68 : decode cX4_exchange 68 = .ok (.iload 5, 2) := dk_21 5 (dk_at dksX4_exchange_2 20 rfl rfl)
theorem dX4_exchange_70 : decode cX4_exchange 70 = .ok (.iload 6, 2) := dk_21 6 (dk_at dksX4_exchange_2 22 rfl rfl)
theorem dX4_exchange_72 : decode cX4_exchange 72 = .ok (.invokevirtual 467, 3) := dk_182 1 211 (dk_at dksX4_exchange_3 0 rfl rfl)
theorem dX4_exchange_75 : decode cX4_exchange 75 = .ok (.ifCond .ne 6, 3) := dk_154 0 6 (dk_at dksX4_exchange_3 3 rfl rfl)
theorem dX4_exchange_78 : decode cX4_exchange 78 = .ok (.goto 75, 3) := dk_167 0 75 (dk_at dksX4_exchange_3 6 rfl rfl)
theorem dX4_exchange_81 : decode cX4_exchange 81 = .ok (.aload_n 0, 1) := dk_42 (dk_at dksX4_exchange_3 9 rfl rfl)
theorem dX4_exchange_82 : decode cX4_exchange 82 = .ok (.invokevirtual 458, 3) := dk_182 1 202 (dk_at dksX4_exchange_3 10 rfl rfl)
theorem dX4_exchange_85 : decode cX4_exchange 85 = .ok (.aload_n 0, 1) := dk_42 (dk_at dksX4_exchange_3 13 rfl rfl)
theorem dX4_exchange_86 : decode cX4_exchange 86 = .ok (.getfield 88, 3) := dk_180 0 88 (dk_at dksX4_exchange_3 14 rfl rfl)
theorem dX4_exchange_89 : decode cX4_exchange 89 = .ok (.iconst 2, 1) := dk_5 (dk_at dksX4_exchange_3 17 rfl rfl)
theorem dX4_exchange_90 : decode cX4_exchange 90 = .ok (.iload 5, 2) := dk_21 5 (dk_at dksX4_exchange_3 18 rfl rfl)
theorem dX4_exchange_92 : decode cX4_exchange 92 = .ok (.iadd, 1) := dk_96 (dk_at dksX4_exchange_3 20 rfl rfl)
theorem dX4_exchange_93 : decode cX4_exchange 93 = .ok (.aload_n 0, 1) := dk_42 (dk_at dksX4_exchange_3 21 rfl rfl)
theorem dX4_exchange_94 : decode cX4_exchange 94 = .ok (.getfield 97, 3) := dk_180 0 97 (dk_at dksX4_exchange_4 0 rfl rfl)
theorem dX4_exchange_97 : decode cX4_exchange 97 = .ok (.iconst 2, 1) := dk_5 (dk_at dksX4_exchange_4 3 rfl rfl)
theorem dX4_exchange_98 : decode cX4_exchange 98 = .ok (.iload 6, 2) := dk_21 6 (dk_at dksX4_exchange_4 4 rfl rfl)
theorem dX4_exchange_100 : decode cX4_exchange 100 = .ok (.iadd, 1) := dk_96 (dk_at dksX4_exchange_4 6 rfl rfl)
theorem dX4_exchange_101 : decode cX4_exchange 101 = .ok (.iaload, 1) := dk_46 (dk_at dksX4_exchange_4 7 rfl rfl)
theorem dX4_exchange_102 : decode cX4_exchange 102 = .ok (.iastore, 1) := dk_79 (dk_at dksX4_exchange_4 8 rfl rfl)
theorem dX4_exchange_103 : decode cX4_exchange 103 = .ok (.aload_n 0, 1) := dk_42 (dk_at dksX4_exchange_4 9 rfl rfl)
theorem dX4_exchange_104 : decode cX4_exchange 104 = .ok (.getfield 88, 3) := dk_180 0 88 (dk_at dksX4_exchange_4 10 rfl rfl)
theorem dX4_exchange_107 : decode cX4_exchange 107 = .ok (.iconst 2, 1) := dk_5 (dk_at dksX4_exchange_4 13 rfl rfl)
theorem dX4_exchange_108 : decode cX4_exchange 108 = .ok (.iload 6, 2) := dk_21 6 (dk_at dksX4_exchange_4 14 rfl rfl)
theorem dX4_exchange_110 : decode cX4_exchange 110 = .ok (.iadd, 1) := dk_96 (dk_at dksX4_exchange_4 16 rfl rfl)
theorem dX4_exchange_111 : decode cX4_exchange 111 = .ok (.aload_n 0, 1) := dk_42 (dk_at dksX4_exchange_4 17 rfl rfl)
theorem dX4_exchange_112 : decode cX4_exchange 112 = .ok (.getfield 97, 3) := dk_180 0 97 (dk_at dksX4_exchange_4 18 rfl rfl)
theorem dX4_exchange_115 : decode cX4_exchange 115 = .ok (.iconst 2, 1) := dk_5 (dk_at dksX4_exchange_4 21 rfl rfl)
theorem dX4_exchange_116 : decode cX4_exchange 116 = .ok (.iload 5, 2) := dk_21 5 (dk_at dksX4_exchange_4 22 rfl rfl)
theorem dX4_exchange_118 : decode cX4_exchange 118 = .ok (.iadd, 1) := dk_96 (dk_at dksX4_exchange_5 0 rfl rfl)
theorem dX4_exchange_119 : decode cX4_exchange 119 = .ok (.iaload, 1) := dk_46 (dk_at dksX4_exchange_5 1 rfl rfl)
theorem dX4_exchange_120 : decode cX4_exchange 120 = .ok (.iastore, 1) := dk_79 (dk_at dksX4_exchange_5 2 rfl rfl)
theorem dX4_exchange_121 : decode cX4_exchange 121 = .ok (.aload_n 0, 1) := dk_42 (dk_at dksX4_exchange_5 3 rfl rfl)
theorem dX4_exchange_122 : decode cX4_exchange 122 = .ok (.aload_n 0, 1) := dk_42 (dk_at dksX4_exchange_5 4 rfl rfl)
theorem dX4_exchange_123 : decode cX4_exchange 123 = .ok (.invokevirtual 428, 3) := dk_182 1 172 (dk_at dksX4_exchange_5 5 rfl rfl)
theorem dX4_exchange_126 : decode cX4_exchange 126 = .ok (.invokevirtual 431, 3) := dk_182 1 175 (dk_at dksX4_exchange_5 8 rfl rfl)
theorem dX4_exchange_129 : decode cX4_exchange 129 = .ok (.invokestatic 339, 3) := dk_184 1 83 (dk_at dksX4_exchange_5 11 rfl rfl)
theorem dX4_exchange_132 : decode cX4_exchange 132 = .ok (.istore 7, 2) := dk_54 7 (dk_at dksX4_exchange_5 14 rfl rfl)
theorem dX4_exchange_134 : decode cX4_exchange 134 = .ok (.aload_n 0, 1) := dk_42 (dk_at dksX4_exchange_5 16 rfl rfl)
theorem dX4_exchange_135 : decode cX4_exchange 135 = .ok (.invokevirtual 464, 3) := dk_182 1 208 (dk_at dksX4_exchange_5 17 rfl rfl)
theorem dX4_exchange_138 : decode cX4_exchange 138 = .ok (.iload 7, 2) := dk_21 7 (dk_at dksX4_exchange_5 20 rfl rfl)
theorem dX4_exchange_140 : decode cX4_exchange 140 = .ok (.iload_n 3, 1) := dk_29 (dk_at dksX4_exchange_5 22 rfl rfl)
theorem dX4_exchange_141 : decode cX4_exchange 141 = .ok (.if_icmp .gt 6, 3) := dk_163 0 6 (dk_at dksX4_exchange_6 0 rfl rfl)
theorem dX4_exchange_144 : decode cX4_exchange 144 = .ok (.goto 9, 3) := dk_167 0 9 (dk_at dksX4_exchange_6 3 rfl rfl)
theorem dX4_exchange_147 : decode cX4_exchange 147 = .ok (.iload 4, 2) := dk_21 4 (dk_at dksX4_exchange_6 6 rfl rfl)
theorem dX4_exchange_149 : decode cX4_exchange 149 = .ok (.istore_n 2, 1) := dk_61 (dk_at dksX4_exchange_6 8 rfl rfl)
theorem dX4_exchange_150 : decode cX4_exchange 150 = .ok (.iload 7, 2) := dk_21 7 (dk_at dksX4_exchange_6 9 rfl rfl)
theorem dX4_exchange_152 : decode cX4_exchange 152 = .ok (.istore_n 3, 1) := dk_62 (dk_at dksX4_exchange_6 11 rfl rfl)
theorem dX4_exchange_153 : decode cX4_exchange 153 = .ok (.iinc 4 1, 3) := dk_132 4 1 (dk_at dksX4_exchange_6 12 rfl rfl)
theorem dX4_exchange_156 : decode cX4_exchange 156 = .ok (.goto (-128), 3) := dk_167 255 128 (dk_at dksX4_exchange_6 15 rfl rfl)
theorem dX4_exchange_159 : decode cX4_exchange 159 = .ok (.iload_n 2, 1) := dk_28 (dk_at dksX4_exchange_6 18 rfl rfl)
theorem dX4_exchange_160 : decode cX4_exchange 160 = .ok (.ifCond .ge 7, 3) := dk_156 0 7 (dk_at dksX4_exchange_6 19 rfl rfl)
theorem dX4_exchange_163 : decode cX4_exchange 163 = .ok (.iconst (-1), 1) := dk_2 (dk_at dksX4_exchange_6 22 rfl rfl)
theorem dX4_exchange_164 : decode cX4_exchange 164 = .ok (.goto 31, 3) := dk_167 0 31 (dk_at dksX4_exchange_7 0 rfl rfl)
theorem dX4_exchange_167 : decode cX4_exchange 167 = .ok (.iload_n 1, 1) := dk_27 (dk_at dksX4_exchange_7 3 rfl rfl)
theorem dX4_exchange_168 : decode cX4_exchange 168 = .ok (.ifCond .ne 12, 3) := dk_154 0 12 (dk_at dksX4_exchange_7 4 rfl rfl)
theorem dX4_exchange_171 : decode cX4_exchange 171 = .ok (.iload_n 2, 1) := dk_28 (dk_at dksX4_exchange_7 7 rfl rfl)
theorem dX4_exchange_172 : decode cX4_exchange 172 = .ok (.aload_n 0, 1) := dk_42 (dk_at dksX4_exchange_7 8 rfl rfl)
theorem dX4_exchange_173 : decode cX4_exchange 173 = .ok (.invokevirtual 368, 3) := dk_182 1 112 (dk_at dksX4_exchange_7 9 rfl rfl)
theorem dX4_exchange_176 : decode cX4_exchange 176 = .ok (.idiv, 1) := dk_108 (dk_at dksX4_exchange_7 12 rfl rfl)
theorem dX4_exchange_177 : decode cX4_exchange 177 = .ok (.goto 18, 3) := dk_167 0 18 (dk_at dksX4_exchange_7 13 rfl rfl)
theorem dX4_exchange_180 : decode cX4_exchange 180 = .ok (.iload_n 1, 1) := dk_27 (dk_at dksX4_exchange_7 16 rfl rfl)
theorem dX4_exchange_181 : decode cX4_exchange 181 = .ok (.iconst 1, 1) := dk_4 (dk_at dksX4_exchange_7 17 rfl rfl)
theorem dX4_exchange_182 : decode cX4_exchange 182 = .ok (.if_icmp .ne 12, 3) := dk_160 0 12 (dk_at dksX4_exchange_7 18 rfl rfl)
theorem dX4_exchange_185 : decode cX4_exchange 185 = .ok (.iload_n 2, 1) := dk_28 (dk_at dksX4_exchange_7 21 rfl rfl)
theorem dX4_exchange_186 : decode cX4_exchange 186 = .ok (.aload_n 0, 1) := dk_42 (dk_at dksX4_exchange_7 22 rfl rfl)
theorem dX4_exchange_187 : decode cX4_exchange 187 = .ok (.invokevirtual 368, 3) := dk_182 1 112 (dk_at dksX4_exchange_8 0 rfl rfl)
theorem dX4_exchange_190 : decode cX4_exchange 190 = .ok (.irem, 1) := dk_112 (dk_at dksX4_exchange_8 3 rfl rfl)
theorem dX4_exchange_191 : decode cX4_exchange 191 = .ok (.goto 4, 3) := dk_167 0 4 (dk_at dksX4_exchange_8 4 rfl rfl)
theorem dX4_exchange_194 : decode cX4_exchange 194 = .ok (.iload_n 3, 1) := dk_29 (dk_at dksX4_exchange_8 7 rfl rfl)
theorem dX4_exchange_195 : decode cX4_exchange 195 = .ok (.ireturn, 1) := dk_172 (dk_at dksX4_exchange_8 8 rfl rfl)
abbrev cX4_canChange : ByteArray := prog_23_method_111_code
def yX4_canChange : MethodName := ⟨RX4, "canChange", "(II)Z"⟩
def dkwX4_canChange_2 : List UInt8 := [180, 0, 88, 5, 28, 96, 46, 159, 0, 7, 4, 167, 0, 4, 3, 172]
abbrev dktX4_canChange_2 : List UInt8 := dkwX4_canChange_2 ++ []
def dkwX4_canChange_1 : List UInt8 := [155, 0, 37, 42, 180, 0, 88, 5, 28, 96, 46, 155, 0, 26, 42, 180, 0, 88, 5, 27, 96, 46, 42]
abbrev dktX4_canChange_1 : List UInt8 := dkwX4_canChange_1 ++ dktX4_canChange_2
def dkwX4_canChange_0 : List UInt8 := [42, 27, 182, 1, 130, 153, 0, 56, 42, 28, 182, 1, 130, 153, 0, 48, 42, 180, 0, 88, 5, 27, 96, 46]
abbrev dktX4_canChange_0 : List UInt8 := dkwX4_canChange_0 ++ dktX4_canChange_1
theorem dksX4_canChange_0 : cX4_canChange.data.toList.drop 0 = dktX4_canChange_0 := by decide +kernel
theorem dksX4_canChange_1 : cX4_canChange.data.toList.drop 24 = dktX4_canChange_1 := dk_seg dksX4_canChange_0 24 rfl rfl
theorem dksX4_canChange_2 : cX4_canChange.data.toList.drop 47 = dktX4_canChange_2 := dk_seg dksX4_canChange_1 23 rfl rfl
theorem dX4_canChange_0 : decode cX4_canChange 0 = .ok (.aload_n 0, 1) := dk_42 (dk_at dksX4_canChange_0 0 rfl rfl)
theorem dX4_canChange_1 : decode cX4_canChange 1 = .ok (.iload_n 1, 1) := dk_27 (dk_at dksX4_canChange_0 1 rfl rfl)
theorem dX4_canChange_2 : decode cX4_canChange 2 = .ok (.invokevirtual 386, 3) := dk_182 1 130 (dk_at dksX4_canChange_0 2 rfl rfl)
theorem dX4_canChange_5 : decode cX4_canChange 5 = .ok (.ifCond .eq 56, 3) := dk_153 0 56 (dk_at dksX4_canChange_0 5 rfl rfl)
theorem dX4_canChange_8 : decode cX4_canChange 8 = .ok (.aload_n 0, 1) := dk_42 (dk_at dksX4_canChange_0 8 rfl rfl)
theorem dX4_canChange_9 : decode cX4_canChange 9 = .ok (.iload_n 2, 1) := dk_28 (dk_at dksX4_canChange_0 9 rfl rfl)
theorem dX4_canChange_10 : decode cX4_canChange 10 = .ok (.invokevirtual 386, 3) := dk_182 1 130 (dk_at dksX4_canChange_0 10 rfl rfl)
theorem dX4_canChange_13 : decode cX4_canChange 13 = .ok (.ifCond .eq 48, 3) := dk_153 0 48 (dk_at dksX4_canChange_0 13 rfl rfl)
theorem dX4_canChange_16 : decode cX4_canChange 16 = .ok (.aload_n 0, 1) := dk_42 (dk_at dksX4_canChange_0 16 rfl rfl)
theorem dX4_canChange_17 : decode cX4_canChange 17 = .ok (.getfield 88, 3) := dk_180 0 88 (dk_at dksX4_canChange_0 17 rfl rfl)
theorem dX4_canChange_20 : decode cX4_canChange 20 = .ok (.iconst 2, 1) := dk_5 (dk_at dksX4_canChange_0 20 rfl rfl)
theorem dX4_canChange_21 : decode cX4_canChange 21 = .ok (.iload_n 1, 1) := dk_27 (dk_at dksX4_canChange_0 21 rfl rfl)
theorem dX4_canChange_22 : decode cX4_canChange 22 = .ok (.iadd, 1) := dk_96 (dk_at dksX4_canChange_0 22 rfl rfl)
theorem dX4_canChange_23 : decode cX4_canChange 23 = .ok (.iaload, 1) := dk_46 (dk_at dksX4_canChange_0 23 rfl rfl)
theorem dX4_canChange_24 : decode cX4_canChange 24 = .ok (.ifCond .lt 37, 3) := dk_155 0 37 (dk_at dksX4_canChange_1 0 rfl rfl)
theorem dX4_canChange_27 : decode cX4_canChange 27 = .ok (.aload_n 0, 1) := dk_42 (dk_at dksX4_canChange_1 3 rfl rfl)
theorem dX4_canChange_28 : decode cX4_canChange 28 = .ok (.getfield 88, 3) := dk_180 0 88 (dk_at dksX4_canChange_1 4 rfl rfl)
theorem dX4_canChange_31 : decode cX4_canChange 31 = .ok (.iconst 2, 1) := dk_5 (dk_at dksX4_canChange_1 7 rfl rfl)
theorem dX4_canChange_32 : decode cX4_canChange 32 = .ok (.iload_n 2, 1) := dk_28 (dk_at dksX4_canChange_1 8 rfl rfl)
theorem dX4_canChange_33 : decode cX4_canChange 33 = .ok (.iadd, 1) := dk_96 (dk_at dksX4_canChange_1 9 rfl rfl)
theorem dX4_canChange_34 : decode cX4_canChange 34 = .ok (.iaload, 1) := dk_46 (dk_at dksX4_canChange_1 10 rfl rfl)
theorem dX4_canChange_35 : decode cX4_canChange 35 = .ok (.ifCond .lt 26, 3) := dk_155 0 26 (dk_at dksX4_canChange_1 11 rfl rfl)
theorem dX4_canChange_38 : decode cX4_canChange 38 = .ok (.aload_n 0, 1) := dk_42 (dk_at dksX4_canChange_1 14 rfl rfl)
theorem dX4_canChange_39 : decode cX4_canChange 39 = .ok (.getfield 88, 3) := dk_180 0 88 (dk_at dksX4_canChange_1 15 rfl rfl)
theorem dX4_canChange_42 : decode cX4_canChange 42 = .ok (.iconst 2, 1) := dk_5 (dk_at dksX4_canChange_1 18 rfl rfl)
theorem dX4_canChange_43 : decode cX4_canChange 43 = .ok (.iload_n 1, 1) := dk_27 (dk_at dksX4_canChange_1 19 rfl rfl)
theorem dX4_canChange_44 : decode cX4_canChange 44 = .ok (.iadd, 1) := dk_96 (dk_at dksX4_canChange_1 20 rfl rfl)
theorem dX4_canChange_45 : decode cX4_canChange 45 = .ok (.iaload, 1) := dk_46 (dk_at dksX4_canChange_1 21 rfl rfl)
theorem dX4_canChange_46 : decode cX4_canChange 46 = .ok (.aload_n 0, 1) := dk_42 (dk_at dksX4_canChange_1 22 rfl rfl)
theorem dX4_canChange_47 : decode cX4_canChange 47 = .ok (.getfield 88, 3) := dk_180 0 88 (dk_at dksX4_canChange_2 0 rfl rfl)
theorem dX4_canChange_50 : decode cX4_canChange 50 = .ok (.iconst 2, 1) := dk_5 (dk_at dksX4_canChange_2 3 rfl rfl)
theorem dX4_canChange_51 : decode cX4_canChange 51 = .ok (.iload_n 2, 1) := dk_28 (dk_at dksX4_canChange_2 4 rfl rfl)
theorem dX4_canChange_52 : decode cX4_canChange 52 = .ok (.iadd, 1) := dk_96 (dk_at dksX4_canChange_2 5 rfl rfl)
theorem dX4_canChange_53 : decode cX4_canChange 53 = .ok (.iaload, 1) := dk_46 (dk_at dksX4_canChange_2 6 rfl rfl)
theorem dX4_canChange_54 : decode cX4_canChange 54 = .ok (.if_icmp .eq 7, 3) := dk_159 0 7 (dk_at dksX4_canChange_2 7 rfl rfl)
theorem dX4_canChange_57 : decode cX4_canChange 57 = .ok (.iconst 1, 1) := dk_4 (dk_at dksX4_canChange_2 10 rfl rfl)
theorem dX4_canChange_58 : decode cX4_canChange 58 = .ok (.goto 4, 3) := dk_167 0 4 (dk_at dksX4_canChange_2 11 rfl rfl)
theorem dX4_canChange_61 : decode cX4_canChange 61 = .ok (.iconst 0, 1) := dk_3 (dk_at dksX4_canChange_2 14 rfl rfl)
theorem dX4_canChange_62 : decode cX4_canChange 62 = .ok (.ireturn, 1) := dk_172 (dk_at dksX4_canChange_2 15 rfl rfl)
abbrev cX4_after : ByteArray := prog_23_method_113_code
def yX4_after : MethodName := ⟨RX4, "after", "(I)I"⟩
def dkwX4_after_4 : List UInt8 := [2, 172]
abbrev dktX4_after_4 : List UInt8 := dkwX4_after_4 ++ []
def dkwX4_after_3 : List UInt8 := [182, 1, 130, 154, 0, 7, 4, 167, 0, 4, 3, 62, 42, 182, 1, 208, 29, 153, 0, 7, 28, 167, 0, 4]
abbrev dktX4_after_3 : List UInt8 := dkwX4_after_3 ++ dktX4_after_4
def dkwX4_after_2 : List UInt8 := [153, 0, 22, 42, 42, 180, 0, 97, 5, 27, 96, 46, 182, 1, 184, 62, 132, 2, 1, 167, 255, 226, 42, 27]
abbrev dktX4_after_2 : List UInt8 := dkwX4_after_2 ++ dktX4_after_3
def dkwX4_after_1 : List UInt8 := [156, 0, 5, 2, 172, 42, 182, 1, 202, 3, 61, 28, 16, 9, 162, 0, 30, 42, 27, 182, 1, 130]
abbrev dktX4_after_1 : List UInt8 := dkwX4_after_1 ++ dktX4_after_2
def dkwX4_after_0 : List UInt8 := [42, 27, 182, 1, 166, 153, 0, 22, 42, 27, 182, 1, 130, 153, 0, 14, 42, 180, 0, 88, 5, 27, 96, 46]
abbrev dktX4_after_0 : List UInt8 := dkwX4_after_0 ++ dktX4_after_1
theorem dksX4_after_0 : cX4_after.data.toList.drop 0 = dktX4_after_0 := by decide +kernel
theorem dksX4_after_1 : cX4_after.data.toList.drop 24 = dktX4_after_1 := dk_seg dksX4_after_0 24 rfl rfl
theorem dksX4_after_2 : cX4_after.data.toList.drop 46 = dktX4_after_2 := dk_seg dksX4_after_1 22 rfl rfl
theorem dksX4_after_3 : cX4_after.data.toList.drop 70 = dktX4_after_3 := dk_seg dksX4_after_2 24 rfl rfl
theorem dksX4_after_4 : cX4_after.data.toList.drop 94 = dktX4_after_4 := dk_seg dksX4_after_3 24 rfl rfl
theorem dX4_after_0 : decode cX4_after 0 = .ok (.aload_n 0, 1) := dk_42 (dk_at dksX4_after_0 0 rfl rfl)
theorem dX4_after_1 : decode cX4_after 1 = .ok (.iload_n 1, 1) := dk_27 (dk_at dksX4_after_0 1 rfl rfl)
theorem dX4_after_2 : decode cX4_after 2 = .ok (.invokevirtual 422, 3) := dk_182 1 166 (dk_at dksX4_after_0 2 rfl rfl)
theorem dX4_after_5 : decode cX4_after 5 = .ok (.ifCond .eq 22, 3) := dk_153 0 22 (dk_at dksX4_after_0 5 rfl rfl)
theorem dX4_after_8 : decode cX4_after 8 = .ok (.aload_n 0, 1) := dk_42 (dk_at dksX4_after_0 8 rfl rfl)
theorem dX4_after_9 : decode cX4_after 9 = .ok (.iload_n 1, 1) := dk_27 (dk_at dksX4_after_0 9 rfl rfl)
theorem dX4_after_10 : decode cX4_after 10 = .ok (.invokevirtual 386, 3) := dk_182 1 130 (dk_at dksX4_after_0 10 rfl rfl)
theorem dX4_after_13 : decode cX4_after 13 = .ok (.ifCond .eq 14, 3) := dk_153 0 14 (dk_at dksX4_after_0 13 rfl rfl)
theorem dX4_after_16 : decode cX4_after 16 = .ok (.aload_n 0, 1) := dk_42 (dk_at dksX4_after_0 16 rfl rfl)
theorem dX4_after_17 : decode cX4_after 17 = .ok (.getfield 88, 3) := dk_180 0 88 (dk_at dksX4_after_0 17 rfl rfl)
theorem dX4_after_20 : decode cX4_after 20 = .ok (.iconst 2, 1) := dk_5 (dk_at dksX4_after_0 20 rfl rfl)
theorem dX4_after_21 : decode cX4_after 21 = .ok (.iload_n 1, 1) := dk_27 (dk_at dksX4_after_0 21 rfl rfl)
theorem dX4_after_22 : decode cX4_after 22 = .ok (.iadd, 1) := dk_96 (dk_at dksX4_after_0 22 rfl rfl)
theorem dX4_after_23 : decode cX4_after 23 = .ok (.iaload, 1) := dk_46 (dk_at dksX4_after_0 23 rfl rfl)
theorem dX4_after_24 : decode cX4_after 24 = .ok (.ifCond .ge 5, 3) := dk_156 0 5 (dk_at dksX4_after_1 0 rfl rfl)
theorem dX4_after_27 : decode cX4_after 27 = .ok (.iconst (-1), 1) := dk_2 (dk_at dksX4_after_1 3 rfl rfl)
theorem dX4_after_28 : decode cX4_after 28 = .ok (.ireturn, 1) := dk_172 (dk_at dksX4_after_1 4 rfl rfl)
theorem dX4_after_29 : decode cX4_after 29 = .ok (.aload_n 0, 1) := dk_42 (dk_at dksX4_after_1 5 rfl rfl)
theorem dX4_after_30 : decode cX4_after 30 = .ok (.invokevirtual 458, 3) := dk_182 1 202 (dk_at dksX4_after_1 6 rfl rfl)
theorem dX4_after_33 : decode cX4_after 33 = .ok (.iconst 0, 1) := dk_3 (dk_at dksX4_after_1 9 rfl rfl)
theorem dX4_after_34 : decode cX4_after 34 = .ok (.istore_n 2, 1) := dk_61 (dk_at dksX4_after_1 10 rfl rfl)
theorem dX4_after_35 : decode cX4_after 35 = .ok (.iload_n 2, 1) := dk_28 (dk_at dksX4_after_1 11 rfl rfl)
theorem dX4_after_36 : decode cX4_after 36 = .ok (.bipush 9, 2) := dk_16 9 (dk_at dksX4_after_1 12 rfl rfl)
theorem dX4_after_38 : decode cX4_after 38 = .ok (.if_icmp .ge 30, 3) := dk_162 0 30 (dk_at dksX4_after_1 14 rfl rfl)
theorem dX4_after_41 : decode cX4_after 41 = .ok (.aload_n 0, 1) := dk_42 (dk_at dksX4_after_1 17 rfl rfl)
theorem dX4_after_42 : decode cX4_after 42 = .ok (.iload_n 1, 1) := dk_27 (dk_at dksX4_after_1 18 rfl rfl)
theorem dX4_after_43 : decode cX4_after 43 = .ok (.invokevirtual 386, 3) := dk_182 1 130 (dk_at dksX4_after_1 19 rfl rfl)
theorem dX4_after_46 : decode cX4_after 46 = .ok (.ifCond .eq 22, 3) := dk_153 0 22 (dk_at dksX4_after_2 0 rfl rfl)
theorem dX4_after_49 : decode cX4_after 49 = .ok (.aload_n 0, 1) := dk_42 (dk_at dksX4_after_2 3 rfl rfl)
theorem dX4_after_50 : decode cX4_after 50 = .ok (.aload_n 0, 1) := dk_42 (dk_at dksX4_after_2 4 rfl rfl)
theorem dX4_after_51 : decode cX4_after 51 = .ok (.getfield 97, 3) := dk_180 0 97 (dk_at dksX4_after_2 5 rfl rfl)
theorem dX4_after_54 : decode cX4_after 54 = .ok (.iconst 2, 1) := dk_5 (dk_at dksX4_after_2 8 rfl rfl)
theorem dX4_after_55 : decode cX4_after 55 = .ok (.iload_n 1, 1) := dk_27 (dk_at dksX4_after_2 9 rfl rfl)
theorem dX4_after_56 : decode cX4_after 56 = .ok (.iadd, 1) := dk_96 (dk_at dksX4_after_2 10 rfl rfl)
theorem dX4_after_57 : decode cX4_after 57 = .ok (.iaload, 1) := dk_46 (dk_at dksX4_after_2 11 rfl rfl)
theorem dX4_after_58 : decode cX4_after 58 = .ok (.invokevirtual 440, 3) := dk_182 1 184 (dk_at dksX4_after_2 12 rfl rfl)
theorem dX4_after_61 : decode cX4_after 61 = .ok (.istore_n 3, 1) := dk_62 (dk_at dksX4_after_2 15 rfl rfl)
theorem dX4_after_62 : decode cX4_after 62 = .ok (.iinc 2 1, 3) := dk_132 2 1 (dk_at dksX4_after_2 16 rfl rfl)
theorem dX4_after_65 : decode cX4_after 65 = .ok (.goto (-30), 3) := dk_167 255 226 (dk_at dksX4_after_2 19 rfl rfl)
theorem dX4_after_68 : decode cX4_after 68 = .ok (.aload_n 0, 1) := dk_42 (dk_at dksX4_after_2 22 rfl rfl)
theorem dX4_after_69 : decode cX4_after 69 = .ok (.iload_n 1, 1) := dk_27 (dk_at dksX4_after_2 23 rfl rfl)
theorem dX4_after_70 : decode cX4_after 70 = .ok (.invokevirtual 386, 3) := dk_182 1 130 (dk_at dksX4_after_3 0 rfl rfl)
theorem dX4_after_73 : decode cX4_after 73 = .ok (.ifCond .ne 7, 3) := dk_154 0 7 (dk_at dksX4_after_3 3 rfl rfl)
theorem dX4_after_76 : decode cX4_after 76 = .ok (.iconst 1, 1) := dk_4 (dk_at dksX4_after_3 6 rfl rfl)
theorem dX4_after_77 : decode cX4_after 77 = .ok (.goto 4, 3) := dk_167 0 4 (dk_at dksX4_after_3 7 rfl rfl)
theorem dX4_after_80 : decode cX4_after 80 = .ok (.iconst 0, 1) := dk_3 (dk_at dksX4_after_3 10 rfl rfl)
theorem dX4_after_81 : decode cX4_after 81 = .ok (.istore_n 3, 1) := dk_62 (dk_at dksX4_after_3 11 rfl rfl)
theorem dX4_after_82 : decode cX4_after 82 = .ok (.aload_n 0, 1) := dk_42 (dk_at dksX4_after_3 12 rfl rfl)
theorem dX4_after_83 : decode cX4_after 83 = .ok (.invokevirtual 464, 3) := dk_182 1 208 (dk_at dksX4_after_3 13 rfl rfl)
theorem dX4_after_86 : decode cX4_after 86 = .ok (.iload_n 3, 1) := dk_29 (dk_at dksX4_after_3 16 rfl rfl)
theorem dX4_after_87 : decode cX4_after 87 = .ok (.ifCond .eq 7, 3) := dk_153 0 7 (dk_at dksX4_after_3 17 rfl rfl)
theorem dX4_after_90 : decode cX4_after 90 = .ok (.iload_n 2, 1) := dk_28 (dk_at dksX4_after_3 20 rfl rfl)
theorem dX4_after_91 : decode cX4_after 91 = .ok (.goto 4, 3) := dk_167 0 4 (dk_at dksX4_after_3 21 rfl rfl)
theorem dX4_after_94 : decode cX4_after 94 = .ok (.iconst (-1), 1) := dk_2 (dk_at dksX4_after_4 0 rfl rfl)
theorem dX4_after_95 : decode cX4_after 95 = .ok (.ireturn, 1) := dk_172 (dk_at dksX4_after_4 1 rfl rfl)
abbrev cX4_shyest : ByteArray := prog_23_method_114_code
def yX4_shyest : MethodName := ⟨RX4, "shyest", "(I)I"⟩
def dkwX4_shyest_3 : List UInt8 := [167, 255, 224, 42, 2, 181, 0, 91, 28, 172]
abbrev dktX4_shyest_3 : List UInt8 := dkwX4_shyest_3 ++ []
def dkwX4_shyest_2 : List UInt8 := [181, 1, 142, 42, 27, 42, 180, 0, 88, 5, 27, 96, 46, 182, 1, 148, 153, 0, 5, 29, 61, 132, 3, 1]
abbrev dktX4_shyest_2 : List UInt8 := dkwX4_shyest_2 ++ dktX4_shyest_3
def dkwX4_shyest_1 : List UInt8 := [156, 0, 5, 2, 172, 2, 61, 42, 27, 181, 0, 91, 3, 62, 29, 16, 9, 163, 0, 32, 42, 29]
abbrev dktX4_shyest_1 : List UInt8 := dkwX4_shyest_1 ++ dktX4_shyest_2
def dkwX4_shyest_0 : List UInt8 := [42, 27, 182, 1, 166, 153, 0, 22, 42, 27, 182, 1, 130, 153, 0, 14, 42, 180, 0, 88, 5, 27, 96, 46]
abbrev dktX4_shyest_0 : List UInt8 := dkwX4_shyest_0 ++ dktX4_shyest_1
theorem dksX4_shyest_0 : cX4_shyest.data.toList.drop 0 = dktX4_shyest_0 := by decide +kernel
theorem dksX4_shyest_1 : cX4_shyest.data.toList.drop 24 = dktX4_shyest_1 := dk_seg dksX4_shyest_0 24 rfl rfl
theorem dksX4_shyest_2 : cX4_shyest.data.toList.drop 46 = dktX4_shyest_2 := dk_seg dksX4_shyest_1 22 rfl rfl
theorem dksX4_shyest_3 : cX4_shyest.data.toList.drop 70 = dktX4_shyest_3 := dk_seg dksX4_shyest_2 24 rfl rfl
theorem dX4_shyest_0 : decode cX4_shyest 0 = .ok (.aload_n 0, 1) := dk_42 (dk_at dksX4_shyest_0 0 rfl rfl)
theorem dX4_shyest_1 : decode cX4_shyest 1 = .ok (.iload_n 1, 1) := dk_27 (dk_at dksX4_shyest_0 1 rfl rfl)
theorem dX4_shyest_2 : decode cX4_shyest 2 = .ok (.invokevirtual 422, 3) := dk_182 1 166 (dk_at dksX4_shyest_0 2 rfl rfl)
theorem dX4_shyest_5 : decode cX4_shyest 5 = .ok (.ifCond .eq 22, 3) := dk_153 0 22 (dk_at dksX4_shyest_0 5 rfl rfl)
theorem dX4_shyest_8 : decode cX4_shyest 8 = .ok (.aload_n 0, 1) := dk_42 (dk_at dksX4_shyest_0 8 rfl rfl)
theorem dX4_shyest_9 : decode cX4_shyest 9 = .ok (.iload_n 1, 1) := dk_27 (dk_at dksX4_shyest_0 9 rfl rfl)
theorem dX4_shyest_10 : decode cX4_shyest 10 = .ok (.invokevirtual 386, 3) := dk_182 1 130 (dk_at dksX4_shyest_0 10 rfl rfl)
theorem dX4_shyest_13 : decode cX4_shyest 13 = .ok (.ifCond .eq 14, 3) := dk_153 0 14 (dk_at dksX4_shyest_0 13 rfl rfl)
theorem dX4_shyest_16 : decode cX4_shyest 16 = .ok (.aload_n 0, 1) := dk_42 (dk_at dksX4_shyest_0 16 rfl rfl)
theorem dX4_shyest_17 : decode cX4_shyest 17 = .ok (.getfield 88, 3) := dk_180 0 88 (dk_at dksX4_shyest_0 17 rfl rfl)
theorem dX4_shyest_20 : decode cX4_shyest 20 = .ok (.iconst 2, 1) := dk_5 (dk_at dksX4_shyest_0 20 rfl rfl)
theorem dX4_shyest_21 : decode cX4_shyest 21 = .ok (.iload_n 1, 1) := dk_27 (dk_at dksX4_shyest_0 21 rfl rfl)
theorem dX4_shyest_22 : decode cX4_shyest 22 = .ok (.iadd, 1) := dk_96 (dk_at dksX4_shyest_0 22 rfl rfl)
theorem dX4_shyest_23 : decode cX4_shyest 23 = .ok (.iaload, 1) := dk_46 (dk_at dksX4_shyest_0 23 rfl rfl)
theorem dX4_shyest_24 : decode cX4_shyest 24 = .ok (.ifCond .ge 5, 3) := dk_156 0 5 (dk_at dksX4_shyest_1 0 rfl rfl)
theorem dX4_shyest_27 : decode cX4_shyest 27 = .ok (.iconst (-1), 1) := dk_2 (dk_at dksX4_shyest_1 3 rfl rfl)
theorem dX4_shyest_28 : decode cX4_shyest 28 = .ok (.ireturn, 1) := dk_172 (dk_at dksX4_shyest_1 4 rfl rfl)
theorem dX4_shyest_29 : decode cX4_shyest 29 = .ok (.iconst (-1), 1) := dk_2 (dk_at dksX4_shyest_1 5 rfl rfl)
theorem dX4_shyest_30 : decode cX4_shyest 30 = .ok (.istore_n 2, 1) := dk_61 (dk_at dksX4_shyest_1 6 rfl rfl)
theorem dX4_shyest_31 : decode cX4_shyest 31 = .ok (.aload_n 0, 1) := dk_42 (dk_at dksX4_shyest_1 7 rfl rfl)
theorem dX4_shyest_32 : decode cX4_shyest 32 = .ok (.iload_n 1, 1) := dk_27 (dk_at dksX4_shyest_1 8 rfl rfl)
theorem dX4_shyest_33 : decode cX4_shyest 33 = .ok (.putfield 91, 3) := dk_181 0 91 (dk_at dksX4_shyest_1 9 rfl rfl)
theorem dX4_shyest_36 : decode cX4_shyest 36 = .ok (.iconst 0, 1) := dk_3 (dk_at dksX4_shyest_1 12 rfl rfl)
theorem dX4_shyest_37 : decode cX4_shyest 37 = .ok (.istore_n 3, 1) := dk_62 (dk_at dksX4_shyest_1 13 rfl rfl)
theorem dX4_shyest_38 : decode cX4_shyest 38 = .ok (.iload_n 3, 1) := dk_29 (dk_at dksX4_shyest_1 14 rfl rfl)
theorem dX4_shyest_39 : decode cX4_shyest 39 = .ok (.bipush 9, 2) := dk_16 9 (dk_at dksX4_shyest_1 15 rfl rfl)
theorem dX4_shyest_41 : decode cX4_shyest 41 = .ok (.if_icmp .gt 32, 3) := dk_163 0 32 (dk_at dksX4_shyest_1 17 rfl rfl)
theorem dX4_shyest_44 : decode cX4_shyest 44 = .ok (.aload_n 0, 1) := dk_42 (dk_at dksX4_shyest_1 20 rfl rfl)
theorem dX4_shyest_45 : decode cX4_shyest 45 = .ok (.iload_n 3, 1) := dk_29 (dk_at dksX4_shyest_1 21 rfl rfl)
theorem dX4_shyest_46 : decode cX4_shyest 46 = .ok (.putfield 398, 3) := dk_181 1 142 (dk_at dksX4_shyest_2 0 rfl rfl)
theorem dX4_shyest_49 : decode cX4_shyest 49 = .ok (.aload_n 0, 1) := dk_42 (dk_at dksX4_shyest_2 3 rfl rfl)
theorem dX4_shyest_50 : decode cX4_shyest 50 = .ok (.iload_n 1, 1) := dk_27 (dk_at dksX4_shyest_2 4 rfl rfl)
theorem dX4_shyest_51 : decode cX4_shyest 51 = .ok (.aload_n 0, 1) := dk_42 (dk_at dksX4_shyest_2 5 rfl rfl)
theorem dX4_shyest_52 : decode cX4_shyest 52 = .ok (.getfield 88, 3) := dk_180 0 88 (dk_at dksX4_shyest_2 6 rfl rfl)
theorem dX4_shyest_55 : decode cX4_shyest 55 = .ok (.iconst 2, 1) := dk_5 (dk_at dksX4_shyest_2 9 rfl rfl)
theorem dX4_shyest_56 : decode cX4_shyest 56 = .ok (.iload_n 1, 1) := dk_27 (dk_at dksX4_shyest_2 10 rfl rfl)
theorem dX4_shyest_57 : decode cX4_shyest 57 = .ok (.iadd, 1) := dk_96 (dk_at dksX4_shyest_2 11 rfl rfl)
theorem dX4_shyest_58 : decode cX4_shyest 58 = .ok (.iaload, 1) := dk_46 (dk_at dksX4_shyest_2 12 rfl rfl)
theorem dX4_shyest_59 : decode cX4_shyest 59 = .ok (.invokevirtual 404, 3) := dk_182 1 148 (dk_at dksX4_shyest_2 13 rfl rfl)
theorem dX4_shyest_62 : decode cX4_shyest 62 = .ok (.ifCond .eq 5, 3) := dk_153 0 5 (dk_at dksX4_shyest_2 16 rfl rfl)
theorem dX4_shyest_65 : decode cX4_shyest 65 = .ok (.iload_n 3, 1) := dk_29 (dk_at dksX4_shyest_2 19 rfl rfl)
theorem dX4_shyest_66 : decode cX4_shyest 66 = .ok (.istore_n 2, 1) := dk_61 (dk_at dksX4_shyest_2 20 rfl rfl)
theorem dX4_shyest_67 : decode cX4_shyest 67 = .ok (.iinc 3 1, 3) := dk_132 3 1 (dk_at dksX4_shyest_2 21 rfl rfl)
theorem dX4_shyest_70 : decode cX4_shyest 70 = .ok (.goto (-32), 3) := dk_167 255 224 (dk_at dksX4_shyest_3 0 rfl rfl)
theorem dX4_shyest_73 : decode cX4_shyest 73 = .ok (.aload_n 0, 1) := dk_42 (dk_at dksX4_shyest_3 3 rfl rfl)
theorem dX4_shyest_74 : decode cX4_shyest 74 = .ok (.iconst (-1), 1) := dk_2 (dk_at dksX4_shyest_3 4 rfl rfl)
theorem dX4_shyest_75 : decode cX4_shyest 75 = .ok (.putfield 91, 3) := dk_181 0 91 (dk_at dksX4_shyest_3 5 rfl rfl)
theorem dX4_shyest_78 : decode cX4_shyest 78 = .ok (.iload_n 2, 1) := dk_28 (dk_at dksX4_shyest_3 8 rfl rfl)
theorem dX4_shyest_79 : decode cX4_shyest 79 = .ok (.ireturn, 1) := dk_172 (dk_at dksX4_shyest_3 9 rfl rfl)
abbrev cX4_line : ByteArray := prog_23_method_118_code
def yX4_line : MethodName := ⟨RX4, "line", "()I"⟩
def dkwX4_line_3 : List UInt8 := [167, 255, 196, 132, 1, 255, 167, 255, 184, 42, 3, 181, 1, 127, 3, 172]
abbrev dktX4_line_3 : List UInt8 := dkwX4_line_3 ++ []
def dkwX4_line_2 : List UInt8 := [28, 27, 29, 182, 1, 214, 79, 132, 3, 1, 167, 255, 235, 42, 27, 181, 1, 127, 27, 172, 132, 2, 1]
abbrev dktX4_line_2 : List UInt8 := dkwX4_line_2 ++ dktX4_line_3
def dkwX4_line_1 : List UInt8 := [28, 27, 182, 1, 220, 154, 0, 6, 167, 0, 36, 3, 62, 29, 27, 162, 0, 22, 42, 180, 0, 100, 29, 42]
abbrev dktX4_line_1 : List UInt8 := dkwX4_line_1 ++ dktX4_line_2
def dkwX4_line_0 : List UInt8 := [42, 182, 1, 102, 60, 27, 158, 0, 74, 3, 61, 28, 42, 182, 1, 102, 27, 184, 1, 199, 162, 0, 54, 42]
abbrev dktX4_line_0 : List UInt8 := dkwX4_line_0 ++ dktX4_line_1
theorem dksX4_line_0 : cX4_line.data.toList.drop 0 = dktX4_line_0 := by decide +kernel
theorem dksX4_line_1 : cX4_line.data.toList.drop 24 = dktX4_line_1 := dk_seg dksX4_line_0 24 rfl rfl
theorem dksX4_line_2 : cX4_line.data.toList.drop 48 = dktX4_line_2 := dk_seg dksX4_line_1 24 rfl rfl
theorem dksX4_line_3 : cX4_line.data.toList.drop 71 = dktX4_line_3 := dk_seg dksX4_line_2 23 rfl rfl
theorem dX4_line_0 : decode cX4_line 0 = .ok (.aload_n 0, 1) := dk_42 (dk_at dksX4_line_0 0 rfl rfl)
theorem dX4_line_1 : decode cX4_line 1 = .ok (.invokevirtual 358, 3) := dk_182 1 102 (dk_at dksX4_line_0 1 rfl rfl)
theorem dX4_line_4 : decode cX4_line 4 = .ok (.istore_n 1, 1) := dk_60 (dk_at dksX4_line_0 4 rfl rfl)
theorem dX4_line_5 : decode cX4_line 5 = .ok (.iload_n 1, 1) := dk_27 (dk_at dksX4_line_0 5 rfl rfl)
theorem dX4_line_6 : decode cX4_line 6 = .ok (.ifCond .le 74, 3) := dk_158 0 74 (dk_at dksX4_line_0 6 rfl rfl)
theorem dX4_line_9 : decode cX4_line 9 = .ok (.iconst 0, 1) := dk_3 (dk_at dksX4_line_0 9 rfl rfl)
theorem dX4_line_10 : decode cX4_line 10 = .ok (.istore_n 2, 1) := dk_61 (dk_at dksX4_line_0 10 rfl rfl)
theorem dX4_line_11 : decode cX4_line 11 = .ok (.iload_n 2, 1) := dk_28 (dk_at dksX4_line_0 11 rfl rfl)
theorem dX4_line_12 : decode cX4_line 12 = .ok (.aload_n 0, 1) := dk_42 (dk_at dksX4_line_0 12 rfl rfl)
theorem dX4_line_13 : decode cX4_line 13 = .ok (.invokevirtual 358, 3) := dk_182 1 102 (dk_at dksX4_line_0 13 rfl rfl)
theorem dX4_line_16 : decode cX4_line 16 = .ok (.iload_n 1, 1) := dk_27 (dk_at dksX4_line_0 16 rfl rfl)
theorem dX4_line_17 : decode cX4_line 17 = .ok (.invokestatic 455, 3) := dk_184 1 199 (dk_at dksX4_line_0 17 rfl rfl)
theorem dX4_line_20 : decode cX4_line 20 = .ok (.if_icmp .ge 54, 3) := dk_162 0 54 (dk_at dksX4_line_0 20 rfl rfl)
theorem dX4_line_23 : decode cX4_line 23 = .ok (.aload_n 0, 1) := dk_42 (dk_at dksX4_line_0 23 rfl rfl)
theorem dX4_line_24 : decode cX4_line 24 = .ok (.iload_n 2, 1) := dk_28 (dk_at dksX4_line_1 0 rfl rfl)
theorem dX4_line_25 : decode cX4_line 25 = .ok (.iload_n 1, 1) := dk_27 (dk_at dksX4_line_1 1 rfl rfl)
theorem dX4_line_26 : decode cX4_line 26 = .ok (.invokevirtual 476, 3) := dk_182 1 220 (dk_at dksX4_line_1 2 rfl rfl)
theorem dX4_line_29 : decode cX4_line 29 = .ok (.ifCond .ne 6, 3) := dk_154 0 6 (dk_at dksX4_line_1 5 rfl rfl)
theorem dX4_line_32 : decode cX4_line 32 = .ok (.goto 36, 3) := dk_167 0 36 (dk_at dksX4_line_1 8 rfl rfl)
theorem dX4_line_35 : decode cX4_line 35 = .ok (.iconst 0, 1) := dk_3 (dk_at dksX4_line_1 11 rfl rfl)
theorem dX4_line_36 : decode cX4_line 36 = .ok (.istore_n 3, 1) := dk_62 (dk_at dksX4_line_1 12 rfl rfl)
theorem dX4_line_37 : decode cX4_line 37 = .ok (.iload_n 3, 1) := dk_29 (dk_at dksX4_line_1 13 rfl rfl)
theorem dX4_line_38 : decode cX4_line 38 = .ok (.iload_n 1, 1) := dk_27 (dk_at dksX4_line_1 14 rfl rfl)
theorem dX4_line_39 : decode cX4_line 39 = .ok (.if_icmp .ge 22, 3) := dk_162 0 22 (dk_at dksX4_line_1 15 rfl rfl)
theorem dX4_line_42 : decode cX4_line 42 = .ok (.aload_n 0, 1) := dk_42 (dk_at dksX4_line_1 18 rfl rfl)
theorem dX4_line_43 : decode cX4_line 43 = .ok (.getfield 100, 3) := dk_180 0 100 (dk_at dksX4_line_1 19 rfl rfl)
theorem dX4_line_46 : decode cX4_line 46 = .ok (.iload_n 3, 1) := dk_29 (dk_at dksX4_line_1 22 rfl rfl)
theorem dX4_line_47 : decode cX4_line 47 = .ok (.aload_n 0, 1) := dk_42 (dk_at dksX4_line_1 23 rfl rfl)
theorem dX4_line_48 : decode cX4_line 48 = .ok (.iload_n 2, 1) := dk_28 (dk_at dksX4_line_2 0 rfl rfl)
theorem dX4_line_49 : decode cX4_line 49 = .ok (.iload_n 1, 1) := dk_27 (dk_at dksX4_line_2 1 rfl rfl)
theorem dX4_line_50 : decode cX4_line 50 = .ok (.iload_n 3, 1) := dk_29 (dk_at dksX4_line_2 2 rfl rfl)
theorem dX4_line_51 : decode cX4_line 51 = .ok (.invokevirtual 470, 3) := dk_182 1 214 (dk_at dksX4_line_2 3 rfl rfl)
theorem dX4_line_54 : decode cX4_line 54 = .ok (.iastore, 1) := dk_79 (dk_at dksX4_line_2 6 rfl rfl)
theorem dX4_line_55 : decode cX4_line 55 = .ok (.iinc 3 1, 3) := dk_132 3 1 (dk_at dksX4_line_2 7 rfl rfl)
theorem dX4_line_58 : decode cX4_line 58 = .ok (.goto (-21), 3) := dk_167 255 235 (dk_at dksX4_line_2 10 rfl rfl)
theorem dX4_line_61 : decode cX4_line 61 = .ok (.aload_n 0, 1) := dk_42 (dk_at dksX4_line_2 13 rfl rfl)
theorem dX4_line_62 : decode cX4_line 62 = .ok (.iload_n 1, 1) := dk_27 (dk_at dksX4_line_2 14 rfl rfl)
theorem dX4_line_63 : decode cX4_line 63 = .ok (.putfield 383, 3) := dk_181 1 127 (dk_at dksX4_line_2 15 rfl rfl)
theorem dX4_line_66 : decode cX4_line 66 = .ok (.iload_n 1, 1) := dk_27 (dk_at dksX4_line_2 18 rfl rfl)
theorem dX4_line_67 : decode cX4_line 67 = .ok (.ireturn, 1) := dk_172 (dk_at dksX4_line_2 19 rfl rfl)
theorem dX4_line_68 : decode cX4_line 68 = .ok (.iinc 2 1, 3) := dk_132 2 1 (dk_at dksX4_line_2 20 rfl rfl)
theorem dX4_line_71 : decode cX4_line 71 = .ok (.goto (-60), 3) := dk_167 255 196 (dk_at dksX4_line_3 0 rfl rfl)
theorem dX4_line_74 : decode cX4_line 74 = .ok (.iinc 1 (-1), 3) := dk_132 1 255 (dk_at dksX4_line_3 3 rfl rfl)
theorem dX4_line_77 : decode cX4_line 77 = .ok (.goto (-72), 3) := dk_167 255 184 (dk_at dksX4_line_3 6 rfl rfl)
theorem dX4_line_80 : decode cX4_line 80 = .ok (.aload_n 0, 1) := dk_42 (dk_at dksX4_line_3 9 rfl rfl)
theorem dX4_line_81 : decode cX4_line 81 = .ok (.iconst 0, 1) := dk_3 (dk_at dksX4_line_3 10 rfl rfl)
theorem dX4_line_82 : decode cX4_line 82 = .ok (.putfield 383, 3) := dk_181 1 127 (dk_at dksX4_line_3 11 rfl rfl)
theorem dX4_line_85 : decode cX4_line 85 = .ok (.iconst 0, 1) := dk_3 (dk_at dksX4_line_3 14 rfl rfl)
theorem dX4_line_86 : decode cX4_line 86 = .ok (.ireturn, 1) := dk_172 (dk_at dksX4_line_3 15 rfl rfl)
abbrev cX4_isLine : ByteArray := prog_23_method_117_code
def yX4_isLine : MethodName := ⟨RX4, "isLine", "(II)Z"⟩
def dkwX4_isLine_2 : List UInt8 := [182, 1, 217, 154, 0, 5, 3, 172, 29, 4, 21, 5, 120, 128, 62, 132, 4, 1, 167, 255, 195, 4, 172]
abbrev dktX4_isLine_2 : List UInt8 := dkwX4_isLine_2 ++ []
def dkwX4_isLine_1 : List UInt8 := [184, 1, 3, 154, 0, 27, 21, 4, 158, 0, 24, 42, 42, 27, 28, 21, 4, 4, 100, 182, 1, 214, 21, 5]
abbrev dktX4_isLine_1 : List UInt8 := dkwX4_isLine_1 ++ dktX4_isLine_2
def dkwX4_isLine_0 : List UInt8 := [3, 62, 3, 54, 4, 21, 4, 28, 162, 0, 61, 42, 27, 28, 21, 4, 182, 1, 214, 54, 5, 29, 21, 5]
abbrev dktX4_isLine_0 : List UInt8 := dkwX4_isLine_0 ++ dktX4_isLine_1
theorem dksX4_isLine_0 : cX4_isLine.data.toList.drop 0 = dktX4_isLine_0 := by decide +kernel
theorem dksX4_isLine_1 : cX4_isLine.data.toList.drop 24 = dktX4_isLine_1 := dk_seg dksX4_isLine_0 24 rfl rfl
theorem dksX4_isLine_2 : cX4_isLine.data.toList.drop 48 = dktX4_isLine_2 := dk_seg dksX4_isLine_1 24 rfl rfl
theorem dX4_isLine_0 : decode cX4_isLine 0 = .ok (.iconst 0, 1) := dk_3 (dk_at dksX4_isLine_0 0 rfl rfl)
theorem dX4_isLine_1 : decode cX4_isLine 1 = .ok (.istore_n 3, 1) := dk_62 (dk_at dksX4_isLine_0 1 rfl rfl)
theorem dX4_isLine_2 : decode cX4_isLine 2 = .ok (.iconst 0, 1) := dk_3 (dk_at dksX4_isLine_0 2 rfl rfl)
theorem dX4_isLine_3 : decode cX4_isLine 3 = .ok (.istore 4, 2) := dk_54 4 (dk_at dksX4_isLine_0 3 rfl rfl)
theorem dX4_isLine_5 : decode cX4_isLine 5 = .ok (.iload 4, 2) := dk_21 4 (dk_at dksX4_isLine_0 5 rfl rfl)
theorem dX4_isLine_7 : decode cX4_isLine 7 = .ok (.iload_n 2, 1) := dk_28 (dk_at dksX4_isLine_0 7 rfl rfl)
theorem dX4_isLine_8 : decode cX4_isLine 8 = .ok (.if_icmp .ge 61, 3) := dk_162 0 61 (dk_at dksX4_isLine_0 8 rfl rfl)
theorem dX4_isLine_11 : decode cX4_isLine 11 = .ok (.aload_n 0, 1) := dk_42 (dk_at dksX4_isLine_0 11 rfl rfl)
theorem dX4_isLine_12 : decode cX4_isLine 12 = .ok (.iload_n 1, 1) := dk_27 (dk_at dksX4_isLine_0 12 rfl rfl)
theorem dX4_isLine_13 : decode cX4_isLine 13 = .ok (.iload_n 2, 1) := dk_28 (dk_at dksX4_isLine_0 13 rfl rfl)
theorem dX4_isLine_14 : decode cX4_isLine 14 = .ok (.iload 4, 2) := dk_21 4 (dk_at dksX4_isLine_0 14 rfl rfl)
theorem dX4_isLine_16 : decode cX4_isLine 16 = .ok (.invokevirtual 470, 3) := dk_182 1 214 (dk_at dksX4_isLine_0 16 rfl rfl)
theorem dX4_isLine_19 : decode cX4_isLine 19 = .ok (.istore 5, 2) := dk_54 5 (dk_at dksX4_isLine_0 19 rfl rfl)
theorem dX4_isLine_21 : decode cX4_isLine 21 = .ok (.iload_n 3, 1) := dk_29 (dk_at dksX4_isLine_0 21 rfl rfl)
theorem dX4_isLine_22 : decode cX4_isLine 22 = .ok (.iload 5, 2) := dk_21 5 (dk_at dksX4_isLine_0 22 rfl rfl)
theorem dX4_isLine_24 : decode cX4_isLine 24 = .ok (.invokestatic 259, 3) := dk_184 1 3 (dk_at dksX4_isLine_1 0 rfl rfl)
theorem dX4_isLine_27 : decode cX4_isLine 27 = .ok (.ifCond .ne 27, 3) := dk_154 0 27 (dk_at dksX4_isLine_1 3 rfl rfl)
theorem dX4_isLine_30 : decode cX4_isLine 30 = .ok (.iload 4, 2) := dk_21 4 (dk_at dksX4_isLine_1 6 rfl rfl)
theorem dX4_isLine_32 : decode cX4_isLine 32 = .ok (.ifCond .le 24, 3) := dk_158 0 24 (dk_at dksX4_isLine_1 8 rfl rfl)
theorem dX4_isLine_35 : decode cX4_isLine 35 = .ok (.aload_n 0, 1) := dk_42 (dk_at dksX4_isLine_1 11 rfl rfl)
theorem dX4_isLine_36 : decode cX4_isLine 36 = .ok (.aload_n 0, 1) := dk_42 (dk_at dksX4_isLine_1 12 rfl rfl)
theorem dX4_isLine_37 : decode cX4_isLine 37 = .ok (.iload_n 1, 1) := dk_27 (dk_at dksX4_isLine_1 13 rfl rfl)
theorem dX4_isLine_38 : decode cX4_isLine 38 = .ok (.iload_n 2, 1) := dk_28 (dk_at dksX4_isLine_1 14 rfl rfl)
theorem dX4_isLine_39 : decode cX4_isLine 39 = .ok (.iload 4, 2) := dk_21 4 (dk_at dksX4_isLine_1 15 rfl rfl)
theorem dX4_isLine_41 : decode cX4_isLine 41 = .ok (.iconst 1, 1) := dk_4 (dk_at dksX4_isLine_1 17 rfl rfl)
theorem dX4_isLine_42 : decode cX4_isLine 42 = .ok (.isub, 1) := dk_100 (dk_at dksX4_isLine_1 18 rfl rfl)
theorem dX4_isLine_43 : decode cX4_isLine 43 = .ok (.invokevirtual 470, 3) := dk_182 1 214 (dk_at dksX4_isLine_1 19 rfl rfl)
theorem dX4_isLine_46 : decode cX4_isLine 46 = .ok (.iload 5, 2) := dk_21 5 (dk_at dksX4_isLine_1 22 rfl rfl)
theorem dX4_isLine_48 : decode cX4_isLine 48 = .ok (.invokevirtual 473, 3) := dk_182 1 217 (dk_at dksX4_isLine_2 0 rfl rfl)
theorem dX4_isLine_51 : decode cX4_isLine 51 = .ok (.ifCond .ne 5, 3) := dk_154 0 5 (dk_at dksX4_isLine_2 3 rfl rfl)
theorem dX4_isLine_54 : decode cX4_isLine 54 = .ok (.iconst 0, 1) := dk_3 (dk_at dksX4_isLine_2 6 rfl rfl)
theorem dX4_isLine_55 : decode cX4_isLine 55 = .ok (.ireturn, 1) := dk_172 (dk_at dksX4_isLine_2 7 rfl rfl)
theorem dX4_isLine_56 : decode cX4_isLine 56 = .ok (.iload_n 3, 1) := dk_29 (dk_at dksX4_isLine_2 8 rfl rfl)
theorem dX4_isLine_57 : decode cX4_isLine 57 = .ok (.iconst 1, 1) := dk_4 (dk_at dksX4_isLine_2 9 rfl rfl)
theorem dX4_isLine_58 : decode cX4_isLine 58 = .ok (.iload 5, 2) := dk_21 5 (dk_at dksX4_isLine_2 10 rfl rfl)
theorem dX4_isLine_60 : decode cX4_isLine 60 = .ok (.ishl, 1) := dk_120 (dk_at dksX4_isLine_2 12 rfl rfl)
theorem dX4_isLine_61 : decode cX4_isLine 61 = .ok (.ior, 1) := dk_128 (dk_at dksX4_isLine_2 13 rfl rfl)
theorem dX4_isLine_62 : decode cX4_isLine 62 = .ok (.istore_n 3, 1) := dk_62 (dk_at dksX4_isLine_2 14 rfl rfl)
theorem dX4_isLine_63 : decode cX4_isLine 63 = .ok (.iinc 4 1, 3) := dk_132 4 1 (dk_at dksX4_isLine_2 15 rfl rfl)
theorem dX4_isLine_66 : decode cX4_isLine 66 = .ok (.goto (-61), 3) := dk_167 255 195 (dk_at dksX4_isLine_2 18 rfl rfl)
theorem dX4_isLine_69 : decode cX4_isLine 69 = .ok (.iconst 1, 1) := dk_4 (dk_at dksX4_isLine_2 21 rfl rfl)
theorem dX4_isLine_70 : decode cX4_isLine 70 = .ok (.ireturn, 1) := dk_172 (dk_at dksX4_isLine_2 22 rfl rfl)
abbrev cX4_inOrder : ByteArray := prog_23_method_116_code
def yX4_inOrder : MethodName := ⟨RX4, "inOrder", "(III)I"⟩
def dkwX4_inOrder_0 : List UInt8 := [27, 42, 182, 1, 102, 28, 4, 100, 29, 100, 184, 1, 199, 108, 42, 182, 1, 102, 112, 172]
abbrev dktX4_inOrder_0 : List UInt8 := dkwX4_inOrder_0 ++ []
theorem dksX4_inOrder_0 : cX4_inOrder.data.toList.drop 0 = dktX4_inOrder_0 := by decide +kernel
theorem dX4_inOrder_0 : decode cX4_inOrder 0 = .ok (.iload_n 1, 1) := dk_27 (dk_at dksX4_inOrder_0 0 rfl rfl)
theorem dX4_inOrder_1 : decode cX4_inOrder 1 = .ok (.aload_n 0, 1) := dk_42 (dk_at dksX4_inOrder_0 1 rfl rfl)
theorem dX4_inOrder_2 : decode cX4_inOrder 2 = .ok (.invokevirtual 358, 3) := dk_182 1 102 (dk_at dksX4_inOrder_0 2 rfl rfl)
theorem dX4_inOrder_5 : decode cX4_inOrder 5 = .ok (.iload_n 2, 1) := dk_28 (dk_at dksX4_inOrder_0 5 rfl rfl)
theorem dX4_inOrder_6 : decode cX4_inOrder 6 = .ok (.iconst 1, 1) := dk_4 (dk_at dksX4_inOrder_0 6 rfl rfl)
theorem dX4_inOrder_7 : decode cX4_inOrder 7 = .ok (.isub, 1) := dk_100 (dk_at dksX4_inOrder_0 7 rfl rfl)
theorem dX4_inOrder_8 : decode cX4_inOrder 8 = .ok (.iload_n 3, 1) := dk_29 (dk_at dksX4_inOrder_0 8 rfl rfl)
theorem dX4_inOrder_9 : decode cX4_inOrder 9 = .ok (.isub, 1) := dk_100 (dk_at dksX4_inOrder_0 9 rfl rfl)
theorem dX4_inOrder_10 : decode cX4_inOrder 10 = .ok (.invokestatic 455, 3) := dk_184 1 199 (dk_at dksX4_inOrder_0 10 rfl rfl)
theorem dX4_inOrder_13 : decode cX4_inOrder 13 = .ok (.idiv, 1) := dk_108 (dk_at dksX4_inOrder_0 13 rfl rfl)
theorem dX4_inOrder_14 : decode cX4_inOrder 14 = .ok (.aload_n 0, 1) := dk_42 (dk_at dksX4_inOrder_0 14 rfl rfl)
theorem dX4_inOrder_15 : decode cX4_inOrder 15 = .ok (.invokevirtual 358, 3) := dk_182 1 102 (dk_at dksX4_inOrder_0 15 rfl rfl)
theorem dX4_inOrder_18 : decode cX4_inOrder 18 = .ok (.irem, 1) := dk_112 (dk_at dksX4_inOrder_0 18 rfl rfl)
theorem dX4_inOrder_19 : decode cX4_inOrder 19 = .ok (.ireturn, 1) := dk_172 (dk_at dksX4_inOrder_0 19 rfl rfl)
abbrev cX4_doesKeep : ByteArray := prog_23_method_115_code
def yX4_doesKeep : MethodName := ⟨RX4, "doesKeep", "(II)Z"⟩
def dkwX4_doesKeep_1 : List UInt8 := [172]
abbrev dktX4_doesKeep_1 : List UInt8 := dkwX4_doesKeep_1 ++ []
def dkwX4_doesKeep_0 : List UInt8 := [42, 27, 182, 1, 157, 42, 28, 182, 1, 163, 126, 42, 182, 1, 160, 126, 153, 0, 7, 4, 167, 0, 4, 3]
abbrev dktX4_doesKeep_0 : List UInt8 := dkwX4_doesKeep_0 ++ dktX4_doesKeep_1
theorem dksX4_doesKeep_0 : cX4_doesKeep.data.toList.drop 0 = dktX4_doesKeep_0 := by decide +kernel
theorem dksX4_doesKeep_1 : cX4_doesKeep.data.toList.drop 24 = dktX4_doesKeep_1 := dk_seg dksX4_doesKeep_0 24 rfl rfl
theorem dX4_doesKeep_0 : decode cX4_doesKeep 0 = .ok (.aload_n 0, 1) := dk_42 (dk_at dksX4_doesKeep_0 0 rfl rfl)
theorem dX4_doesKeep_1 : decode cX4_doesKeep 1 = .ok (.iload_n 1, 1) := dk_27 (dk_at dksX4_doesKeep_0 1 rfl rfl)
theorem dX4_doesKeep_2 : decode cX4_doesKeep 2 = .ok (.invokevirtual 413, 3) := dk_182 1 157 (dk_at dksX4_doesKeep_0 2 rfl rfl)
theorem dX4_doesKeep_5 : decode cX4_doesKeep 5 = .ok (.aload_n 0, 1) := dk_42 (dk_at dksX4_doesKeep_0 5 rfl rfl)
theorem dX4_doesKeep_6 : decode cX4_doesKeep 6 = .ok (.iload_n 2, 1) := dk_28 (dk_at dksX4_doesKeep_0 6 rfl rfl)
theorem dX4_doesKeep_7 : decode cX4_doesKeep 7 = .ok (.invokevirtual 419, 3) := dk_182 1 163 (dk_at dksX4_doesKeep_0 7 rfl rfl)
theorem dX4_doesKeep_10 : decode cX4_doesKeep 10 = .ok (.iand, 1) := dk_126 (dk_at dksX4_doesKeep_0 10 rfl rfl)
theorem dX4_doesKeep_11 : decode cX4_doesKeep 11 = .ok (.aload_n 0, 1) := dk_42 (dk_at dksX4_doesKeep_0 11 rfl rfl)
theorem dX4_doesKeep_12 : decode cX4_doesKeep 12 = .ok (.invokevirtual 416, 3) := dk_182 1 160 (dk_at dksX4_doesKeep_0 12 rfl rfl)
theorem dX4_doesKeep_15 : decode cX4_doesKeep 15 = .ok (.iand, 1) := dk_126 (dk_at dksX4_doesKeep_0 15 rfl rfl)
theorem dX4_doesKeep_16 : decode cX4_doesKeep 16 = .ok (.ifCond .eq 7, 3) := dk_153 0 7 (dk_at dksX4_doesKeep_0 16 rfl rfl)
theorem dX4_doesKeep_19 : decode cX4_doesKeep 19 = .ok (.iconst 1, 1) := dk_4 (dk_at dksX4_doesKeep_0 19 rfl rfl)
theorem dX4_doesKeep_20 : decode cX4_doesKeep 20 = .ok (.goto 4, 3) := dk_167 0 4 (dk_at dksX4_doesKeep_0 20 rfl rfl)
theorem dX4_doesKeep_23 : decode cX4_doesKeep 23 = .ok (.iconst 0, 1) := dk_3 (dk_at dksX4_doesKeep_0 23 rfl rfl)
theorem dX4_doesKeep_24 : decode cX4_doesKeep 24 = .ok (.ireturn, 1) := dk_172 (dk_at dksX4_doesKeep_1 0 rfl rfl)
abbrev cX4_rank : ByteArray := prog_23_method_119_code
def yX4_rank : MethodName := ⟨RX4, "rank", "()I"⟩
def dkwX4_rank_4 : List UInt8 := [181, 1, 127, 132, 1, 1, 167, 255, 161, 42, 180, 1, 127, 172]
abbrev dktX4_rank_4 : List UInt8 := dkwX4_rank_4 ++ []
def dkwX4_rank_3 : List UInt8 := [4, 100, 46, 79, 132, 2, 255, 167, 255, 197, 42, 180, 0, 100, 28, 27, 79, 42, 89, 180, 1, 127, 4, 96]
abbrev dktX4_rank_3 : List UInt8 := dkwX4_rank_3 ++ dktX4_rank_4
def dkwX4_rank_2 : List UInt8 := [182, 1, 157, 42, 182, 1, 160, 126, 182, 1, 92, 162, 0, 23, 42, 180, 0, 100, 28, 42, 180, 0, 100, 28]
abbrev dktX4_rank_2 : List UInt8 := dkwX4_rank_2 ++ dktX4_rank_3
def dkwX4_rank_1 : List UInt8 := [42, 42, 42, 180, 0, 100, 28, 4, 100, 46, 182, 1, 157, 42, 182, 1, 160, 126, 182, 1, 92, 42, 42, 27]
abbrev dktX4_rank_1 : List UInt8 := dkwX4_rank_1 ++ dktX4_rank_2
def dkwX4_rank_0 : List UInt8 := [42, 3, 181, 1, 127, 3, 60, 27, 42, 182, 1, 102, 162, 0, 93, 42, 180, 1, 127, 61, 28, 158, 0, 61]
abbrev dktX4_rank_0 : List UInt8 := dkwX4_rank_0 ++ dktX4_rank_1
theorem dksX4_rank_0 : cX4_rank.data.toList.drop 0 = dktX4_rank_0 := by decide +kernel
theorem dksX4_rank_1 : cX4_rank.data.toList.drop 24 = dktX4_rank_1 := dk_seg dksX4_rank_0 24 rfl rfl
theorem dksX4_rank_2 : cX4_rank.data.toList.drop 48 = dktX4_rank_2 := dk_seg dksX4_rank_1 24 rfl rfl
theorem dksX4_rank_3 : cX4_rank.data.toList.drop 72 = dktX4_rank_3 := dk_seg dksX4_rank_2 24 rfl rfl
theorem dksX4_rank_4 : cX4_rank.data.toList.drop 96 = dktX4_rank_4 := dk_seg dksX4_rank_3 24 rfl rfl
theorem dX4_rank_0 : decode cX4_rank 0 = .ok (.aload_n 0, 1) := dk_42 (dk_at dksX4_rank_0 0 rfl rfl)
theorem dX4_rank_1 : decode cX4_rank 1 = .ok (.iconst 0, 1) := dk_3 (dk_at dksX4_rank_0 1 rfl rfl)
theorem dX4_rank_2 : decode cX4_rank 2 = .ok (.putfield 383, 3) := dk_181 1 127 (dk_at dksX4_rank_0 2 rfl rfl)
theorem dX4_rank_5 : decode cX4_rank 5 = .ok (.iconst 0, 1) := dk_3 (dk_at dksX4_rank_0 5 rfl rfl)
theorem dX4_rank_6 : decode cX4_rank 6 = .ok (.istore_n 1, 1) := dk_60 (dk_at dksX4_rank_0 6 rfl rfl)
theorem dX4_rank_7 : decode cX4_rank 7 = .ok (.iload_n 1, 1) := dk_27 (dk_at dksX4_rank_0 7 rfl rfl)
theorem dX4_rank_8 : decode cX4_rank 8 = .ok (.aload_n 0, 1) := dk_42 (dk_at dksX4_rank_0 8 rfl rfl)
theorem dX4_rank_9 : decode cX4_rank 9 = .ok (.invokevirtual 358, 3) := dk_182 1 102 (dk_at dksX4_rank_0 9 rfl rfl)
theorem dX4_rank_12 : decode cX4_rank 12 = .ok (.if_icmp .ge 93, 3) := dk_162 0 93 (dk_at dksX4_rank_0 12 rfl rfl)
theorem dX4_rank_15 : decode cX4_rank 15 = .ok (.aload_n 0, 1) := dk_42 (dk_at dksX4_rank_0 15 rfl rfl)
theorem dX4_rank_16 : decode cX4_rank 16 = .ok (.getfield 383, 3) := dk_180 1 127 (dk_at dksX4_rank_0 16 rfl rfl)
theorem dX4_rank_19 : decode cX4_rank 19 = .ok (.istore_n 2, 1) := dk_61 (dk_at dksX4_rank_0 19 rfl rfl)
theorem dX4_rank_20 : decode cX4_rank 20 = .ok (.iload_n 2, 1) := dk_28 (dk_at dksX4_rank_0 20 rfl rfl)
theorem dX4_rank_21 : decode cX4_rank 21 = .ok (.ifCond .le 61, 3) := dk_158 0 61 (dk_at dksX4_rank_0 21 rfl rfl)
theorem dX4_rank_24 : decode cX4_rank 24 = .ok (.aload_n 0, 1) := dk_42 (dk_at dksX4_rank_1 0 rfl rfl)
theorem dX4_rank_25 : decode cX4_rank 25 = .ok (.aload_n 0, 1) := dk_42 (dk_at dksX4_rank_1 1 rfl rfl)
theorem dX4_rank_26 : decode cX4_rank 26 = .ok (.aload_n 0, 1) := dk_42 (dk_at dksX4_rank_1 2 rfl rfl)
theorem dX4_rank_27 : decode cX4_rank 27 = .ok (.getfield 100, 3) := dk_180 0 100 (dk_at dksX4_rank_1 3 rfl rfl)
theorem dX4_rank_30 : decode cX4_rank 30 = .ok (.iload_n 2, 1) := dk_28 (dk_at dksX4_rank_1 6 rfl rfl)
theorem dX4_rank_31 : decode cX4_rank 31 = .ok (.iconst 1, 1) := dk_4 (dk_at dksX4_rank_1 7 rfl rfl)
theorem dX4_rank_32 : decode cX4_rank 32 = .ok (.isub, 1) := dk_100 (dk_at dksX4_rank_1 8 rfl rfl)
theorem dX4_rank_33 : decode cX4_rank 33 = .ok (.iaload, 1) := dk_46 (dk_at dksX4_rank_1 9 rfl rfl)
theorem dX4_rank_34 : decode cX4_rank 34 = .ok (.invokevirtual 413, 3) := dk_182 1 157 (dk_at dksX4_rank_1 10 rfl rfl)
theorem dX4_rank_37 : decode cX4_rank 37 = .ok (.aload_n 0, 1) := dk_42 (dk_at dksX4_rank_1 13 rfl rfl)
theorem dX4_rank_38 : decode cX4_rank 38 = .ok (.invokevirtual 416, 3) := dk_182 1 160 (dk_at dksX4_rank_1 14 rfl rfl)
theorem dX4_rank_41 : decode cX4_rank 41 = .ok (.iand, 1) := dk_126 (dk_at dksX4_rank_1 17 rfl rfl)
theorem dX4_rank_42 : decode cX4_rank 42 = .ok (.invokevirtual 348, 3) := dk_182 1 92 (dk_at dksX4_rank_1 18 rfl rfl)
theorem dX4_rank_45 : decode cX4_rank 45 = .ok (.aload_n 0, 1) := dk_42 (dk_at dksX4_rank_1 21 rfl rfl)
theorem dX4_rank_46 : decode cX4_rank 46 = .ok (.aload_n 0, 1) := dk_42 (dk_at dksX4_rank_1 22 rfl rfl)
theorem dX4_rank_47 : decode cX4_rank 47 = .ok (.iload_n 1, 1) := dk_27 (dk_at dksX4_rank_1 23 rfl rfl)
theorem dX4_rank_48 : decode cX4_rank 48 = .ok (.invokevirtual 413, 3) := dk_182 1 157 (dk_at dksX4_rank_2 0 rfl rfl)
theorem dX4_rank_51 : decode cX4_rank 51 = .ok (.aload_n 0, 1) := dk_42 (dk_at dksX4_rank_2 3 rfl rfl)
theorem dX4_rank_52 : decode cX4_rank 52 = .ok (.invokevirtual 416, 3) := dk_182 1 160 (dk_at dksX4_rank_2 4 rfl rfl)
theorem dX4_rank_55 : decode cX4_rank 55 = .ok (.iand, 1) := dk_126 (dk_at dksX4_rank_2 7 rfl rfl)
theorem dX4_rank_56 : decode cX4_rank 56 = .ok (.invokevirtual 348, 3) := dk_182 1 92 (dk_at dksX4_rank_2 8 rfl rfl)
theorem dX4_rank_59 : decode cX4_rank 59 = .ok (.if_icmp .ge 23, 3) := dk_162 0 23 (dk_at dksX4_rank_2 11 rfl rfl)
theorem dX4_rank_62 : decode cX4_rank 62 = .ok (.aload_n 0, 1) := dk_42 (dk_at dksX4_rank_2 14 rfl rfl)
theorem dX4_rank_63 : decode cX4_rank 63 = .ok (.getfield 100, 3) := dk_180 0 100 (dk_at dksX4_rank_2 15 rfl rfl)
theorem dX4_rank_66 : decode cX4_rank 66 = .ok (.iload_n 2, 1) := dk_28 (dk_at dksX4_rank_2 18 rfl rfl)
theorem dX4_rank_67 : decode cX4_rank 67 = .ok (.aload_n 0, 1) := dk_42 (dk_at dksX4_rank_2 19 rfl rfl)
theorem dX4_rank_68 : decode cX4_rank 68 = .ok (.getfield 100, 3) := dk_180 0 100 (dk_at dksX4_rank_2 20 rfl rfl)
theorem dX4_rank_71 : decode cX4_rank 71 = .ok (.iload_n 2, 1) := dk_28 (dk_at dksX4_rank_2 23 rfl rfl)
theorem dX4_rank_72 : decode cX4_rank 72 = .ok (.iconst 1, 1) := dk_4 (dk_at dksX4_rank_3 0 rfl rfl)
theorem dX4_rank_73 : decode cX4_rank 73 = .ok (.isub, 1) := dk_100 (dk_at dksX4_rank_3 1 rfl rfl)
theorem dX4_rank_74 : decode cX4_rank 74 = .ok (.iaload, 1) := dk_46 (dk_at dksX4_rank_3 2 rfl rfl)
theorem dX4_rank_75 : decode cX4_rank 75 = .ok (.iastore, 1) := dk_79 (dk_at dksX4_rank_3 3 rfl rfl)
theorem dX4_rank_76 : decode cX4_rank 76 = .ok (.iinc 2 (-1), 3) := dk_132 2 255 (dk_at dksX4_rank_3 4 rfl rfl)
theorem dX4_rank_79 : decode cX4_rank 79 = .ok (.goto (-59), 3) := dk_167 255 197 (dk_at dksX4_rank_3 7 rfl rfl)
theorem dX4_rank_82 : decode cX4_rank 82 = .ok (.aload_n 0, 1) := dk_42 (dk_at dksX4_rank_3 10 rfl rfl)
theorem dX4_rank_83 : decode cX4_rank 83 = .ok (.getfield 100, 3) := dk_180 0 100 (dk_at dksX4_rank_3 11 rfl rfl)
theorem dX4_rank_86 : decode cX4_rank 86 = .ok (.iload_n 2, 1) := dk_28 (dk_at dksX4_rank_3 14 rfl rfl)
theorem dX4_rank_87 : decode cX4_rank 87 = .ok (.iload_n 1, 1) := dk_27 (dk_at dksX4_rank_3 15 rfl rfl)
theorem dX4_rank_88 : decode cX4_rank 88 = .ok (.iastore, 1) := dk_79 (dk_at dksX4_rank_3 16 rfl rfl)
theorem dX4_rank_89 : decode cX4_rank 89 = .ok (.aload_n 0, 1) := dk_42 (dk_at dksX4_rank_3 17 rfl rfl)
theorem dX4_rank_90 : decode cX4_rank 90 = .ok (.dup, 1) := dk_89 (dk_at dksX4_rank_3 18 rfl rfl)
theorem dX4_rank_91 : decode cX4_rank 91 = .ok (.getfield 383, 3) := dk_180 1 127 (dk_at dksX4_rank_3 19 rfl rfl)
theorem dX4_rank_94 : decode cX4_rank 94 = .ok (.iconst 1, 1) := dk_4 (dk_at dksX4_rank_3 22 rfl rfl)
theorem dX4_rank_95 : decode cX4_rank 95 = .ok (.iadd, 1) := dk_96 (dk_at dksX4_rank_3 23 rfl rfl)
theorem dX4_rank_96 : decode cX4_rank 96 = .ok (.putfield 383, 3) := dk_181 1 127 (dk_at dksX4_rank_4 0 rfl rfl)
theorem dX4_rank_99 : decode cX4_rank 99 = .ok (.iinc 1 1, 3) := dk_132 1 1 (dk_at dksX4_rank_4 3 rfl rfl)
theorem dX4_rank_102 : decode cX4_rank 102 = .ok (.goto (-95), 3) := dk_167 255 161 (dk_at dksX4_rank_4 6 rfl rfl)
theorem dX4_rank_105 : decode cX4_rank 105 = .ok (.aload_n 0, 1) := dk_42 (dk_at dksX4_rank_4 9 rfl rfl)
theorem dX4_rank_106 : decode cX4_rank 106 = .ok (.getfield 383, 3) := dk_180 1 127 (dk_at dksX4_rank_4 10 rfl rfl)
theorem dX4_rank_109 : decode cX4_rank 109 = .ok (.ireturn, 1) := dk_172 (dk_at dksX4_rank_4 13 rfl rfl)
abbrev cX4_rumour : ByteArray := prog_23_method_120_code
def yX4_rumour : MethodName := ⟨RX4, "rumour", "(II)I"⟩
def dkwX4_rumour_4 : List UInt8 := [132, 6, 1, 167, 255, 209, 21, 5, 62, 132, 4, 1, 167, 255, 176, 2, 172]
abbrev dktX4_rumour_4 : List UInt8 := dkwX4_rumour_4 ++ []
def dkwX4_rumour_3 : List UInt8 := [182, 1, 133, 184, 1, 3, 153, 0, 16, 21, 5, 4, 42, 21, 6, 182, 1, 136, 120, 128, 54, 5]
abbrev dktX4_rumour_3 : List UInt8 := dkwX4_rumour_3 ++ dktX4_rumour_4
def dkwX4_rumour_2 : List UInt8 := [54, 6, 21, 6, 42, 182, 1, 112, 162, 0, 44, 42, 21, 6, 182, 1, 130, 154, 0, 29, 29, 42, 21, 6]
abbrev dktX4_rumour_2 : List UInt8 := dkwX4_rumour_2 ++ dktX4_rumour_3
def dkwX4_rumour_1 : List UInt8 := [54, 4, 21, 4, 16, 6, 162, 0, 79, 29, 28, 184, 1, 3, 153, 0, 6, 21, 4, 172, 29, 54, 5, 3]
abbrev dktX4_rumour_1 : List UInt8 := dkwX4_rumour_1 ++ dktX4_rumour_2
def dkwX4_rumour_0 : List UInt8 := [42, 27, 182, 1, 154, 153, 0, 11, 42, 28, 182, 1, 154, 154, 0, 5, 2, 172, 4, 27, 120, 62, 3]
abbrev dktX4_rumour_0 : List UInt8 := dkwX4_rumour_0 ++ dktX4_rumour_1
theorem dksX4_rumour_0 : cX4_rumour.data.toList.drop 0 = dktX4_rumour_0 := by decide +kernel
theorem dksX4_rumour_1 : cX4_rumour.data.toList.drop 23 = dktX4_rumour_1 := dk_seg dksX4_rumour_0 23 rfl rfl
theorem dksX4_rumour_2 : cX4_rumour.data.toList.drop 47 = dktX4_rumour_2 := dk_seg dksX4_rumour_1 24 rfl rfl
theorem dksX4_rumour_3 : cX4_rumour.data.toList.drop 71 = dktX4_rumour_3 := dk_seg dksX4_rumour_2 24 rfl rfl
theorem dksX4_rumour_4 : cX4_rumour.data.toList.drop 93 = dktX4_rumour_4 := dk_seg dksX4_rumour_3 22 rfl rfl
theorem dX4_rumour_0 : decode cX4_rumour 0 = .ok (.aload_n 0, 1) := dk_42 (dk_at dksX4_rumour_0 0 rfl rfl)
theorem dX4_rumour_1 : decode cX4_rumour 1 = .ok (.iload_n 1, 1) := dk_27 (dk_at dksX4_rumour_0 1 rfl rfl)
theorem dX4_rumour_2 : decode cX4_rumour 2 = .ok (.invokevirtual 410, 3) := dk_182 1 154 (dk_at dksX4_rumour_0 2 rfl rfl)
theorem dX4_rumour_5 : decode cX4_rumour 5 = .ok (.ifCond .eq 11, 3) := dk_153 0 11 (dk_at dksX4_rumour_0 5 rfl rfl)
theorem dX4_rumour_8 : decode cX4_rumour 8 = .ok (.aload_n 0, 1) := dk_42 (dk_at dksX4_rumour_0 8 rfl rfl)
theorem dX4_rumour_9 : decode cX4_rumour 9 = .ok (.iload_n 2, 1) := dk_28 (dk_at dksX4_rumour_0 9 rfl rfl)
theorem dX4_rumour_10 : decode cX4_rumour 10 = .ok (.invokevirtual 410, 3) := dk_182 1 154 (dk_at dksX4_rumour_0 10 rfl rfl)
theorem dX4_rumour_13 : decode cX4_rumour 13 = .ok (.ifCond .ne 5, 3) := dk_154 0 5 (dk_at dksX4_rumour_0 13 rfl rfl)
theorem dX4_rumour_16 : decode cX4_rumour 16 = .ok (.iconst (-1), 1) := dk_2 (dk_at dksX4_rumour_0 16 rfl rfl)
theorem dX4_rumour_17 : decode cX4_rumour 17 = .ok (.ireturn, 1) := dk_172 (dk_at dksX4_rumour_0 17 rfl rfl)
theorem dX4_rumour_18 : decode cX4_rumour 18 = .ok (.iconst 1, 1) := dk_4 (dk_at dksX4_rumour_0 18 rfl rfl)
theorem dX4_rumour_19 : decode cX4_rumour 19 = .ok (.iload_n 1, 1) := dk_27 (dk_at dksX4_rumour_0 19 rfl rfl)
theorem dX4_rumour_20 : decode cX4_rumour 20 = .ok (.ishl, 1) := dk_120 (dk_at dksX4_rumour_0 20 rfl rfl)
theorem dX4_rumour_21 : decode cX4_rumour 21 = .ok (.istore_n 3, 1) := dk_62 (dk_at dksX4_rumour_0 21 rfl rfl)
theorem dX4_rumour_22 : decode cX4_rumour 22 = .ok (.iconst 0, 1) := dk_3 (dk_at dksX4_rumour_0 22 rfl rfl)
theorem dX4_rumour_23 : decode cX4_rumour 23 = .ok (.istore 4, 2) := dk_54 4 (dk_at dksX4_rumour_1 0 rfl rfl)
theorem dX4_rumour_25 : decode cX4_rumour 25 = .ok (.iload 4, 2) := dk_21 4 (dk_at dksX4_rumour_1 2 rfl rfl)
theorem dX4_rumour_27 : decode cX4_rumour 27 = .ok (.bipush 6, 2) := dk_16 6 (dk_at dksX4_rumour_1 4 rfl rfl)
theorem dX4_rumour_29 : decode cX4_rumour 29 = .ok (.if_icmp .ge 79, 3) := dk_162 0 79 (dk_at dksX4_rumour_1 6 rfl rfl)
theorem dX4_rumour_32 : decode cX4_rumour 32 = .ok (.iload_n 3, 1) := dk_29 (dk_at dksX4_rumour_1 9 rfl rfl)
theorem dX4_rumour_33 : decode cX4_rumour 33 = .ok (.iload_n 2, 1) := dk_28 (dk_at dksX4_rumour_1 10 rfl rfl)
theorem dX4_rumour_34 : decode cX4_rumour 34 = .ok (.invokestatic 259, 3) := dk_184 1 3 (dk_at dksX4_rumour_1 11 rfl rfl)
theorem dX4_rumour_37 : decode cX4_rumour 37 = .ok (.ifCond .eq 6, 3) := dk_153 0 6 (dk_at dksX4_rumour_1 14 rfl rfl)
theorem dX4_rumour_40 : decode cX4_rumour 40 = .ok (.iload 4, 2) := dk_21 4 (dk_at dksX4_rumour_1 17 rfl rfl)
theorem dX4_rumour_42 : decode cX4_rumour 42 = .ok (.ireturn, 1) := dk_172 (dk_at dksX4_rumour_1 19 rfl rfl)
theorem dX4_rumour_43 : decode cX4_rumour 43 = .ok (.iload_n 3, 1) := dk_29 (dk_at dksX4_rumour_1 20 rfl rfl)
theorem dX4_rumour_44 : decode cX4_rumour 44 = .ok (.istore 5, 2) := dk_54 5 (dk_at dksX4_rumour_1 21 rfl rfl)
theorem dX4_rumour_46 : decode cX4_rumour 46 = .ok (.iconst 0, 1) := dk_3 (dk_at dksX4_rumour_1 23 rfl rfl)
theorem dX4_rumour_47 : decode cX4_rumour 47 = .ok (.istore 6, 2) := dk_54 6 (dk_at dksX4_rumour_2 0 rfl rfl)
theorem dX4_rumour_49 : decode cX4_rumour 49 = .ok (.iload 6, 2) := dk_21 6 (dk_at dksX4_rumour_2 2 rfl rfl)
theorem dX4_rumour_51 : decode cX4_rumour 51 = .ok (.aload_n 0, 1) := dk_42 (dk_at dksX4_rumour_2 4 rfl rfl)
theorem dX4_rumour_52 : decode cX4_rumour 52 = .ok (.invokevirtual 368, 3) := dk_182 1 112 (dk_at dksX4_rumour_2 5 rfl rfl)
theorem dX4_rumour_55 : decode cX4_rumour 55 = .ok (.if_icmp .ge 44, 3) := dk_162 0 44 (dk_at dksX4_rumour_2 8 rfl rfl)
theorem dX4_rumour_58 : decode cX4_rumour 58 = .ok (.aload_n 0, 1) := dk_42 (dk_at dksX4_rumour_2 11 rfl rfl)
theorem dX4_rumour_59 : decode cX4_rumour 59 = .ok (.iload 6, 2) := dk_21 6 (dk_at dksX4_rumour_2 12 rfl rfl)
theorem dX4_rumour_61 : decode cX4_rumour 61 = .ok (.invokevirtual 386, 3) := dk_182 1 130 (dk_at dksX4_rumour_2 14 rfl rfl)
theorem dX4_rumour_64 : decode cX4_rumour 64 = .ok (.ifCond .ne 29, 3) := dk_154 0 29 (dk_at dksX4_rumour_2 17 rfl rfl)
theorem dX4_rumour_67 : decode cX4_rumour 67 = .ok (.iload_n 3, 1) := dk_29 (dk_at dksX4_rumour_2 20 rfl rfl)
theorem dX4_rumour_68 : decode cX4_rumour 68 = .ok (.aload_n 0, 1) := dk_42 (dk_at dksX4_rumour_2 21 rfl rfl)
theorem dX4_rumour_69 : decode cX4_rumour 69 = .ok (.iload 6, 2) := dk_21 6 (dk_at dksX4_rumour_2 22 rfl rfl)
theorem dX4_rumour_71 : decode cX4_rumour 71 = .ok (.invokevirtual 389, 3) := dk_182 1 133 (dk_at dksX4_rumour_3 0 rfl rfl)
theorem dX4_rumour_74 : decode cX4_rumour 74 = .ok (.invokestatic 259, 3) := dk_184 1 3 (dk_at dksX4_rumour_3 3 rfl rfl)
theorem dX4_rumour_77 : decode cX4_rumour 77 = .ok (.ifCond .eq 16, 3) := dk_153 0 16 (dk_at dksX4_rumour_3 6 rfl rfl)
theorem dX4_rumour_80 : decode cX4_rumour 80 = .ok (.iload 5, 2) := dk_21 5 (dk_at dksX4_rumour_3 9 rfl rfl)
theorem dX4_rumour_82 : decode cX4_rumour 82 = .ok (.iconst 1, 1) := dk_4 (dk_at dksX4_rumour_3 11 rfl rfl)
theorem dX4_rumour_83 : decode cX4_rumour 83 = .ok (.aload_n 0, 1) := dk_42 (dk_at dksX4_rumour_3 12 rfl rfl)
theorem dX4_rumour_84 : decode cX4_rumour 84 = .ok (.iload 6, 2) := dk_21 6 (dk_at dksX4_rumour_3 13 rfl rfl)
theorem dX4_rumour_86 : decode cX4_rumour 86 = .ok (.invokevirtual 392, 3) := dk_182 1 136 (dk_at dksX4_rumour_3 15 rfl rfl)
theorem dX4_rumour_89 : decode cX4_rumour 89 = .ok (.ishl, 1) := dk_120 (dk_at dksX4_rumour_3 18 rfl rfl)
theorem dX4_rumour_90 : decode cX4_rumour 90 = .ok (.ior, 1) := dk_128 (dk_at dksX4_rumour_3 19 rfl rfl)
theorem dX4_rumour_91 : decode cX4_rumour 91 = .ok (.istore 5, 2) := dk_54 5 (dk_at dksX4_rumour_3 20 rfl rfl)
theorem dX4_rumour_93 : decode cX4_rumour 93 = .ok (.iinc 6 1, 3) := dk_132 6 1 (dk_at dksX4_rumour_4 0 rfl rfl)
theorem dX4_rumour_96 : decode cX4_rumour 96 = .ok (.goto (-47), 3) := dk_167 255 209 (dk_at dksX4_rumour_4 3 rfl rfl)
theorem dX4_rumour_99 : decode cX4_rumour 99 = .ok (.iload 5, 2) := dk_21 5 (dk_at dksX4_rumour_4 6 rfl rfl)
theorem dX4_rumour_101 : decode cX4_rumour 101 = .ok (.istore_n 3, 1) := dk_62 (dk_at dksX4_rumour_4 8 rfl rfl)
theorem dX4_rumour_102 : decode cX4_rumour 102 = .ok (.iinc 4 1, 3) := dk_132 4 1 (dk_at dksX4_rumour_4 9 rfl rfl)
theorem dX4_rumour_105 : decode cX4_rumour 105 = .ok (.goto (-80), 3) := dk_167 255 176 (dk_at dksX4_rumour_4 12 rfl rfl)
theorem dX4_rumour_108 : decode cX4_rumour 108 = .ok (.iconst (-1), 1) := dk_2 (dk_at dksX4_rumour_4 15 rfl rfl)
theorem dX4_rumour_109 : decode cX4_rumour 109 = .ok (.ireturn, 1) := dk_172 (dk_at dksX4_rumour_4 16 rfl rfl)
abbrev cX4_odds : ByteArray := prog_23_method_121_code
def yX4_odds : MethodName := ⟨RX4, "odds", "(II)I"⟩
def dkwX4_odds_2 : List UInt8 := [154, 0, 7, 29, 167, 0, 5, 21, 4, 21, 4, 29, 184, 1, 223, 108, 172]
abbrev dktX4_odds_2 : List UInt8 := dkwX4_odds_2 ++ []
def dkwX4_odds_1 : List UInt8 := [180, 0, 33, 42, 180, 0, 253, 46, 100, 27, 184, 1, 199, 62, 16, 100, 27, 184, 1, 199, 54, 4, 28]
abbrev dktX4_odds_1 : List UInt8 := dkwX4_odds_1 ++ dktX4_odds_2
def dkwX4_odds_0 : List UInt8 := [27, 3, 7, 184, 1, 105, 153, 0, 12, 28, 3, 4, 184, 1, 105, 154, 0, 5, 2, 172, 16, 100, 42]
abbrev dktX4_odds_0 : List UInt8 := dkwX4_odds_0 ++ dktX4_odds_1
theorem dksX4_odds_0 : cX4_odds.data.toList.drop 0 = dktX4_odds_0 := by decide +kernel
theorem dksX4_odds_1 : cX4_odds.data.toList.drop 23 = dktX4_odds_1 := dk_seg dksX4_odds_0 23 rfl rfl
theorem dksX4_odds_2 : cX4_odds.data.toList.drop 46 = dktX4_odds_2 := dk_seg dksX4_odds_1 23 rfl rfl
theorem dX4_odds_0 : decode cX4_odds 0 = .ok (.iload_n 1, 1) := dk_27 (dk_at dksX4_odds_0 0 rfl rfl)
theorem dX4_odds_1 : decode cX4_odds 1 = .ok (.iconst 0, 1) := dk_3 (dk_at dksX4_odds_0 1 rfl rfl)
theorem dX4_odds_2 : decode cX4_odds 2 = .ok (.iconst 4, 1) := dk_7 (dk_at dksX4_odds_0 2 rfl rfl)
theorem dX4_odds_3 : decode cX4_odds 3 = .ok (.invokestatic 361, 3) := dk_184 1 105 (dk_at dksX4_odds_0 3 rfl rfl)
theorem dX4_odds_6 : decode cX4_odds 6 = .ok (.ifCond .eq 12, 3) := dk_153 0 12 (dk_at dksX4_odds_0 6 rfl rfl)
theorem dX4_odds_9 : decode cX4_odds 9 = .ok (.iload_n 2, 1) := dk_28 (dk_at dksX4_odds_0 9 rfl rfl)
theorem dX4_odds_10 : decode cX4_odds 10 = .ok (.iconst 0, 1) := dk_3 (dk_at dksX4_odds_0 10 rfl rfl)
theorem dX4_odds_11 : decode cX4_odds 11 = .ok (.iconst 1, 1) := dk_4 (dk_at dksX4_odds_0 11 rfl rfl)
theorem dX4_odds_12 : decode cX4_odds 12 = .ok (.invokestatic 361, 3) := dk_184 1 105 (dk_at dksX4_odds_0 12 rfl rfl)
theorem dX4_odds_15 : decode cX4_odds 15 = .ok (.ifCond .ne 5, 3) := dk_154 0 5 (dk_at dksX4_odds_0 15 rfl rfl)
theorem dX4_odds_18 : decode cX4_odds 18 = .ok (.iconst (-1), 1) := dk_2 (dk_at dksX4_odds_0 18 rfl rfl)
theorem dX4_odds_19 : decode cX4_odds 19 = .ok (.ireturn, 1) := dk_172 (dk_at dksX4_odds_0 19 rfl rfl)
theorem dX4_odds_20 : decode cX4_odds 20 = .ok (.bipush 100, 2) := dk_16 100 (dk_at dksX4_odds_0 20 rfl rfl)
theorem dX4_odds_22 : decode cX4_odds 22 = .ok (.aload_n 0, 1) := dk_42 (dk_at dksX4_odds_0 22 rfl rfl)
theorem dX4_odds_23 : decode cX4_odds 23 = .ok (.getfield 33, 3) := dk_180 0 33 (dk_at dksX4_odds_1 0 rfl rfl)
theorem dX4_odds_26 : decode cX4_odds 26 = .ok (.aload_n 0, 1) := dk_42 (dk_at dksX4_odds_1 3 rfl rfl)
theorem dX4_odds_27 : decode cX4_odds 27 = .ok (.getfield 253, 3) := dk_180 0 253 (dk_at dksX4_odds_1 4 rfl rfl)
theorem dX4_odds_30 : decode cX4_odds 30 = .ok (.iaload, 1) := dk_46 (dk_at dksX4_odds_1 7 rfl rfl)
theorem dX4_odds_31 : decode cX4_odds 31 = .ok (.isub, 1) := dk_100 (dk_at dksX4_odds_1 8 rfl rfl)
theorem dX4_odds_32 : decode cX4_odds 32 = .ok (.iload_n 1, 1) := dk_27 (dk_at dksX4_odds_1 9 rfl rfl)
theorem dX4_odds_33 : decode cX4_odds 33 = .ok (.invokestatic 455, 3) := dk_184 1 199 (dk_at dksX4_odds_1 10 rfl rfl)
theorem dX4_odds_36 : decode cX4_odds 36 = .ok (.istore_n 3, 1) := dk_62 (dk_at dksX4_odds_1 13 rfl rfl)
theorem dX4_odds_37 : decode cX4_odds 37 = .ok (.bipush 100, 2) := dk_16 100 (dk_at dksX4_odds_1 14 rfl rfl)
theorem dX4_odds_39 : decode cX4_odds 39 = .ok (.iload_n 1, 1) := dk_27 (dk_at dksX4_odds_1 16 rfl rfl)
theorem dX4_odds_40 : decode cX4_odds 40 = .ok (.invokestatic 455, 3) := dk_184 1 199 (dk_at dksX4_odds_1 17 rfl rfl)
theorem dX4_odds_43 : decode cX4_odds 43 = .ok (.istore 4, 2) := dk_54 4 (dk_at dksX4_odds_1 20 rfl rfl)
theorem dX4_odds_45 : decode cX4_odds 45 = .ok (.iload_n 2, 1) := dk_28 (dk_at dksX4_odds_1 22 rfl rfl)
theorem dX4_odds_46 : decode cX4_odds 46 = .ok (.ifCond .ne 7, 3) := dk_154 0 7 (dk_at dksX4_odds_2 0 rfl rfl)
theorem dX4_odds_49 : decode cX4_odds 49 = .ok (.iload_n 3, 1) := dk_29 (dk_at dksX4_odds_2 3 rfl rfl)
theorem dX4_odds_50 : decode cX4_odds 50 = .ok (.goto 5, 3) := dk_167 0 5 (dk_at dksX4_odds_2 4 rfl rfl)
theorem dX4_odds_53 : decode cX4_odds 53 = .ok (.iload 4, 2) := dk_21 4 (dk_at dksX4_odds_2 7 rfl rfl)
theorem dX4_odds_55 : decode cX4_odds 55 = .ok (.iload 4, 2) := dk_21 4 (dk_at dksX4_odds_2 9 rfl rfl)
theorem dX4_odds_57 : decode cX4_odds 57 = .ok (.iload_n 3, 1) := dk_29 (dk_at dksX4_odds_2 11 rfl rfl)
theorem dX4_odds_58 : decode cX4_odds 58 = .ok (.invokestatic 479, 3) := dk_184 1 223 (dk_at dksX4_odds_2 12 rfl rfl)
theorem dX4_odds_61 : decode cX4_odds 61 = .ok (.idiv, 1) := dk_108 (dk_at dksX4_odds_2 15 rfl rfl)
theorem dX4_odds_62 : decode cX4_odds 62 = .ok (.ireturn, 1) := dk_172 (dk_at dksX4_odds_2 16 rfl rfl)
abbrev cX4_divisor : ByteArray := prog_23_method_42_code
def yX4_divisor : MethodName := ⟨RX4, "divisor", "(II)I"⟩
def dkwX4_divisor_0 : List UInt8 := [26, 61, 27, 62, 29, 158, 0, 16, 28, 29, 112, 54, 4, 29, 61, 21, 4, 62, 167, 255, 242, 28, 172]
abbrev dktX4_divisor_0 : List UInt8 := dkwX4_divisor_0 ++ []
theorem dksX4_divisor_0 : cX4_divisor.data.toList.drop 0 = dktX4_divisor_0 := by decide +kernel
theorem dX4_divisor_0 : decode cX4_divisor 0 = .ok (.iload_n 0, 1) := dk_26 (dk_at dksX4_divisor_0 0 rfl rfl)
theorem dX4_divisor_1 : decode cX4_divisor 1 = .ok (.istore_n 2, 1) := dk_61 (dk_at dksX4_divisor_0 1 rfl rfl)
theorem dX4_divisor_2 : decode cX4_divisor 2 = .ok (.iload_n 1, 1) := dk_27 (dk_at dksX4_divisor_0 2 rfl rfl)
theorem dX4_divisor_3 : decode cX4_divisor 3 = .ok (.istore_n 3, 1) := dk_62 (dk_at dksX4_divisor_0 3 rfl rfl)
theorem dX4_divisor_4 : decode cX4_divisor 4 = .ok (.iload_n 3, 1) := dk_29 (dk_at dksX4_divisor_0 4 rfl rfl)
theorem dX4_divisor_5 : decode cX4_divisor 5 = .ok (.ifCond .le 16, 3) := dk_158 0 16 (dk_at dksX4_divisor_0 5 rfl rfl)
theorem dX4_divisor_8 : decode cX4_divisor 8 = .ok (.iload_n 2, 1) := dk_28 (dk_at dksX4_divisor_0 8 rfl rfl)
theorem dX4_divisor_9 : decode cX4_divisor 9 = .ok (.iload_n 3, 1) := dk_29 (dk_at dksX4_divisor_0 9 rfl rfl)
theorem dX4_divisor_10 : decode cX4_divisor 10 = .ok (.irem, 1) := dk_112 (dk_at dksX4_divisor_0 10 rfl rfl)
theorem dX4_divisor_11 : decode cX4_divisor 11 = .ok (.istore 4, 2) := dk_54 4 (dk_at dksX4_divisor_0 11 rfl rfl)
theorem dX4_divisor_13 : decode cX4_divisor 13 = .ok (.iload_n 3, 1) := dk_29 (dk_at dksX4_divisor_0 13 rfl rfl)
theorem dX4_divisor_14 : decode cX4_divisor 14 = .ok (.istore_n 2, 1) := dk_61 (dk_at dksX4_divisor_0 14 rfl rfl)
theorem dX4_divisor_15 : decode cX4_divisor 15 = .ok (.iload 4, 2) := dk_21 4 (dk_at dksX4_divisor_0 15 rfl rfl)
theorem dX4_divisor_17 : decode cX4_divisor 17 = .ok (.istore_n 3, 1) := dk_62 (dk_at dksX4_divisor_0 17 rfl rfl)
theorem dX4_divisor_18 : decode cX4_divisor 18 = .ok (.goto (-14), 3) := dk_167 255 242 (dk_at dksX4_divisor_0 18 rfl rfl)
theorem dX4_divisor_21 : decode cX4_divisor 21 = .ok (.iload_n 2, 1) := dk_28 (dk_at dksX4_divisor_0 21 rfl rfl)
theorem dX4_divisor_22 : decode cX4_divisor 22 = .ok (.ireturn, 1) := dk_172 (dk_at dksX4_divisor_0 22 rfl rfl)
abbrev cX4_heard : ByteArray := prog_23_method_122_code
def yX4_heard : MethodName := ⟨RX4, "heard", "(IIZ)I"⟩
def dkwX4_heard_4 : List UInt8 := [180, 1, 124, 2, 79, 42, 89, 180, 1, 124, 4, 96, 181, 1, 124, 42, 180, 1, 124, 4, 100, 172]
abbrev dktX4_heard_4 : List UInt8 := dkwX4_heard_4 ++ []
def dkwX4_heard_3 : List UInt8 := [167, 0, 4, 3, 79, 42, 180, 0, 118, 42, 180, 1, 124, 42, 180, 1, 226, 79, 42, 180, 0, 121, 42]
abbrev dktX4_heard_3 : List UInt8 := dkwX4_heard_3 ++ dktX4_heard_4
def dkwX4_heard_2 : List UInt8 := [180, 0, 112, 42, 180, 1, 124, 28, 79, 42, 180, 0, 115, 42, 180, 1, 124, 29, 153, 0, 7, 4]
abbrev dktX4_heard_2 : List UInt8 := dkwX4_heard_2 ++ dktX4_heard_3
def dkwX4_heard_1 : List UInt8 := [159, 0, 10, 42, 182, 1, 112, 154, 0, 5, 2, 172, 42, 180, 0, 109, 42, 180, 1, 124, 27, 79, 42]
abbrev dktX4_heard_1 : List UInt8 := dkwX4_heard_1 ++ dktX4_heard_2
def dkwX4_heard_0 : List UInt8 := [42, 27, 182, 1, 169, 153, 0, 29, 28, 3, 16, 10, 184, 1, 105, 153, 0, 19, 42, 180, 1, 124, 16, 30]
abbrev dktX4_heard_0 : List UInt8 := dkwX4_heard_0 ++ dktX4_heard_1
theorem dksX4_heard_0 : cX4_heard.data.toList.drop 0 = dktX4_heard_0 := by decide +kernel
theorem dksX4_heard_1 : cX4_heard.data.toList.drop 24 = dktX4_heard_1 := dk_seg dksX4_heard_0 24 rfl rfl
theorem dksX4_heard_2 : cX4_heard.data.toList.drop 47 = dktX4_heard_2 := dk_seg dksX4_heard_1 23 rfl rfl
theorem dksX4_heard_3 : cX4_heard.data.toList.drop 69 = dktX4_heard_3 := dk_seg dksX4_heard_2 22 rfl rfl
theorem dksX4_heard_4 : cX4_heard.data.toList.drop 92 = dktX4_heard_4 := dk_seg dksX4_heard_3 23 rfl rfl
theorem dX4_heard_0 : decode cX4_heard 0 = .ok (.aload_n 0, 1) := dk_42 (dk_at dksX4_heard_0 0 rfl rfl)
theorem dX4_heard_1 : decode cX4_heard 1 = .ok (.iload_n 1, 1) := dk_27 (dk_at dksX4_heard_0 1 rfl rfl)
theorem dX4_heard_2 : decode cX4_heard 2 = .ok (.invokevirtual 425, 3) := dk_182 1 169 (dk_at dksX4_heard_0 2 rfl rfl)
theorem dX4_heard_5 : decode cX4_heard 5 = .ok (.ifCond .eq 29, 3) := dk_153 0 29 (dk_at dksX4_heard_0 5 rfl rfl)
theorem dX4_heard_8 : decode cX4_heard 8 = .ok (.iload_n 2, 1) := dk_28 (dk_at dksX4_heard_0 8 rfl rfl)
theorem dX4_heard_9 : decode cX4_heard 9 = .ok (.iconst 0, 1) := dk_3 (dk_at dksX4_heard_0 9 rfl rfl)
theorem dX4_heard_10 : decode cX4_heard 10 = .ok (.bipush 10, 2) := dk_16 10 (dk_at dksX4_heard_0 10 rfl rfl)
theorem dX4_heard_12 : decode cX4_heard 12 = .ok (.invokestatic 361, 3) := dk_184 1 105 (dk_at dksX4_heard_0 12 rfl rfl)
theorem dX4_heard_15 : decode cX4_heard 15 = .ok (.ifCond .eq 19, 3) := dk_153 0 19 (dk_at dksX4_heard_0 15 rfl rfl)
theorem dX4_heard_18 : decode cX4_heard 18 = .ok (.aload_n 0, 1) := dk_42 (dk_at dksX4_heard_0 18 rfl rfl)
theorem dX4_heard_19 : decode cX4_heard 19 = .ok (.getfield 380, 3) := dk_180 1 124 (dk_at dksX4_heard_0 19 rfl rfl)
theorem dX4_heard_22 : decode cX4_heard 22 = .ok (.bipush 30, 2) := dk_16 30 (dk_at dksX4_heard_0 22 rfl rfl)
theorem dX4_heard_24 : decode cX4_heard 24 = .ok (.if_icmp .eq 10, 3) := dk_159 0 10 (dk_at dksX4_heard_1 0 rfl rfl)
theorem dX4_heard_27 : decode cX4_heard 27 = .ok (.aload_n 0, 1) := dk_42 (dk_at dksX4_heard_1 3 rfl rfl)
theorem dX4_heard_28 : decode cX4_heard 28 = .ok (.invokevirtual 368, 3) := dk_182 1 112 (dk_at dksX4_heard_1 4 rfl rfl)
theorem dX4_heard_31 : decode cX4_heard 31 = .ok (.ifCond .ne 5, 3) := dk_154 0 5 (dk_at dksX4_heard_1 7 rfl rfl)
theorem dX4_heard_34 : decode cX4_heard 34 = .ok (.iconst (-1), 1) := dk_2 (dk_at dksX4_heard_1 10 rfl rfl)
theorem dX4_heard_35 : decode cX4_heard 35 = .ok (.ireturn, 1) := dk_172 (dk_at dksX4_heard_1 11 rfl rfl)
theorem dX4_heard_36 : decode cX4_heard 36 = .ok (.aload_n 0, 1) := dk_42 (dk_at dksX4_heard_1 12 rfl rfl)
theorem dX4_heard_37 : decode cX4_heard 37 = .ok (.getfield 109, 3) := dk_180 0 109 (dk_at dksX4_heard_1 13 rfl rfl)
theorem dX4_heard_40 : decode cX4_heard 40 = .ok (.aload_n 0, 1) := dk_42 (dk_at dksX4_heard_1 16 rfl rfl)
theorem dX4_heard_41 : decode cX4_heard 41 = .ok (.getfield 380, 3) := dk_180 1 124 (dk_at dksX4_heard_1 17 rfl rfl)
theorem dX4_heard_44 : decode cX4_heard 44 = .ok (.iload_n 1, 1) := dk_27 (dk_at dksX4_heard_1 20 rfl rfl)
theorem dX4_heard_45 : decode cX4_heard 45 = .ok (.iastore, 1) := dk_79 (dk_at dksX4_heard_1 21 rfl rfl)
theorem dX4_heard_46 : decode cX4_heard 46 = .ok (.aload_n 0, 1) := dk_42 (dk_at dksX4_heard_1 22 rfl rfl)
theorem dX4_heard_47 : decode cX4_heard 47 = .ok (.getfield 112, 3) := dk_180 0 112 (dk_at dksX4_heard_2 0 rfl rfl)
theorem dX4_heard_50 : decode cX4_heard 50 = .ok (.aload_n 0, 1) := dk_42 (dk_at dksX4_heard_2 3 rfl rfl)
theorem dX4_heard_51 : decode cX4_heard 51 = .ok (.getfield 380, 3) := dk_180 1 124 (dk_at dksX4_heard_2 4 rfl rfl)
theorem dX4_heard_54 : decode cX4_heard 54 = .ok (.iload_n 2, 1) := dk_28 (dk_at dksX4_heard_2 7 rfl rfl)
theorem dX4_heard_55 : decode cX4_heard 55 = .ok (.iastore, 1) := dk_79 (dk_at dksX4_heard_2 8 rfl rfl)
theorem dX4_heard_56 : decode cX4_heard 56 = .ok (.aload_n 0, 1) := dk_42 (dk_at dksX4_heard_2 9 rfl rfl)
theorem dX4_heard_57 : decode cX4_heard 57 = .ok (.getfield 115, 3) := dk_180 0 115 (dk_at dksX4_heard_2 10 rfl rfl)
theorem dX4_heard_60 : decode cX4_heard 60 = .ok (.aload_n 0, 1) := dk_42 (dk_at dksX4_heard_2 13 rfl rfl)
theorem dX4_heard_61 : decode cX4_heard 61 = .ok (.getfield 380, 3) := dk_180 1 124 (dk_at dksX4_heard_2 14 rfl rfl)
theorem dX4_heard_64 : decode cX4_heard 64 = .ok (.iload_n 3, 1) := dk_29 (dk_at dksX4_heard_2 17 rfl rfl)
theorem dX4_heard_65 : decode cX4_heard 65 = .ok (.ifCond .eq 7, 3) := dk_153 0 7 (dk_at dksX4_heard_2 18 rfl rfl)
theorem dX4_heard_68 : decode cX4_heard 68 = .ok (.iconst 1, 1) := dk_4 (dk_at dksX4_heard_2 21 rfl rfl)
theorem dX4_heard_69 : decode cX4_heard 69 = .ok (.goto 4, 3) := dk_167 0 4 (dk_at dksX4_heard_3 0 rfl rfl)
theorem dX4_heard_72 : decode cX4_heard 72 = .ok (.iconst 0, 1) := dk_3 (dk_at dksX4_heard_3 3 rfl rfl)
theorem dX4_heard_73 : decode cX4_heard 73 = .ok (.iastore, 1) := dk_79 (dk_at dksX4_heard_3 4 rfl rfl)
theorem dX4_heard_74 : decode cX4_heard 74 = .ok (.aload_n 0, 1) := dk_42 (dk_at dksX4_heard_3 5 rfl rfl)
theorem dX4_heard_75 : decode cX4_heard 75 = .ok (.getfield 118, 3) := dk_180 0 118 (dk_at dksX4_heard_3 6 rfl rfl)
theorem dX4_heard_78 : decode cX4_heard 78 = .ok (.aload_n 0, 1) := dk_42 (dk_at dksX4_heard_3 9 rfl rfl)
theorem dX4_heard_79 : decode cX4_heard 79 = .ok (.getfield 380, 3) := dk_180 1 124 (dk_at dksX4_heard_3 10 rfl rfl)
theorem dX4_heard_82 : decode cX4_heard 82 = .ok (.aload_n 0, 1) := dk_42 (dk_at dksX4_heard_3 13 rfl rfl)
theorem dX4_heard_83 : decode cX4_heard 83 = .ok (.getfield 482, 3) := dk_180 1 226 (dk_at dksX4_heard_3 14 rfl rfl)
theorem dX4_heard_86 : decode cX4_heard 86 = .ok (.iastore, 1) := dk_79 (dk_at dksX4_heard_3 17 rfl rfl)
theorem dX4_heard_87 : decode cX4_heard 87 = .ok (.aload_n 0, 1) := dk_42 (dk_at dksX4_heard_3 18 rfl rfl)
theorem dX4_heard_88 : decode cX4_heard 88 = .ok (.getfield 121, 3) := dk_180 0 121 (dk_at dksX4_heard_3 19 rfl rfl)
theorem dX4_heard_91 : decode cX4_heard 91 = .ok (.aload_n 0, 1) := dk_42 (dk_at dksX4_heard_3 22 rfl rfl)
theorem dX4_heard_92 : decode cX4_heard 92 = .ok (.getfield 380, 3) := dk_180 1 124 (dk_at dksX4_heard_4 0 rfl rfl)
theorem dX4_heard_95 : decode cX4_heard 95 = .ok (.iconst (-1), 1) := dk_2 (dk_at dksX4_heard_4 3 rfl rfl)
theorem dX4_heard_96 : decode cX4_heard 96 = .ok (.iastore, 1) := dk_79 (dk_at dksX4_heard_4 4 rfl rfl)
theorem dX4_heard_97 : decode cX4_heard 97 = .ok (.aload_n 0, 1) := dk_42 (dk_at dksX4_heard_4 5 rfl rfl)
theorem dX4_heard_98 : decode cX4_heard 98 = .ok (.dup, 1) := dk_89 (dk_at dksX4_heard_4 6 rfl rfl)
theorem dX4_heard_99 : decode cX4_heard 99 = .ok (.getfield 380, 3) := dk_180 1 124 (dk_at dksX4_heard_4 7 rfl rfl)
theorem dX4_heard_102 : decode cX4_heard 102 = .ok (.iconst 1, 1) := dk_4 (dk_at dksX4_heard_4 10 rfl rfl)
theorem dX4_heard_103 : decode cX4_heard 103 = .ok (.iadd, 1) := dk_96 (dk_at dksX4_heard_4 11 rfl rfl)
theorem dX4_heard_104 : decode cX4_heard 104 = .ok (.putfield 380, 3) := dk_181 1 124 (dk_at dksX4_heard_4 12 rfl rfl)
theorem dX4_heard_107 : decode cX4_heard 107 = .ok (.aload_n 0, 1) := dk_42 (dk_at dksX4_heard_4 15 rfl rfl)
theorem dX4_heard_108 : decode cX4_heard 108 = .ok (.getfield 380, 3) := dk_180 1 124 (dk_at dksX4_heard_4 16 rfl rfl)
theorem dX4_heard_111 : decode cX4_heard 111 = .ok (.iconst 1, 1) := dk_4 (dk_at dksX4_heard_4 19 rfl rfl)
theorem dX4_heard_112 : decode cX4_heard 112 = .ok (.isub, 1) := dk_100 (dk_at dksX4_heard_4 20 rfl rfl)
theorem dX4_heard_113 : decode cX4_heard 113 = .ok (.ireturn, 1) := dk_172 (dk_at dksX4_heard_4 21 rfl rfl)
abbrev cX4_untell : ByteArray := prog_23_method_123_code
def yX4_untell : MethodName := ⟨RX4, "untell", "(I)Z"⟩
def dkwX4_untell_1 : List UInt8 := [172, 42, 180, 0, 121, 27, 42, 180, 1, 226, 79, 4, 172]
abbrev dktX4_untell_1 : List UInt8 := dkwX4_untell_1 ++ []
def dkwX4_untell_0 : List UInt8 := [27, 3, 42, 180, 1, 124, 4, 100, 184, 1, 105, 153, 0, 12, 42, 180, 0, 121, 27, 46, 155, 0, 5, 3]
abbrev dktX4_untell_0 : List UInt8 := dkwX4_untell_0 ++ dktX4_untell_1
theorem dksX4_untell_0 : cX4_untell.data.toList.drop 0 = dktX4_untell_0 := by decide +kernel
theorem dksX4_untell_1 : cX4_untell.data.toList.drop 24 = dktX4_untell_1 := dk_seg dksX4_untell_0 24 rfl rfl
theorem dX4_untell_0 : decode cX4_untell 0 = .ok (.iload_n 1, 1) := dk_27 (dk_at dksX4_untell_0 0 rfl rfl)
theorem dX4_untell_1 : decode cX4_untell 1 = .ok (.iconst 0, 1) := dk_3 (dk_at dksX4_untell_0 1 rfl rfl)
theorem dX4_untell_2 : decode cX4_untell 2 = .ok (.aload_n 0, 1) := dk_42 (dk_at dksX4_untell_0 2 rfl rfl)
theorem dX4_untell_3 : decode cX4_untell 3 = .ok (.getfield 380, 3) := dk_180 1 124 (dk_at dksX4_untell_0 3 rfl rfl)
theorem dX4_untell_6 : decode cX4_untell 6 = .ok (.iconst 1, 1) := dk_4 (dk_at dksX4_untell_0 6 rfl rfl)
theorem dX4_untell_7 : decode cX4_untell 7 = .ok (.isub, 1) := dk_100 (dk_at dksX4_untell_0 7 rfl rfl)
theorem dX4_untell_8 : decode cX4_untell 8 = .ok (.invokestatic 361, 3) := dk_184 1 105 (dk_at dksX4_untell_0 8 rfl rfl)
theorem dX4_untell_11 : decode cX4_untell 11 = .ok (.ifCond .eq 12, 3) := dk_153 0 12 (dk_at dksX4_untell_0 11 rfl rfl)
theorem dX4_untell_14 : decode cX4_untell 14 = .ok (.aload_n 0, 1) := dk_42 (dk_at dksX4_untell_0 14 rfl rfl)
theorem dX4_untell_15 : decode cX4_untell 15 = .ok (.getfield 121, 3) := dk_180 0 121 (dk_at dksX4_untell_0 15 rfl rfl)
theorem dX4_untell_18 : decode cX4_untell 18 = .ok (.iload_n 1, 1) := dk_27 (dk_at dksX4_untell_0 18 rfl rfl)
theorem dX4_untell_19 : decode cX4_untell 19 = .ok (.iaload, 1) := dk_46 (dk_at dksX4_untell_0 19 rfl rfl)
theorem dX4_untell_20 : decode cX4_untell 20 = .ok (.ifCond .lt 5, 3) := dk_155 0 5 (dk_at dksX4_untell_0 20 rfl rfl)
theorem dX4_untell_23 : decode cX4_untell 23 = .ok (.iconst 0, 1) := dk_3 (dk_at dksX4_untell_0 23 rfl rfl)
theorem dX4_untell_24 : decode cX4_untell 24 = .ok (.ireturn, 1) := dk_172 (dk_at dksX4_untell_1 0 rfl rfl)
theorem dX4_untell_25 : decode cX4_untell 25 = .ok (.aload_n 0, 1) := dk_42 (dk_at dksX4_untell_1 1 rfl rfl)
theorem dX4_untell_26 : decode cX4_untell 26 = .ok (.getfield 121, 3) := dk_180 0 121 (dk_at dksX4_untell_1 2 rfl rfl)
theorem dX4_untell_29 : decode cX4_untell 29 = .ok (.iload_n 1, 1) := dk_27 (dk_at dksX4_untell_1 5 rfl rfl)
theorem dX4_untell_30 : decode cX4_untell 30 = .ok (.aload_n 0, 1) := dk_42 (dk_at dksX4_untell_1 6 rfl rfl)
theorem dX4_untell_31 : decode cX4_untell 31 = .ok (.getfield 482, 3) := dk_180 1 226 (dk_at dksX4_untell_1 7 rfl rfl)
theorem dX4_untell_34 : decode cX4_untell 34 = .ok (.iastore, 1) := dk_79 (dk_at dksX4_untell_1 10 rfl rfl)
theorem dX4_untell_35 : decode cX4_untell 35 = .ok (.iconst 1, 1) := dk_4 (dk_at dksX4_untell_1 11 rfl rfl)
theorem dX4_untell_36 : decode cX4_untell 36 = .ok (.ireturn, 1) := dk_172 (dk_at dksX4_untell_1 12 rfl rfl)
abbrev cX4_later : ByteArray := prog_23_method_124_code
def yX4_later : MethodName := ⟨RX4, "later", "(I)I"⟩
def dkwX4_later_1 : List UInt8 := [172, 42, 89, 180, 1, 226, 27, 96, 181, 1, 226, 42, 180, 1, 226, 172]
abbrev dktX4_later_1 : List UInt8 := dkwX4_later_1 ++ []
def dkwX4_later_0 : List UInt8 := [27, 3, 17, 3, 232, 184, 1, 105, 153, 0, 15, 42, 180, 1, 226, 27, 96, 19, 1, 229, 164, 0, 5, 2]
abbrev dktX4_later_0 : List UInt8 := dkwX4_later_0 ++ dktX4_later_1
theorem dksX4_later_0 : cX4_later.data.toList.drop 0 = dktX4_later_0 := by decide +kernel
theorem dksX4_later_1 : cX4_later.data.toList.drop 24 = dktX4_later_1 := dk_seg dksX4_later_0 24 rfl rfl
theorem dX4_later_0 : decode cX4_later 0 = .ok (.iload_n 1, 1) := dk_27 (dk_at dksX4_later_0 0 rfl rfl)
theorem dX4_later_1 : decode cX4_later 1 = .ok (.iconst 0, 1) := dk_3 (dk_at dksX4_later_0 1 rfl rfl)
theorem dX4_later_2 : decode cX4_later 2 = .ok (.sipush 1000, 3) := dk_17 3 232 (dk_at dksX4_later_0 2 rfl rfl)
theorem dX4_later_5 : decode cX4_later 5 = .ok (.invokestatic 361, 3) := dk_184 1 105 (dk_at dksX4_later_0 5 rfl rfl)
theorem dX4_later_8 : decode cX4_later 8 = .ok (.ifCond .eq 15, 3) := dk_153 0 15 (dk_at dksX4_later_0 8 rfl rfl)
theorem dX4_later_11 : decode cX4_later 11 = .ok (.aload_n 0, 1) := dk_42 (dk_at dksX4_later_0 11 rfl rfl)
theorem dX4_later_12 : decode cX4_later 12 = .ok (.getfield 482, 3) := dk_180 1 226 (dk_at dksX4_later_0 12 rfl rfl)
theorem dX4_later_15 : decode cX4_later 15 = .ok (.iload_n 1, 1) := dk_27 (dk_at dksX4_later_0 15 rfl rfl)
theorem dX4_later_16 : decode cX4_later 16 = .ok (.iadd, 1) := dk_96 (dk_at dksX4_later_0 16 rfl rfl)
theorem dX4_later_17 : decode cX4_later 17 = .ok (.ldc_w 485, 3) := dk_19 1 229 (dk_at dksX4_later_0 17 rfl rfl)
theorem dX4_later_20 : decode cX4_later 20 = .ok (.if_icmp .le 5, 3) := dk_164 0 5 (dk_at dksX4_later_0 20 rfl rfl)
theorem dX4_later_23 : decode cX4_later 23 = .ok (.iconst (-1), 1) := dk_2 (dk_at dksX4_later_0 23 rfl rfl)
theorem dX4_later_24 : decode cX4_later 24 = .ok (.ireturn, 1) := dk_172 (dk_at dksX4_later_1 0 rfl rfl)
theorem dX4_later_25 : decode cX4_later 25 = .ok (.aload_n 0, 1) := dk_42 (dk_at dksX4_later_1 1 rfl rfl)
theorem dX4_later_26 : decode cX4_later 26 = .ok (.dup, 1) := dk_89 (dk_at dksX4_later_1 2 rfl rfl)
theorem dX4_later_27 : decode cX4_later 27 = .ok (.getfield 482, 3) := dk_180 1 226 (dk_at dksX4_later_1 3 rfl rfl)
theorem dX4_later_30 : decode cX4_later 30 = .ok (.iload_n 1, 1) := dk_27 (dk_at dksX4_later_1 6 rfl rfl)
theorem dX4_later_31 : decode cX4_later 31 = .ok (.iadd, 1) := dk_96 (dk_at dksX4_later_1 7 rfl rfl)
theorem dX4_later_32 : decode cX4_later 32 = .ok (.putfield 482, 3) := dk_181 1 226 (dk_at dksX4_later_1 8 rfl rfl)
theorem dX4_later_35 : decode cX4_later 35 = .ok (.aload_n 0, 1) := dk_42 (dk_at dksX4_later_1 11 rfl rfl)
theorem dX4_later_36 : decode cX4_later 36 = .ok (.getfield 482, 3) := dk_180 1 226 (dk_at dksX4_later_1 12 rfl rfl)
theorem dX4_later_39 : decode cX4_later 39 = .ok (.ireturn, 1) := dk_172 (dk_at dksX4_later_1 15 rfl rfl)
abbrev cX4_rows : ByteArray := prog_23_method_131_code
def yX4_rows : MethodName := ⟨RX4, "rows", "(I)I"⟩
def dkwX4_rows_0 : List UInt8 := [42, 27, 182, 1, 248, 42, 180, 1, 236, 172]
abbrev dktX4_rows_0 : List UInt8 := dkwX4_rows_0 ++ []
theorem dksX4_rows_0 : cX4_rows.data.toList.drop 0 = dktX4_rows_0 := by decide +kernel
theorem dX4_rows_0 : decode cX4_rows 0 = .ok (.aload_n 0, 1) := dk_42 (dk_at dksX4_rows_0 0 rfl rfl)
theorem dX4_rows_1 : decode cX4_rows 1 = .ok (.iload_n 1, 1) := dk_27 (dk_at dksX4_rows_0 1 rfl rfl)
theorem dX4_rows_2 : decode cX4_rows 2 = .ok (.invokevirtual 504, 3) := dk_182 1 248 (dk_at dksX4_rows_0 2 rfl rfl)
theorem dX4_rows_5 : decode cX4_rows 5 = .ok (.aload_n 0, 1) := dk_42 (dk_at dksX4_rows_0 5 rfl rfl)
theorem dX4_rows_6 : decode cX4_rows 6 = .ok (.getfield 492, 3) := dk_180 1 236 (dk_at dksX4_rows_0 6 rfl rfl)
theorem dX4_rows_9 : decode cX4_rows 9 = .ok (.ireturn, 1) := dk_172 (dk_at dksX4_rows_0 9 rfl rfl)
abbrev cX4_layRows : ByteArray := prog_23_method_130_code
def yX4_layRows : MethodName := ⟨RX4, "layRows", "(I)V"⟩
def dkwX4_layRows_4 : List UInt8 := [132, 3, 1, 167, 255, 225, 132, 2, 1, 167, 255, 187, 177]
abbrev dktX4_layRows_4 : List UInt8 := dkwX4_layRows_4 ++ []
def dkwX4_layRows_3 : List UInt8 := [162, 0, 29, 42, 180, 0, 124, 16, 6, 29, 104, 42, 28, 29, 182, 1, 233, 96, 92, 46, 4, 96, 79]
abbrev dktX4_layRows_3 : List UInt8 := dkwX4_layRows_3 ++ dktX4_layRows_4
def dkwX4_layRows_2 : List UInt8 := [154, 0, 6, 167, 0, 49, 42, 89, 180, 1, 236, 4, 96, 181, 1, 236, 3, 62, 29, 42, 182, 1, 230]
abbrev dktX4_layRows_2 : List UInt8 := dkwX4_layRows_2 ++ dktX4_layRows_3
def dkwX4_layRows_1 : List UInt8 := [167, 255, 240, 42, 182, 1, 239, 3, 61, 28, 42, 182, 1, 242, 162, 0, 67, 42, 28, 27, 182, 1, 245]
abbrev dktX4_layRows_1 : List UInt8 := dkwX4_layRows_1 ++ dktX4_layRows_2
def dkwX4_layRows_0 : List UInt8 := [42, 3, 181, 1, 236, 3, 61, 28, 16, 12, 162, 0, 16, 42, 180, 0, 124, 28, 3, 79, 132, 2, 1]
abbrev dktX4_layRows_0 : List UInt8 := dkwX4_layRows_0 ++ dktX4_layRows_1
theorem dksX4_layRows_0 : cX4_layRows.data.toList.drop 0 = dktX4_layRows_0 := by decide +kernel
theorem dksX4_layRows_1 : cX4_layRows.data.toList.drop 23 = dktX4_layRows_1 := dk_seg dksX4_layRows_0 23 rfl rfl
theorem dksX4_layRows_2 : cX4_layRows.data.toList.drop 46 = dktX4_layRows_2 := dk_seg dksX4_layRows_1 23 rfl rfl
theorem dksX4_layRows_3 : cX4_layRows.data.toList.drop 69 = dktX4_layRows_3 := dk_seg dksX4_layRows_2 23 rfl rfl
theorem dksX4_layRows_4 : cX4_layRows.data.toList.drop 92 = dktX4_layRows_4 := dk_seg dksX4_layRows_3 23 rfl rfl
theorem dX4_layRows_0 : decode cX4_layRows 0 = .ok (.aload_n 0, 1) := dk_42 (dk_at dksX4_layRows_0 0 rfl rfl)
theorem dX4_layRows_1 : decode cX4_layRows 1 = .ok (.iconst 0, 1) := dk_3 (dk_at dksX4_layRows_0 1 rfl rfl)
theorem dX4_layRows_2 : decode cX4_layRows 2 = .ok (.putfield 492, 3) := dk_181 1 236 (dk_at dksX4_layRows_0 2 rfl rfl)
theorem dX4_layRows_5 : decode cX4_layRows 5 = .ok (.iconst 0, 1) := dk_3 (dk_at dksX4_layRows_0 5 rfl rfl)
theorem dX4_layRows_6 : decode cX4_layRows 6 = .ok (.istore_n 2, 1) := dk_61 (dk_at dksX4_layRows_0 6 rfl rfl)
theorem dX4_layRows_7 : decode cX4_layRows 7 = .ok (.iload_n 2, 1) := dk_28 (dk_at dksX4_layRows_0 7 rfl rfl)
theorem dX4_layRows_8 : decode cX4_layRows 8 = .ok (.bipush 12, 2) := dk_16 12 (dk_at dksX4_layRows_0 8 rfl rfl)
theorem dX4_layRows_10 : decode cX4_layRows 10 = .ok (.if_icmp .ge 16, 3) := dk_162 0 16 (dk_at dksX4_layRows_0 10 rfl rfl)
theorem dX4_layRows_13 : decode cX4_layRows 13 = .ok (.aload_n 0, 1) := dk_42 (dk_at dksX4_layRows_0 13 rfl rfl)
theorem dX4_layRows_14 : decode cX4_layRows 14 = .ok (.getfield 124, 3) := dk_180 0 124 (dk_at dksX4_layRows_0 14 rfl rfl)
theorem dX4_layRows_17 : decode cX4_layRows 17 = .ok (.iload_n 2, 1) := dk_28 (dk_at dksX4_layRows_0 17 rfl rfl)
theorem dX4_layRows_18 : decode cX4_layRows 18 = .ok (.iconst 0, 1) := dk_3 (dk_at dksX4_layRows_0 18 rfl rfl)
theorem dX4_layRows_19 : decode cX4_layRows 19 = .ok (.iastore, 1) := dk_79 (dk_at dksX4_layRows_0 19 rfl rfl)
theorem dX4_layRows_20 : decode cX4_layRows 20 = .ok (.iinc 2 1, 3) := dk_132 2 1 (dk_at dksX4_layRows_0 20 rfl rfl)
theorem dX4_layRows_23 : decode cX4_layRows 23 = .ok (.goto (-16), 3) := dk_167 255 240 (dk_at dksX4_layRows_1 0 rfl rfl)
theorem dX4_layRows_26 : decode cX4_layRows 26 = .ok (.aload_n 0, 1) := dk_42 (dk_at dksX4_layRows_1 3 rfl rfl)
theorem dX4_layRows_27 : decode cX4_layRows 27 = .ok (.invokevirtual 495, 3) := dk_182 1 239 (dk_at dksX4_layRows_1 4 rfl rfl)
theorem dX4_layRows_30 : decode cX4_layRows 30 = .ok (.iconst 0, 1) := dk_3 (dk_at dksX4_layRows_1 7 rfl rfl)
theorem dX4_layRows_31 : decode cX4_layRows 31 = .ok (.istore_n 2, 1) := dk_61 (dk_at dksX4_layRows_1 8 rfl rfl)
theorem dX4_layRows_32 : decode cX4_layRows 32 = .ok (.iload_n 2, 1) := dk_28 (dk_at dksX4_layRows_1 9 rfl rfl)
theorem dX4_layRows_33 : decode cX4_layRows 33 = .ok (.aload_n 0, 1) := dk_42 (dk_at dksX4_layRows_1 10 rfl rfl)
theorem dX4_layRows_34 : decode cX4_layRows 34 = .ok (.invokevirtual 498, 3) := dk_182 1 242 (dk_at dksX4_layRows_1 11 rfl rfl)
theorem dX4_layRows_37 : decode cX4_layRows 37 = .ok (.if_icmp .ge 67, 3) := dk_162 0 67 (dk_at dksX4_layRows_1 14 rfl rfl)
theorem dX4_layRows_40 : decode cX4_layRows 40 = .ok (.aload_n 0, 1) := dk_42 (dk_at dksX4_layRows_1 17 rfl rfl)
theorem dX4_layRows_41 : decode cX4_layRows 41 = .ok (.iload_n 2, 1) := dk_28 (dk_at dksX4_layRows_1 18 rfl rfl)
theorem dX4_layRows_42 : decode cX4_layRows 42 = .ok (.iload_n 1, 1) := dk_27 (dk_at dksX4_layRows_1 19 rfl rfl)
theorem dX4_layRows_43 : decode cX4_layRows 43 = .ok (.invokevirtual 501, 3) := dk_182 1 245 (dk_at dksX4_layRows_1 20 rfl rfl)
theorem dX4_layRows_46 : decode cX4_layRows 46 = .ok (.ifCond .ne 6, 3) := dk_154 0 6 (dk_at dksX4_layRows_2 0 rfl rfl)
theorem dX4_layRows_49 : decode cX4_layRows 49 = .ok (.goto 49, 3) := dk_167 0 49 (dk_at dksX4_layRows_2 3 rfl rfl)
theorem dX4_layRows_52 : decode cX4_layRows 52 = .ok (.aload_n 0, 1) := dk_42 (dk_at dksX4_layRows_2 6 rfl rfl)
theorem dX4_layRows_53 : decode cX4_layRows 53 = .ok (.dup, 1) := dk_89 (dk_at dksX4_layRows_2 7 rfl rfl)
theorem dX4_layRows_54 : decode cX4_layRows 54 = .ok (.getfield 492, 3) := dk_180 1 236 (dk_at dksX4_layRows_2 8 rfl rfl)
theorem dX4_layRows_57 : decode cX4_layRows 57 = .ok (.iconst 1, 1) := dk_4 (dk_at dksX4_layRows_2 11 rfl rfl)
theorem dX4_layRows_58 : decode cX4_layRows 58 = .ok (.iadd, 1) := dk_96 (dk_at dksX4_layRows_2 12 rfl rfl)
theorem dX4_layRows_59 : decode cX4_layRows 59 = .ok (.putfield 492, 3) := dk_181 1 236 (dk_at dksX4_layRows_2 13 rfl rfl)
theorem dX4_layRows_62 : decode cX4_layRows 62 = .ok (.iconst 0, 1) := dk_3 (dk_at dksX4_layRows_2 16 rfl rfl)
theorem dX4_layRows_63 : decode cX4_layRows 63 = .ok (.istore_n 3, 1) := dk_62 (dk_at dksX4_layRows_2 17 rfl rfl)
theorem dX4_layRows_64 : decode cX4_layRows 64 = .ok (.iload_n 3, 1) := dk_29 (dk_at dksX4_layRows_2 18 rfl rfl)
theorem dX4_layRows_65 : decode cX4_layRows 65 = .ok (.aload_n 0, 1) := dk_42 (dk_at dksX4_layRows_2 19 rfl rfl)
theorem dX4_layRows_66 : decode cX4_layRows 66 = .ok (.invokevirtual 486, 3) := dk_182 1 230 (dk_at dksX4_layRows_2 20 rfl rfl)
theorem dX4_layRows_69 : decode cX4_layRows 69 = .ok (.if_icmp .ge 29, 3) := dk_162 0 29 (dk_at dksX4_layRows_3 0 rfl rfl)
theorem dX4_layRows_72 : decode cX4_layRows 72 = .ok (.aload_n 0, 1) := dk_42 (dk_at dksX4_layRows_3 3 rfl rfl)
theorem dX4_layRows_73 : decode cX4_layRows 73 = .ok (.getfield 124, 3) := dk_180 0 124 (dk_at dksX4_layRows_3 4 rfl rfl)
theorem dX4_layRows_76 : decode cX4_layRows 76 = .ok (.bipush 6, 2) := dk_16 6 (dk_at dksX4_layRows_3 7 rfl rfl)
theorem dX4_layRows_78 : decode cX4_layRows 78 = .ok (.iload_n 3, 1) := dk_29 (dk_at dksX4_layRows_3 9 rfl rfl)
theorem dX4_layRows_79 : decode cX4_layRows 79 = .ok (.imul, 1) := dk_104 (dk_at dksX4_layRows_3 10 rfl rfl)
theorem dX4_layRows_80 : decode cX4_layRows 80 = .ok (.aload_n 0, 1) := dk_42 (dk_at dksX4_layRows_3 11 rfl rfl)
theorem dX4_layRows_81 : decode cX4_layRows 81 = .ok (.iload_n 2, 1) := dk_28 (dk_at dksX4_layRows_3 12 rfl rfl)
theorem dX4_layRows_82 : decode cX4_layRows 82 = .ok (.iload_n 3, 1) := dk_29 (dk_at dksX4_layRows_3 13 rfl rfl)
theorem dX4_layRows_83 : decode cX4_layRows 83 = .ok (.invokevirtual 489, 3) := dk_182 1 233 (dk_at dksX4_layRows_3 14 rfl rfl)
theorem dX4_layRows_86 : decode cX4_layRows 86 = .ok (.iadd, 1) := dk_96 (dk_at dksX4_layRows_3 17 rfl rfl)
theorem dX4_layRows_87 : decode cX4_layRows 87 = .ok (.dup2, 1) := dk_92 (dk_at dksX4_layRows_3 18 rfl rfl)
theorem dX4_layRows_88 : decode cX4_layRows 88 = .ok (.iaload, 1) := dk_46 (dk_at dksX4_layRows_3 19 rfl rfl)
theorem dX4_layRows_89 : decode cX4_layRows 89 = .ok (.iconst 1, 1) := dk_4 (dk_at dksX4_layRows_3 20 rfl rfl)
theorem dX4_layRows_90 : decode cX4_layRows 90 = .ok (.iadd, 1) := dk_96 (dk_at dksX4_layRows_3 21 rfl rfl)
theorem dX4_layRows_91 : decode cX4_layRows 91 = .ok (.iastore, 1) := dk_79 (dk_at dksX4_layRows_3 22 rfl rfl)
theorem dX4_layRows_92 : decode cX4_layRows 92 = .ok (.iinc 3 1, 3) := dk_132 3 1 (dk_at dksX4_layRows_4 0 rfl rfl)
theorem dX4_layRows_95 : decode cX4_layRows 95 = .ok (.goto (-31), 3) := dk_167 255 225 (dk_at dksX4_layRows_4 3 rfl rfl)
theorem dX4_layRows_98 : decode cX4_layRows 98 = .ok (.iinc 2 1, 3) := dk_132 2 1 (dk_at dksX4_layRows_4 6 rfl rfl)
theorem dX4_layRows_101 : decode cX4_layRows 101 = .ok (.goto (-69), 3) := dk_167 255 187 (dk_at dksX4_layRows_4 9 rfl rfl)
theorem dX4_layRows_104 : decode cX4_layRows 104 = .ok (.return_, 1) := dk_177 (dk_at dksX4_layRows_4 12 rfl rfl)
abbrev cX4_layMany : ByteArray := prog_23_method_127_code
def yX4_layMany : MethodName := ⟨RX4, "layMany", "()V"⟩
def dkwX4_layMany_5 : List UInt8 := [184, 1, 83, 79, 132, 2, 1, 167, 255, 227, 132, 1, 1, 167, 255, 130, 42, 182, 1, 208, 177]
abbrev dktX4_layMany_5 : List UInt8 := dkwX4_layMany_5 ++ []
def dkwX4_layMany_4 : List UInt8 := [61, 28, 42, 182, 1, 109, 162, 0, 27, 42, 180, 0, 106, 8, 27, 104, 28, 96, 42, 28, 182, 1, 151]
abbrev dktX4_layMany_4 : List UInt8 := dkwX4_layMany_4 ++ dktX4_layMany_5
def dkwX4_layMany_3 : List UInt8 := [182, 1, 109, 160, 0, 7, 2, 167, 0, 9, 42, 27, 28, 182, 1, 233, 79, 132, 2, 1, 167, 255, 207, 3]
abbrev dktX4_layMany_3 : List UInt8 := dkwX4_layMany_3 ++ dktX4_layMany_4
def dkwX4_layMany_2 : List UInt8 := [162, 0, 47, 42, 180, 0, 88, 5, 42, 182, 1, 112, 96, 4, 100, 28, 100, 42, 27, 28, 182, 1, 233, 42]
abbrev dktX4_layMany_2 : List UInt8 := dkwX4_layMany_2 ++ dktX4_layMany_3
def dkwX4_layMany_1 : List UInt8 := [182, 1, 115, 42, 180, 0, 88, 3, 4, 42, 182, 1, 102, 120, 4, 100, 79, 3, 61, 28, 42, 182, 1, 230]
abbrev dktX4_layMany_1 : List UInt8 := dkwX4_layMany_1 ++ dktX4_layMany_2
def dkwX4_layMany_0 : List UInt8 := [42, 182, 1, 202, 3, 60, 27, 42, 182, 1, 109, 4, 96, 42, 182, 1, 230, 184, 1, 199, 162, 0, 115, 42]
abbrev dktX4_layMany_0 : List UInt8 := dkwX4_layMany_0 ++ dktX4_layMany_1
theorem dksX4_layMany_0 : cX4_layMany.data.toList.drop 0 = dktX4_layMany_0 := by decide +kernel
theorem dksX4_layMany_1 : cX4_layMany.data.toList.drop 24 = dktX4_layMany_1 := dk_seg dksX4_layMany_0 24 rfl rfl
theorem dksX4_layMany_2 : cX4_layMany.data.toList.drop 48 = dktX4_layMany_2 := dk_seg dksX4_layMany_1 24 rfl rfl
theorem dksX4_layMany_3 : cX4_layMany.data.toList.drop 72 = dktX4_layMany_3 := dk_seg dksX4_layMany_2 24 rfl rfl
theorem dksX4_layMany_4 : cX4_layMany.data.toList.drop 96 = dktX4_layMany_4 := dk_seg dksX4_layMany_3 24 rfl rfl
theorem dksX4_layMany_5 : cX4_layMany.data.toList.drop 119 = dktX4_layMany_5 := dk_seg dksX4_layMany_4 23 rfl rfl
theorem dX4_layMany_0 : decode cX4_layMany 0 = .ok (.aload_n 0, 1) := dk_42 (dk_at dksX4_layMany_0 0 rfl rfl)
theorem dX4_layMany_1 : decode cX4_layMany 1 = .ok (.invokevirtual 458, 3) := dk_182 1 202 (dk_at dksX4_layMany_0 1 rfl rfl)
theorem dX4_layMany_4 : decode cX4_layMany 4 = .ok (.iconst 0, 1) := dk_3 (dk_at dksX4_layMany_0 4 rfl rfl)
theorem dX4_layMany_5 : decode cX4_layMany 5 = .ok (.istore_n 1, 1) := dk_60 (dk_at dksX4_layMany_0 5 rfl rfl)
theorem dX4_layMany_6 : decode cX4_layMany 6 = .ok (.iload_n 1, 1) := dk_27 (dk_at dksX4_layMany_0 6 rfl rfl)
theorem dX4_layMany_7 : decode cX4_layMany 7 = .ok (.aload_n 0, 1) := dk_42 (dk_at dksX4_layMany_0 7 rfl rfl)
theorem dX4_layMany_8 : decode cX4_layMany 8 = .ok (.invokevirtual 365, 3) := dk_182 1 109 (dk_at dksX4_layMany_0 8 rfl rfl)
theorem dX4_layMany_11 : decode cX4_layMany 11 = .ok (.iconst 1, 1) := dk_4 (dk_at dksX4_layMany_0 11 rfl rfl)
theorem dX4_layMany_12 : decode cX4_layMany 12 = .ok (.iadd, 1) := dk_96 (dk_at dksX4_layMany_0 12 rfl rfl)
theorem dX4_layMany_13 : decode cX4_layMany 13 = .ok (.aload_n 0, 1) := dk_42 (dk_at dksX4_layMany_0 13 rfl rfl)
theorem dX4_layMany_14 : decode cX4_layMany 14 = .ok (.invokevirtual 486, 3) := dk_182 1 230 (dk_at dksX4_layMany_0 14 rfl rfl)
theorem dX4_layMany_17 : decode cX4_layMany 17 = .ok (.invokestatic 455, 3) := dk_184 1 199 (dk_at dksX4_layMany_0 17 rfl rfl)
theorem dX4_layMany_20 : decode cX4_layMany 20 = .ok (.if_icmp .ge 115, 3) := dk_162 0 115 (dk_at dksX4_layMany_0 20 rfl rfl)
theorem dX4_layMany_23 : decode cX4_layMany 23 = .ok (.aload_n 0, 1) := dk_42 (dk_at dksX4_layMany_0 23 rfl rfl)
theorem dX4_layMany_24 : decode cX4_layMany 24 = .ok (.invokevirtual 371, 3) := dk_182 1 115 (dk_at dksX4_layMany_1 0 rfl rfl)
theorem dX4_layMany_27 : decode cX4_layMany 27 = .ok (.aload_n 0, 1) := dk_42 (dk_at dksX4_layMany_1 3 rfl rfl)
theorem dX4_layMany_28 : decode cX4_layMany 28 = .ok (.getfield 88, 3) := dk_180 0 88 (dk_at dksX4_layMany_1 4 rfl rfl)
theorem dX4_layMany_31 : decode cX4_layMany 31 = .ok (.iconst 0, 1) := dk_3 (dk_at dksX4_layMany_1 7 rfl rfl)
theorem dX4_layMany_32 : decode cX4_layMany 32 = .ok (.iconst 1, 1) := dk_4 (dk_at dksX4_layMany_1 8 rfl rfl)
theorem dX4_layMany_33 : decode cX4_layMany 33 = .ok (.aload_n 0, 1) := dk_42 (dk_at dksX4_layMany_1 9 rfl rfl)
theorem dX4_layMany_34 : decode cX4_layMany 34 = .ok (.invokevirtual 358, 3) := dk_182 1 102 (dk_at dksX4_layMany_1 10 rfl rfl)
theorem dX4_layMany_37 : decode cX4_layMany 37 = .ok (.ishl, 1) := dk_120 (dk_at dksX4_layMany_1 13 rfl rfl)
theorem dX4_layMany_38 : decode cX4_layMany 38 = .ok (.iconst 1, 1) := dk_4 (dk_at dksX4_layMany_1 14 rfl rfl)
theorem dX4_layMany_39 : decode cX4_layMany 39 = .ok (.isub, 1) := dk_100 (dk_at dksX4_layMany_1 15 rfl rfl)
theorem dX4_layMany_40 : decode cX4_layMany 40 = .ok (.iastore, 1) := dk_79 (dk_at dksX4_layMany_1 16 rfl rfl)
theorem dX4_layMany_41 : decode cX4_layMany 41 = .ok (.iconst 0, 1) := dk_3 (dk_at dksX4_layMany_1 17 rfl rfl)
theorem dX4_layMany_42 : decode cX4_layMany 42 = .ok (.istore_n 2, 1) := dk_61 (dk_at dksX4_layMany_1 18 rfl rfl)
theorem dX4_layMany_43 : decode cX4_layMany 43 = .ok (.iload_n 2, 1) := dk_28 (dk_at dksX4_layMany_1 19 rfl rfl)
theorem dX4_layMany_44 : decode cX4_layMany 44 = .ok (.aload_n 0, 1) := dk_42 (dk_at dksX4_layMany_1 20 rfl rfl)
theorem dX4_layMany_45 : decode cX4_layMany 45 = .ok (.invokevirtual 486, 3) := dk_182 1 230 (dk_at dksX4_layMany_1 21 rfl rfl)
theorem dX4_layMany_48 : decode cX4_layMany 48 = .ok (.if_icmp .ge 47, 3) := dk_162 0 47 (dk_at dksX4_layMany_2 0 rfl rfl)
theorem dX4_layMany_51 : decode cX4_layMany 51 = .ok (.aload_n 0, 1) := dk_42 (dk_at dksX4_layMany_2 3 rfl rfl)
theorem dX4_layMany_52 : decode cX4_layMany 52 = .ok (.getfield 88, 3) := dk_180 0 88 (dk_at dksX4_layMany_2 4 rfl rfl)
theorem dX4_layMany_55 : decode cX4_layMany 55 = .ok (.iconst 2, 1) := dk_5 (dk_at dksX4_layMany_2 7 rfl rfl)
theorem dX4_layMany_56 : decode cX4_layMany 56 = .ok (.aload_n 0, 1) := dk_42 (dk_at dksX4_layMany_2 8 rfl rfl)
theorem dX4_layMany_57 : decode cX4_layMany 57 = .ok (.invokevirtual 368, 3) := dk_182 1 112 (dk_at dksX4_layMany_2 9 rfl rfl)
theorem dX4_layMany_60 : decode cX4_layMany 60 = .ok (.iadd, 1) := dk_96 (dk_at dksX4_layMany_2 12 rfl rfl)
theorem dX4_layMany_61 : decode cX4_layMany 61 = .ok (.iconst 1, 1) := dk_4 (dk_at dksX4_layMany_2 13 rfl rfl)
theorem dX4_layMany_62 : decode cX4_layMany 62 = .ok (.isub, 1) := dk_100 (dk_at dksX4_layMany_2 14 rfl rfl)
theorem dX4_layMany_63 : decode cX4_layMany 63 = .ok (.iload_n 2, 1) := dk_28 (dk_at dksX4_layMany_2 15 rfl rfl)
theorem dX4_layMany_64 : decode cX4_layMany 64 = .ok (.isub, 1) := dk_100 (dk_at dksX4_layMany_2 16 rfl rfl)
theorem dX4_layMany_65 : decode cX4_layMany 65 = .ok (.aload_n 0, 1) := dk_42 (dk_at dksX4_layMany_2 17 rfl rfl)
theorem dX4_layMany_66 : decode cX4_layMany 66 = .ok (.iload_n 1, 1) := dk_27 (dk_at dksX4_layMany_2 18 rfl rfl)
theorem dX4_layMany_67 : decode cX4_layMany 67 = .ok (.iload_n 2, 1) := dk_28 (dk_at dksX4_layMany_2 19 rfl rfl)
theorem dX4_layMany_68 : decode cX4_layMany 68 = .ok (.invokevirtual 489, 3) := dk_182 1 233 (dk_at dksX4_layMany_2 20 rfl rfl)
theorem dX4_layMany_71 : decode cX4_layMany 71 = .ok (.aload_n 0, 1) := dk_42 (dk_at dksX4_layMany_2 23 rfl rfl)
theorem dX4_layMany_72 : decode cX4_layMany 72 = .ok (.invokevirtual 365, 3) := dk_182 1 109 (dk_at dksX4_layMany_3 0 rfl rfl)
theorem dX4_layMany_75 : decode cX4_layMany 75 = .ok (.if_icmp .ne 7, 3) := dk_160 0 7 (dk_at dksX4_layMany_3 3 rfl rfl)
theorem dX4_layMany_78 : decode cX4_layMany 78 = .ok (.iconst (-1), 1) := dk_2 (dk_at dksX4_layMany_3 6 rfl rfl)
theorem dX4_layMany_79 : decode cX4_layMany 79 = .ok (.goto 9, 3) := dk_167 0 9 (dk_at dksX4_layMany_3 7 rfl rfl)
theorem dX4_layMany_82 : decode cX4_layMany 82 = .ok (.aload_n 0, 1) := dk_42 (dk_at dksX4_layMany_3 10 rfl rfl)
theorem dX4_layMany_83 : decode cX4_layMany 83 = .ok (.iload_n 1, 1) := dk_27 (dk_at dksX4_layMany_3 11 rfl rfl)
theorem dX4_layMany_84 : decode cX4_layMany 84 = .ok (.iload_n 2, 1) := dk_28 (dk_at dksX4_layMany_3 12 rfl rfl)
theorem dX4_layMany_85 : decode cX4_layMany 85 = .ok (.invokevirtual 489, 3) := dk_182 1 233 (dk_at dksX4_layMany_3 13 rfl rfl)
theorem dX4_layMany_88 : decode cX4_layMany 88 = .ok (.iastore, 1) := dk_79 (dk_at dksX4_layMany_3 16 rfl rfl)
theorem dX4_layMany_89 : decode cX4_layMany 89 = .ok (.iinc 2 1, 3) := dk_132 2 1 (dk_at dksX4_layMany_3 17 rfl rfl)
theorem dX4_layMany_92 : decode cX4_layMany 92 = .ok (.goto (-49), 3) := dk_167 255 207 (dk_at dksX4_layMany_3 20 rfl rfl)
theorem dX4_layMany_95 : decode cX4_layMany 95 = .ok (.iconst 0, 1) := dk_3 (dk_at dksX4_layMany_3 23 rfl rfl)
theorem dX4_layMany_96 : decode cX4_layMany 96 = .ok (.istore_n 2, 1) := dk_61 (dk_at dksX4_layMany_4 0 rfl rfl)
theorem dX4_layMany_97 : decode cX4_layMany 97 = .ok (.iload_n 2, 1) := dk_28 (dk_at dksX4_layMany_4 1 rfl rfl)
theorem dX4_layMany_98 : decode cX4_layMany 98 = .ok (.aload_n 0, 1) := dk_42 (dk_at dksX4_layMany_4 2 rfl rfl)
theorem dX4_layMany_99 : decode cX4_layMany 99 = .ok (.invokevirtual 365, 3) := dk_182 1 109 (dk_at dksX4_layMany_4 3 rfl rfl)
theorem dX4_layMany_102 : decode cX4_layMany 102 = .ok (.if_icmp .ge 27, 3) := dk_162 0 27 (dk_at dksX4_layMany_4 6 rfl rfl)
theorem dX4_layMany_105 : decode cX4_layMany 105 = .ok (.aload_n 0, 1) := dk_42 (dk_at dksX4_layMany_4 9 rfl rfl)
theorem dX4_layMany_106 : decode cX4_layMany 106 = .ok (.getfield 106, 3) := dk_180 0 106 (dk_at dksX4_layMany_4 10 rfl rfl)
theorem dX4_layMany_109 : decode cX4_layMany 109 = .ok (.iconst 5, 1) := dk_8 (dk_at dksX4_layMany_4 13 rfl rfl)
theorem dX4_layMany_110 : decode cX4_layMany 110 = .ok (.iload_n 1, 1) := dk_27 (dk_at dksX4_layMany_4 14 rfl rfl)
theorem dX4_layMany_111 : decode cX4_layMany 111 = .ok (.imul, 1) := dk_104 (dk_at dksX4_layMany_4 15 rfl rfl)
theorem dX4_layMany_112 : decode cX4_layMany 112 = .ok (.iload_n 2, 1) := dk_28 (dk_at dksX4_layMany_4 16 rfl rfl)
theorem dX4_layMany_113 : decode cX4_layMany 113 = .ok (.iadd, 1) := dk_96 (dk_at dksX4_layMany_4 17 rfl rfl)
theorem dX4_layMany_114 : decode cX4_layMany 114 = .ok (.aload_n 0, 1) := dk_42 (dk_at dksX4_layMany_4 18 rfl rfl)
theorem dX4_layMany_115 : decode cX4_layMany 115 = .ok (.iload_n 2, 1) := dk_28 (dk_at dksX4_layMany_4 19 rfl rfl)
theorem dX4_layMany_116 : decode cX4_layMany 116 = .ok (.invokevirtual 407, 3) := dk_182 1 151 (dk_at dksX4_layMany_4 20 rfl rfl)
theorem dX4_layMany_119 : decode cX4_layMany 119 = .ok (.invokestatic 339, 3) := dk_184 1 83 (dk_at dksX4_layMany_5 0 rfl rfl)
theorem dX4_layMany_122 : decode cX4_layMany 122 = .ok (.iastore, 1) := dk_79 (dk_at dksX4_layMany_5 3 rfl rfl)
theorem dX4_layMany_123 : decode cX4_layMany 123 = .ok (.iinc 2 1, 3) := dk_132 2 1 (dk_at dksX4_layMany_5 4 rfl rfl)
theorem dX4_layMany_126 : decode cX4_layMany 126 = .ok (.goto (-29), 3) := dk_167 255 227 (dk_at dksX4_layMany_5 7 rfl rfl)
theorem dX4_layMany_129 : decode cX4_layMany 129 = .ok (.iinc 1 1, 3) := dk_132 1 1 (dk_at dksX4_layMany_5 10 rfl rfl)
theorem dX4_layMany_132 : decode cX4_layMany 132 = .ok (.goto (-126), 3) := dk_167 255 130 (dk_at dksX4_layMany_5 13 rfl rfl)
theorem dX4_layMany_135 : decode cX4_layMany 135 = .ok (.aload_n 0, 1) := dk_42 (dk_at dksX4_layMany_5 16 rfl rfl)
theorem dX4_layMany_136 : decode cX4_layMany 136 = .ok (.invokevirtual 464, 3) := dk_182 1 208 (dk_at dksX4_layMany_5 17 rfl rfl)
theorem dX4_layMany_139 : decode cX4_layMany 139 = .ok (.return_, 1) := dk_177 (dk_at dksX4_layMany_5 20 rfl rfl)
abbrev cX4_hidden : ByteArray := prog_23_method_125_code
def yX4_hidden : MethodName := ⟨RX4, "hidden", "()I"⟩
def dkwX4_hidden_0 : List UInt8 := [42, 182, 1, 112, 5, 162, 0, 10, 42, 182, 1, 112, 167, 0, 4, 5, 172]
abbrev dktX4_hidden_0 : List UInt8 := dkwX4_hidden_0 ++ []
theorem dksX4_hidden_0 : cX4_hidden.data.toList.drop 0 = dktX4_hidden_0 := by decide +kernel
theorem dX4_hidden_0 : decode cX4_hidden 0 = .ok (.aload_n 0, 1) := dk_42 (dk_at dksX4_hidden_0 0 rfl rfl)
theorem dX4_hidden_1 : decode cX4_hidden 1 = .ok (.invokevirtual 368, 3) := dk_182 1 112 (dk_at dksX4_hidden_0 1 rfl rfl)
theorem dX4_hidden_4 : decode cX4_hidden 4 = .ok (.iconst 2, 1) := dk_5 (dk_at dksX4_hidden_0 4 rfl rfl)
theorem dX4_hidden_5 : decode cX4_hidden 5 = .ok (.if_icmp .ge 10, 3) := dk_162 0 10 (dk_at dksX4_hidden_0 5 rfl rfl)
theorem dX4_hidden_8 : decode cX4_hidden 8 = .ok (.aload_n 0, 1) := dk_42 (dk_at dksX4_hidden_0 8 rfl rfl)
theorem dX4_hidden_9 : decode cX4_hidden 9 = .ok (.invokevirtual 368, 3) := dk_182 1 112 (dk_at dksX4_hidden_0 9 rfl rfl)
theorem dX4_hidden_12 : decode cX4_hidden 12 = .ok (.goto 4, 3) := dk_167 0 4 (dk_at dksX4_hidden_0 12 rfl rfl)
theorem dX4_hidden_15 : decode cX4_hidden 15 = .ok (.iconst 2, 1) := dk_5 (dk_at dksX4_hidden_0 15 rfl rfl)
theorem dX4_hidden_16 : decode cX4_hidden 16 = .ok (.ireturn, 1) := dk_172 (dk_at dksX4_hidden_0 16 rfl rfl)
abbrev cX4_sackIn : ByteArray := prog_23_method_126_code
def yX4_sackIn : MethodName := ⟨RX4, "sackIn", "(II)I"⟩
def dkwX4_sackIn_0 : List UInt8 := [28, 154, 0, 14, 27, 42, 182, 1, 109, 4, 96, 112, 167, 0, 11, 27, 42, 182, 1, 109, 4, 96, 108, 172]
abbrev dktX4_sackIn_0 : List UInt8 := dkwX4_sackIn_0 ++ []
theorem dksX4_sackIn_0 : cX4_sackIn.data.toList.drop 0 = dktX4_sackIn_0 := by decide +kernel
theorem dX4_sackIn_0 : decode cX4_sackIn 0 = .ok (.iload_n 2, 1) := dk_28 (dk_at dksX4_sackIn_0 0 rfl rfl)
theorem dX4_sackIn_1 : decode cX4_sackIn 1 = .ok (.ifCond .ne 14, 3) := dk_154 0 14 (dk_at dksX4_sackIn_0 1 rfl rfl)
theorem dX4_sackIn_4 : decode cX4_sackIn 4 = .ok (.iload_n 1, 1) := dk_27 (dk_at dksX4_sackIn_0 4 rfl rfl)
theorem dX4_sackIn_5 : decode cX4_sackIn 5 = .ok (.aload_n 0, 1) := dk_42 (dk_at dksX4_sackIn_0 5 rfl rfl)
theorem dX4_sackIn_6 : decode cX4_sackIn 6 = .ok (.invokevirtual 365, 3) := dk_182 1 109 (dk_at dksX4_sackIn_0 6 rfl rfl)
theorem dX4_sackIn_9 : decode cX4_sackIn 9 = .ok (.iconst 1, 1) := dk_4 (dk_at dksX4_sackIn_0 9 rfl rfl)
theorem dX4_sackIn_10 : decode cX4_sackIn 10 = .ok (.iadd, 1) := dk_96 (dk_at dksX4_sackIn_0 10 rfl rfl)
theorem dX4_sackIn_11 : decode cX4_sackIn 11 = .ok (.irem, 1) := dk_112 (dk_at dksX4_sackIn_0 11 rfl rfl)
theorem dX4_sackIn_12 : decode cX4_sackIn 12 = .ok (.goto 11, 3) := dk_167 0 11 (dk_at dksX4_sackIn_0 12 rfl rfl)
theorem dX4_sackIn_15 : decode cX4_sackIn 15 = .ok (.iload_n 1, 1) := dk_27 (dk_at dksX4_sackIn_0 15 rfl rfl)
theorem dX4_sackIn_16 : decode cX4_sackIn 16 = .ok (.aload_n 0, 1) := dk_42 (dk_at dksX4_sackIn_0 16 rfl rfl)
theorem dX4_sackIn_17 : decode cX4_sackIn 17 = .ok (.invokevirtual 365, 3) := dk_182 1 109 (dk_at dksX4_sackIn_0 17 rfl rfl)
theorem dX4_sackIn_20 : decode cX4_sackIn 20 = .ok (.iconst 1, 1) := dk_4 (dk_at dksX4_sackIn_0 20 rfl rfl)
theorem dX4_sackIn_21 : decode cX4_sackIn 21 = .ok (.iadd, 1) := dk_96 (dk_at dksX4_sackIn_0 21 rfl rfl)
theorem dX4_sackIn_22 : decode cX4_sackIn 22 = .ok (.idiv, 1) := dk_108 (dk_at dksX4_sackIn_0 22 rfl rfl)
theorem dX4_sackIn_23 : decode cX4_sackIn 23 = .ok (.ireturn, 1) := dk_172 (dk_at dksX4_sackIn_0 23 rfl rfl)
abbrev cX4_allRows : ByteArray := prog_23_method_129_code
def yX4_allRows : MethodName := ⟨RX4, "allRows", "()I"⟩
def dkwX4_allRows_1 : List UInt8 := [172]
abbrev dktX4_allRows_1 : List UInt8 := dkwX4_allRows_1 ++ []
def dkwX4_allRows_0 : List UInt8 := [42, 182, 1, 112, 154, 0, 7, 3, 167, 0, 16, 42, 182, 1, 109, 4, 96, 42, 182, 1, 230, 184, 1, 199]
abbrev dktX4_allRows_0 : List UInt8 := dkwX4_allRows_0 ++ dktX4_allRows_1
theorem dksX4_allRows_0 : cX4_allRows.data.toList.drop 0 = dktX4_allRows_0 := by decide +kernel
theorem dksX4_allRows_1 : cX4_allRows.data.toList.drop 24 = dktX4_allRows_1 := dk_seg dksX4_allRows_0 24 rfl rfl
theorem dX4_allRows_0 : decode cX4_allRows 0 = .ok (.aload_n 0, 1) := dk_42 (dk_at dksX4_allRows_0 0 rfl rfl)
theorem dX4_allRows_1 : decode cX4_allRows 1 = .ok (.invokevirtual 368, 3) := dk_182 1 112 (dk_at dksX4_allRows_0 1 rfl rfl)
theorem dX4_allRows_4 : decode cX4_allRows 4 = .ok (.ifCond .ne 7, 3) := dk_154 0 7 (dk_at dksX4_allRows_0 4 rfl rfl)
theorem dX4_allRows_7 : decode cX4_allRows 7 = .ok (.iconst 0, 1) := dk_3 (dk_at dksX4_allRows_0 7 rfl rfl)
theorem dX4_allRows_8 : decode cX4_allRows 8 = .ok (.goto 16, 3) := dk_167 0 16 (dk_at dksX4_allRows_0 8 rfl rfl)
theorem dX4_allRows_11 : decode cX4_allRows 11 = .ok (.aload_n 0, 1) := dk_42 (dk_at dksX4_allRows_0 11 rfl rfl)
theorem dX4_allRows_12 : decode cX4_allRows 12 = .ok (.invokevirtual 365, 3) := dk_182 1 109 (dk_at dksX4_allRows_0 12 rfl rfl)
theorem dX4_allRows_15 : decode cX4_allRows 15 = .ok (.iconst 1, 1) := dk_4 (dk_at dksX4_allRows_0 15 rfl rfl)
theorem dX4_allRows_16 : decode cX4_allRows 16 = .ok (.iadd, 1) := dk_96 (dk_at dksX4_allRows_0 16 rfl rfl)
theorem dX4_allRows_17 : decode cX4_allRows 17 = .ok (.aload_n 0, 1) := dk_42 (dk_at dksX4_allRows_0 17 rfl rfl)
theorem dX4_allRows_18 : decode cX4_allRows 18 = .ok (.invokevirtual 486, 3) := dk_182 1 230 (dk_at dksX4_allRows_0 18 rfl rfl)
theorem dX4_allRows_21 : decode cX4_allRows 21 = .ok (.invokestatic 455, 3) := dk_184 1 199 (dk_at dksX4_allRows_0 21 rfl rfl)
theorem dX4_allRows_24 : decode cX4_allRows 24 = .ok (.ireturn, 1) := dk_172 (dk_at dksX4_allRows_1 0 rfl rfl)
abbrev cX4_doesFit : ByteArray := prog_23_method_128_code
def yX4_doesFit : MethodName := ⟨RX4, "doesFit", "(II)Z"⟩
def dkwX4_doesFit_3 : List UInt8 := [54, 4, 21, 4, 42, 180, 0, 115, 29, 46, 159, 0, 5, 3, 172, 132, 3, 1, 167, 255, 169, 4, 172]
abbrev dktX4_doesFit_3 : List UInt8 := dkwX4_doesFit_3 ++ []
def dkwX4_doesFit_2 : List UInt8 := [104, 42, 180, 0, 109, 29, 46, 96, 46, 42, 180, 0, 112, 29, 46, 161, 0, 7, 4, 167, 0, 4, 3]
abbrev dktX4_doesFit_2 : List UInt8 := dkwX4_doesFit_2 ++ dktX4_doesFit_3
def dkwX4_doesFit_1 : List UInt8 := [29, 46, 155, 0, 16, 42, 180, 0, 121, 29, 46, 28, 163, 0, 6, 167, 0, 47, 42, 180, 0, 106, 8, 27]
abbrev dktX4_doesFit_1 : List UInt8 := dkwX4_doesFit_1 ++ dktX4_doesFit_2
def dkwX4_doesFit_0 : List UInt8 := [3, 62, 29, 42, 180, 1, 124, 162, 0, 85, 42, 180, 0, 118, 29, 46, 28, 163, 0, 69, 42, 180, 0, 121]
abbrev dktX4_doesFit_0 : List UInt8 := dkwX4_doesFit_0 ++ dktX4_doesFit_1
theorem dksX4_doesFit_0 : cX4_doesFit.data.toList.drop 0 = dktX4_doesFit_0 := by decide +kernel
theorem dksX4_doesFit_1 : cX4_doesFit.data.toList.drop 24 = dktX4_doesFit_1 := dk_seg dksX4_doesFit_0 24 rfl rfl
theorem dksX4_doesFit_2 : cX4_doesFit.data.toList.drop 48 = dktX4_doesFit_2 := dk_seg dksX4_doesFit_1 24 rfl rfl
theorem dksX4_doesFit_3 : cX4_doesFit.data.toList.drop 71 = dktX4_doesFit_3 := dk_seg dksX4_doesFit_2 23 rfl rfl
theorem dX4_doesFit_0 : decode cX4_doesFit 0 = .ok (.iconst 0, 1) := dk_3 (dk_at dksX4_doesFit_0 0 rfl rfl)
theorem dX4_doesFit_1 : decode cX4_doesFit 1 = .ok (.istore_n 3, 1) := dk_62 (dk_at dksX4_doesFit_0 1 rfl rfl)
theorem dX4_doesFit_2 : decode cX4_doesFit 2 = .ok (.iload_n 3, 1) := dk_29 (dk_at dksX4_doesFit_0 2 rfl rfl)
theorem dX4_doesFit_3 : decode cX4_doesFit 3 = .ok (.aload_n 0, 1) := dk_42 (dk_at dksX4_doesFit_0 3 rfl rfl)
theorem dX4_doesFit_4 : decode cX4_doesFit 4 = .ok (.getfield 380, 3) := dk_180 1 124 (dk_at dksX4_doesFit_0 4 rfl rfl)
theorem dX4_doesFit_7 : decode cX4_doesFit 7 = .ok (.if_icmp .ge 85, 3) := dk_162 0 85 (dk_at dksX4_doesFit_0 7 rfl rfl)
theorem dX4_doesFit_10 : decode cX4_doesFit 10 = .ok (.aload_n 0, 1) := dk_42 (dk_at dksX4_doesFit_0 10 rfl rfl)
theorem dX4_doesFit_11 : decode cX4_doesFit 11 = .ok (.getfield 118, 3) := dk_180 0 118 (dk_at dksX4_doesFit_0 11 rfl rfl)
theorem dX4_doesFit_14 : decode cX4_doesFit 14 = .ok (.iload_n 3, 1) := dk_29 (dk_at dksX4_doesFit_0 14 rfl rfl)
theorem dX4_doesFit_15 : decode cX4_doesFit 15 = .ok (.iaload, 1) := dk_46 (dk_at dksX4_doesFit_0 15 rfl rfl)
theorem dX4_doesFit_16 : decode cX4_doesFit 16 = .ok (.iload_n 2, 1) := dk_28 (dk_at dksX4_doesFit_0 16 rfl rfl)
theorem dX4_doesFit_17 : decode cX4_doesFit 17 = .ok (.if_icmp .gt 69, 3) := dk_163 0 69 (dk_at dksX4_doesFit_0 17 rfl rfl)
theorem dX4_doesFit_20 : decode cX4_doesFit 20 = .ok (.aload_n 0, 1) := dk_42 (dk_at dksX4_doesFit_0 20 rfl rfl)
theorem dX4_doesFit_21 : decode cX4_doesFit 21 = .ok (.getfield 121, 3) := dk_180 0 121 (dk_at dksX4_doesFit_0 21 rfl rfl)
theorem dX4_doesFit_24 : decode cX4_doesFit 24 = .ok (.iload_n 3, 1) := dk_29 (dk_at dksX4_doesFit_1 0 rfl rfl)
theorem dX4_doesFit_25 : decode cX4_doesFit 25 = .ok (.iaload, 1) := dk_46 (dk_at dksX4_doesFit_1 1 rfl rfl)
theorem dX4_doesFit_26 : decode cX4_doesFit 26 = .ok (.ifCond .lt 16, 3) := dk_155 0 16 (dk_at dksX4_doesFit_1 2 rfl rfl)
theorem dX4_doesFit_29 : decode cX4_doesFit 29 = .ok (.aload_n 0, 1) := dk_42 (dk_at dksX4_doesFit_1 5 rfl rfl)
theorem dX4_doesFit_30 : decode cX4_doesFit 30 = .ok (.getfield 121, 3) := dk_180 0 121 (dk_at dksX4_doesFit_1 6 rfl rfl)
theorem dX4_doesFit_33 : decode cX4_doesFit 33 = .ok (.iload_n 3, 1) := dk_29 (dk_at dksX4_doesFit_1 9 rfl rfl)
theorem dX4_doesFit_34 : decode cX4_doesFit 34 = .ok (.iaload, 1) := dk_46 (dk_at dksX4_doesFit_1 10 rfl rfl)
theorem dX4_doesFit_35 : decode cX4_doesFit 35 = .ok (.iload_n 2, 1) := dk_28 (dk_at dksX4_doesFit_1 11 rfl rfl)
theorem dX4_doesFit_36 : decode cX4_doesFit 36 = .ok (.if_icmp .gt 6, 3) := dk_163 0 6 (dk_at dksX4_doesFit_1 12 rfl rfl)
theorem dX4_doesFit_39 : decode cX4_doesFit 39 = .ok (.goto 47, 3) := dk_167 0 47 (dk_at dksX4_doesFit_1 15 rfl rfl)
theorem dX4_doesFit_42 : decode cX4_doesFit 42 = .ok (.aload_n 0, 1) := dk_42 (dk_at dksX4_doesFit_1 18 rfl rfl)
theorem dX4_doesFit_43 : decode cX4_doesFit 43 = .ok (.getfield 106, 3) := dk_180 0 106 (dk_at dksX4_doesFit_1 19 rfl rfl)
theorem dX4_doesFit_46 : decode cX4_doesFit 46 = .ok (.iconst 5, 1) := dk_8 (dk_at dksX4_doesFit_1 22 rfl rfl)
theorem dX4_doesFit_47 : decode cX4_doesFit 47 = .ok (.iload_n 1, 1) := dk_27 (dk_at dksX4_doesFit_1 23 rfl rfl)
theorem dX4_doesFit_48 : decode cX4_doesFit 48 = .ok (.imul, 1) := dk_104 (dk_at dksX4_doesFit_2 0 rfl rfl)
theorem dX4_doesFit_49 : decode cX4_doesFit 49 = .ok (.aload_n 0, 1) := dk_42 (dk_at dksX4_doesFit_2 1 rfl rfl)
theorem dX4_doesFit_50 : decode cX4_doesFit 50 = .ok (.getfield 109, 3) := dk_180 0 109 (dk_at dksX4_doesFit_2 2 rfl rfl)
theorem dX4_doesFit_53 : decode cX4_doesFit 53 = .ok (.iload_n 3, 1) := dk_29 (dk_at dksX4_doesFit_2 5 rfl rfl)
theorem dX4_doesFit_54 : decode cX4_doesFit 54 = .ok (.iaload, 1) := dk_46 (dk_at dksX4_doesFit_2 6 rfl rfl)
theorem dX4_doesFit_55 : decode cX4_doesFit 55 = .ok (.iadd, 1) := dk_96 (dk_at dksX4_doesFit_2 7 rfl rfl)
theorem dX4_doesFit_56 : decode cX4_doesFit 56 = .ok (.iaload, 1) := dk_46 (dk_at dksX4_doesFit_2 8 rfl rfl)
theorem dX4_doesFit_57 : decode cX4_doesFit 57 = .ok (.aload_n 0, 1) := dk_42 (dk_at dksX4_doesFit_2 9 rfl rfl)
theorem dX4_doesFit_58 : decode cX4_doesFit 58 = .ok (.getfield 112, 3) := dk_180 0 112 (dk_at dksX4_doesFit_2 10 rfl rfl)
theorem dX4_doesFit_61 : decode cX4_doesFit 61 = .ok (.iload_n 3, 1) := dk_29 (dk_at dksX4_doesFit_2 13 rfl rfl)
theorem dX4_doesFit_62 : decode cX4_doesFit 62 = .ok (.iaload, 1) := dk_46 (dk_at dksX4_doesFit_2 14 rfl rfl)
theorem dX4_doesFit_63 : decode cX4_doesFit 63 = .ok (.if_icmp .lt 7, 3) := dk_161 0 7 (dk_at dksX4_doesFit_2 15 rfl rfl)
theorem dX4_doesFit_66 : decode cX4_doesFit 66 = .ok (.iconst 1, 1) := dk_4 (dk_at dksX4_doesFit_2 18 rfl rfl)
theorem dX4_doesFit_67 : decode cX4_doesFit 67 = .ok (.goto 4, 3) := dk_167 0 4 (dk_at dksX4_doesFit_2 19 rfl rfl)
theorem dX4_doesFit_70 : decode cX4_doesFit 70 = .ok (.iconst 0, 1) := dk_3 (dk_at dksX4_doesFit_2 22 rfl rfl)
theorem dX4_doesFit_71 : decode cX4_doesFit 71 = .ok (.istore 4, 2) := dk_54 4 (dk_at dksX4_doesFit_3 0 rfl rfl)
theorem dX4_doesFit_73 : decode cX4_doesFit 73 = .ok (.iload 4, 2) := dk_21 4 (dk_at dksX4_doesFit_3 2 rfl rfl)
theorem dX4_doesFit_75 : decode cX4_doesFit 75 = .ok (.aload_n 0, 1) := dk_42 (dk_at dksX4_doesFit_3 4 rfl rfl)
theorem dX4_doesFit_76 : decode cX4_doesFit 76 = .ok (.getfield 115, 3) := dk_180 0 115 (dk_at dksX4_doesFit_3 5 rfl rfl)
theorem dX4_doesFit_79 : decode cX4_doesFit 79 = .ok (.iload_n 3, 1) := dk_29 (dk_at dksX4_doesFit_3 8 rfl rfl)
theorem dX4_doesFit_80 : decode cX4_doesFit 80 = .ok (.iaload, 1) := dk_46 (dk_at dksX4_doesFit_3 9 rfl rfl)
theorem dX4_doesFit_81 : decode cX4_doesFit 81 = .ok (.if_icmp .eq 5, 3) := dk_159 0 5 (dk_at dksX4_doesFit_3 10 rfl rfl)
theorem dX4_doesFit_84 : decode cX4_doesFit 84 = .ok (.iconst 0, 1) := dk_3 (dk_at dksX4_doesFit_3 13 rfl rfl)
theorem dX4_doesFit_85 : decode cX4_doesFit 85 = .ok (.ireturn, 1) := dk_172 (dk_at dksX4_doesFit_3 14 rfl rfl)
theorem dX4_doesFit_86 : decode cX4_doesFit 86 = .ok (.iinc 3 1, 3) := dk_132 3 1 (dk_at dksX4_doesFit_3 15 rfl rfl)
theorem dX4_doesFit_89 : decode cX4_doesFit 89 = .ok (.goto (-87), 3) := dk_167 255 169 (dk_at dksX4_doesFit_3 18 rfl rfl)
theorem dX4_doesFit_92 : decode cX4_doesFit 92 = .ok (.iconst 1, 1) := dk_4 (dk_at dksX4_doesFit_3 21 rfl rfl)
theorem dX4_doesFit_93 : decode cX4_doesFit 93 = .ok (.ireturn, 1) := dk_172 (dk_at dksX4_doesFit_3 22 rfl rfl)
abbrev cX4_sure : ByteArray := prog_23_method_132_code
def yX4_sure : MethodName := ⟨RX4, "sure", "(II)I"⟩
def dkwX4_sure_3 : List UInt8 := [167, 0, 4, 29, 172, 132, 3, 1, 167, 255, 213, 16, 254, 172]
abbrev dktX4_sure_3 : List UInt8 := dkwX4_sure_3 ++ []
def dkwX4_sure_2 : List UInt8 := [16, 6, 27, 104, 29, 96, 46, 42, 180, 1, 236, 160, 0, 17, 29, 42, 182, 1, 109, 160, 0, 7, 2]
abbrev dktX4_sure_2 : List UInt8 := dkwX4_sure_2 ++ dktX4_sure_3
def dkwX4_sure_1 : List UInt8 := [180, 1, 236, 154, 0, 6, 16, 253, 172, 3, 62, 29, 42, 182, 1, 109, 163, 0, 41, 42, 180, 0, 124]
abbrev dktX4_sure_1 : List UInt8 := dkwX4_sure_1 ++ dktX4_sure_2
def dkwX4_sure_0 : List UInt8 := [27, 3, 42, 182, 1, 230, 4, 100, 184, 1, 105, 154, 0, 6, 16, 253, 172, 42, 28, 182, 1, 248, 42]
abbrev dktX4_sure_0 : List UInt8 := dkwX4_sure_0 ++ dktX4_sure_1
theorem dksX4_sure_0 : cX4_sure.data.toList.drop 0 = dktX4_sure_0 := by decide +kernel
theorem dksX4_sure_1 : cX4_sure.data.toList.drop 23 = dktX4_sure_1 := dk_seg dksX4_sure_0 23 rfl rfl
theorem dksX4_sure_2 : cX4_sure.data.toList.drop 46 = dktX4_sure_2 := dk_seg dksX4_sure_1 23 rfl rfl
theorem dksX4_sure_3 : cX4_sure.data.toList.drop 69 = dktX4_sure_3 := dk_seg dksX4_sure_2 23 rfl rfl
theorem dX4_sure_0 : decode cX4_sure 0 = .ok (.iload_n 1, 1) := dk_27 (dk_at dksX4_sure_0 0 rfl rfl)
theorem dX4_sure_1 : decode cX4_sure 1 = .ok (.iconst 0, 1) := dk_3 (dk_at dksX4_sure_0 1 rfl rfl)
theorem dX4_sure_2 : decode cX4_sure 2 = .ok (.aload_n 0, 1) := dk_42 (dk_at dksX4_sure_0 2 rfl rfl)
theorem dX4_sure_3 : decode cX4_sure 3 = .ok (.invokevirtual 486, 3) := dk_182 1 230 (dk_at dksX4_sure_0 3 rfl rfl)
theorem dX4_sure_6 : decode cX4_sure 6 = .ok (.iconst 1, 1) := dk_4 (dk_at dksX4_sure_0 6 rfl rfl)
theorem dX4_sure_7 : decode cX4_sure 7 = .ok (.isub, 1) := dk_100 (dk_at dksX4_sure_0 7 rfl rfl)
theorem dX4_sure_8 : decode cX4_sure 8 = .ok (.invokestatic 361, 3) := dk_184 1 105 (dk_at dksX4_sure_0 8 rfl rfl)
theorem dX4_sure_11 : decode cX4_sure 11 = .ok (.ifCond .ne 6, 3) := dk_154 0 6 (dk_at dksX4_sure_0 11 rfl rfl)
theorem dX4_sure_14 : decode cX4_sure 14 = .ok (.bipush (-3), 2) := dk_16 253 (dk_at dksX4_sure_0 14 rfl rfl)
theorem dX4_sure_16 : decode cX4_sure 16 = .ok (.ireturn, 1) := dk_172 (dk_at dksX4_sure_0 16 rfl rfl)
theorem dX4_sure_17 : decode cX4_sure 17 = .ok (.aload_n 0, 1) := dk_42 (dk_at dksX4_sure_0 17 rfl rfl)
theorem dX4_sure_18 : decode cX4_sure 18 = .ok (.iload_n 2, 1) := dk_28 (dk_at dksX4_sure_0 18 rfl rfl)
theorem dX4_sure_19 : decode cX4_sure 19 = .ok (.invokevirtual 504, 3) := dk_182 1 248 (dk_at dksX4_sure_0 19 rfl rfl)
theorem dX4_sure_22 : decode cX4_sure 22 = .ok (.aload_n 0, 1) := dk_42 (dk_at dksX4_sure_0 22 rfl rfl)
theorem dX4_sure_23 : decode cX4_sure 23 = .ok (.getfield 492, 3) := dk_180 1 236 (dk_at dksX4_sure_1 0 rfl rfl)
theorem dX4_sure_26 : decode cX4_sure 26 = .ok (.ifCond .ne 6, 3) := dk_154 0 6 (dk_at dksX4_sure_1 3 rfl rfl)
theorem dX4_sure_29 : decode cX4_sure 29 = .ok (.bipush (-3), 2) := dk_16 253 (dk_at dksX4_sure_1 6 rfl rfl)
theorem dX4_sure_31 : decode cX4_sure 31 = .ok (.ireturn, 1) := dk_172 (dk_at dksX4_sure_1 8 rfl rfl)
theorem dX4_sure_32 : decode cX4_sure 32 = .ok (.iconst 0, 1) := dk_3 (dk_at dksX4_sure_1 9 rfl rfl)
theorem dX4_sure_33 : decode cX4_sure 33 = .ok (.istore_n 3, 1) := dk_62 (dk_at dksX4_sure_1 10 rfl rfl)
theorem dX4_sure_34 : decode cX4_sure 34 = .ok (.iload_n 3, 1) := dk_29 (dk_at dksX4_sure_1 11 rfl rfl)
theorem dX4_sure_35 : decode cX4_sure 35 = .ok (.aload_n 0, 1) := dk_42 (dk_at dksX4_sure_1 12 rfl rfl)
theorem dX4_sure_36 : decode cX4_sure 36 = .ok (.invokevirtual 365, 3) := dk_182 1 109 (dk_at dksX4_sure_1 13 rfl rfl)
theorem dX4_sure_39 : decode cX4_sure 39 = .ok (.if_icmp .gt 41, 3) := dk_163 0 41 (dk_at dksX4_sure_1 16 rfl rfl)
theorem dX4_sure_42 : decode cX4_sure 42 = .ok (.aload_n 0, 1) := dk_42 (dk_at dksX4_sure_1 19 rfl rfl)
theorem dX4_sure_43 : decode cX4_sure 43 = .ok (.getfield 124, 3) := dk_180 0 124 (dk_at dksX4_sure_1 20 rfl rfl)
theorem dX4_sure_46 : decode cX4_sure 46 = .ok (.bipush 6, 2) := dk_16 6 (dk_at dksX4_sure_2 0 rfl rfl)
theorem dX4_sure_48 : decode cX4_sure 48 = .ok (.iload_n 1, 1) := dk_27 (dk_at dksX4_sure_2 2 rfl rfl)
theorem dX4_sure_49 : decode cX4_sure 49 = .ok (.imul, 1) := dk_104 (dk_at dksX4_sure_2 3 rfl rfl)
theorem dX4_sure_50 : decode cX4_sure 50 = .ok (.iload_n 3, 1) := dk_29 (dk_at dksX4_sure_2 4 rfl rfl)
theorem dX4_sure_51 : decode cX4_sure 51 = .ok (.iadd, 1) := dk_96 (dk_at dksX4_sure_2 5 rfl rfl)
theorem dX4_sure_52 : decode cX4_sure 52 = .ok (.iaload, 1) := dk_46 (dk_at dksX4_sure_2 6 rfl rfl)
theorem dX4_sure_53 : decode cX4_sure 53 = .ok (.aload_n 0, 1) := dk_42 (dk_at dksX4_sure_2 7 rfl rfl)
theorem dX4_sure_54 : decode cX4_sure 54 = .ok (.getfield 492, 3) := dk_180 1 236 (dk_at dksX4_sure_2 8 rfl rfl)
theorem dX4_sure_57 : decode cX4_sure 57 = .ok (.if_icmp .ne 17, 3) := dk_160 0 17 (dk_at dksX4_sure_2 11 rfl rfl)
theorem dX4_sure_60 : decode cX4_sure 60 = .ok (.iload_n 3, 1) := dk_29 (dk_at dksX4_sure_2 14 rfl rfl)
theorem dX4_sure_61 : decode cX4_sure 61 = .ok (.aload_n 0, 1) := dk_42 (dk_at dksX4_sure_2 15 rfl rfl)
theorem dX4_sure_62 : decode cX4_sure 62 = .ok (.invokevirtual 365, 3) := dk_182 1 109 (dk_at dksX4_sure_2 16 rfl rfl)
theorem dX4_sure_65 : decode cX4_sure 65 = .ok (.if_icmp .ne 7, 3) := dk_160 0 7 (dk_at dksX4_sure_2 19 rfl rfl)
theorem dX4_sure_68 : decode cX4_sure 68 = .ok (.iconst (-1), 1) := dk_2 (dk_at dksX4_sure_2 22 rfl rfl)
theorem dX4_sure_69 : decode cX4_sure 69 = .ok (.goto 4, 3) := dk_167 0 4 (dk_at dksX4_sure_3 0 rfl rfl)
theorem dX4_sure_72 : decode cX4_sure 72 = .ok (.iload_n 3, 1) := dk_29 (dk_at dksX4_sure_3 3 rfl rfl)
theorem dX4_sure_73 : decode cX4_sure 73 = .ok (.ireturn, 1) := dk_172 (dk_at dksX4_sure_3 4 rfl rfl)
theorem dX4_sure_74 : decode cX4_sure 74 = .ok (.iinc 3 1, 3) := dk_132 3 1 (dk_at dksX4_sure_3 5 rfl rfl)
theorem dX4_sure_77 : decode cX4_sure 77 = .ok (.goto (-43), 3) := dk_167 255 213 (dk_at dksX4_sure_3 8 rfl rfl)
theorem dX4_sure_80 : decode cX4_sure 80 = .ok (.bipush (-2), 2) := dk_16 254 (dk_at dksX4_sure_3 11 rfl rfl)
theorem dX4_sure_82 : decode cX4_sure 82 = .ok (.ireturn, 1) := dk_172 (dk_at dksX4_sure_3 13 rfl rfl)
abbrev cX4_ask : ByteArray := prog_23_method_134_code
def yX4_ask : MethodName := ⟨RX4, "ask", "(II)I"⟩
def dkwX4_ask_3 : List UInt8 := [27, 154, 0, 7, 29, 167, 0, 9, 42, 29, 28, 182, 1, 252, 172]
abbrev dktX4_ask_3 : List UInt8 := dkwX4_ask_3 ++ []
def dkwX4_ask_2 : List UInt8 := [21, 4, 28, 182, 1, 252, 42, 29, 28, 182, 1, 252, 162, 0, 6, 21, 4, 62, 132, 4, 1, 167, 255, 225]
abbrev dktX4_ask_2 : List UInt8 := dkwX4_ask_2 ++ dktX4_ask_3
def dkwX4_ask_1 : List UInt8 := [180, 1, 236, 154, 0, 5, 2, 172, 3, 62, 4, 54, 4, 21, 4, 42, 182, 1, 109, 162, 0, 28, 42]
abbrev dktX4_ask_1 : List UInt8 := dkwX4_ask_1 ++ dktX4_ask_2
def dkwX4_ask_0 : List UInt8 := [27, 3, 4, 184, 1, 105, 153, 0, 10, 42, 182, 1, 109, 154, 0, 5, 2, 172, 42, 28, 182, 1, 248, 42]
abbrev dktX4_ask_0 : List UInt8 := dkwX4_ask_0 ++ dktX4_ask_1
theorem dksX4_ask_0 : cX4_ask.data.toList.drop 0 = dktX4_ask_0 := by decide +kernel
theorem dksX4_ask_1 : cX4_ask.data.toList.drop 24 = dktX4_ask_1 := dk_seg dksX4_ask_0 24 rfl rfl
theorem dksX4_ask_2 : cX4_ask.data.toList.drop 47 = dktX4_ask_2 := dk_seg dksX4_ask_1 23 rfl rfl
theorem dksX4_ask_3 : cX4_ask.data.toList.drop 71 = dktX4_ask_3 := dk_seg dksX4_ask_2 24 rfl rfl
theorem dX4_ask_0 : decode cX4_ask 0 = .ok (.iload_n 1, 1) := dk_27 (dk_at dksX4_ask_0 0 rfl rfl)
theorem dX4_ask_1 : decode cX4_ask 1 = .ok (.iconst 0, 1) := dk_3 (dk_at dksX4_ask_0 1 rfl rfl)
theorem dX4_ask_2 : decode cX4_ask 2 = .ok (.iconst 1, 1) := dk_4 (dk_at dksX4_ask_0 2 rfl rfl)
theorem dX4_ask_3 : decode cX4_ask 3 = .ok (.invokestatic 361, 3) := dk_184 1 105 (dk_at dksX4_ask_0 3 rfl rfl)
theorem dX4_ask_6 : decode cX4_ask 6 = .ok (.ifCond .eq 10, 3) := dk_153 0 10 (dk_at dksX4_ask_0 6 rfl rfl)
theorem dX4_ask_9 : decode cX4_ask 9 = .ok (.aload_n 0, 1) := dk_42 (dk_at dksX4_ask_0 9 rfl rfl)
theorem dX4_ask_10 : decode cX4_ask 10 = .ok (.invokevirtual 365, 3) := dk_182 1 109 (dk_at dksX4_ask_0 10 rfl rfl)
theorem dX4_ask_13 : decode cX4_ask 13 = .ok (.ifCond .ne 5, 3) := dk_154 0 5 (dk_at dksX4_ask_0 13 rfl rfl)
theorem dX4_ask_16 : decode cX4_ask 16 = .ok (.iconst (-1), 1) := dk_2 (dk_at dksX4_ask_0 16 rfl rfl)
theorem dX4_ask_17 : decode cX4_ask 17 = .ok (.ireturn, 1) := dk_172 (dk_at dksX4_ask_0 17 rfl rfl)
theorem dX4_ask_18 : decode cX4_ask 18 = .ok (.aload_n 0, 1) := dk_42 (dk_at dksX4_ask_0 18 rfl rfl)
theorem dX4_ask_19 : decode cX4_ask 19 = .ok (.iload_n 2, 1) := dk_28 (dk_at dksX4_ask_0 19 rfl rfl)
theorem dX4_ask_20 : decode cX4_ask 20 = .ok (.invokevirtual 504, 3) := dk_182 1 248 (dk_at dksX4_ask_0 20 rfl rfl)
theorem dX4_ask_23 : decode cX4_ask 23 = .ok (.aload_n 0, 1) := dk_42 (dk_at dksX4_ask_0 23 rfl rfl)
theorem dX4_ask_24 : decode cX4_ask 24 = .ok (.getfield 492, 3) := dk_180 1 236 (dk_at dksX4_ask_1 0 rfl rfl)
theorem dX4_ask_27 : decode cX4_ask 27 = .ok (.ifCond .ne 5, 3) := dk_154 0 5 (dk_at dksX4_ask_1 3 rfl rfl)
theorem dX4_ask_30 : decode cX4_ask 30 = .ok (.iconst (-1), 1) := dk_2 (dk_at dksX4_ask_1 6 rfl rfl)
theorem dX4_ask_31 : decode cX4_ask 31 = .ok (.ireturn, 1) := dk_172 (dk_at dksX4_ask_1 7 rfl rfl)
theorem dX4_ask_32 : decode cX4_ask 32 = .ok (.iconst 0, 1) := dk_3 (dk_at dksX4_ask_1 8 rfl rfl)
theorem dX4_ask_33 : decode cX4_ask 33 = .ok (.istore_n 3, 1) := dk_62 (dk_at dksX4_ask_1 9 rfl rfl)
theorem dX4_ask_34 : decode cX4_ask 34 = .ok (.iconst 1, 1) := dk_4 (dk_at dksX4_ask_1 10 rfl rfl)
theorem dX4_ask_35 : decode cX4_ask 35 = .ok (.istore 4, 2) := dk_54 4 (dk_at dksX4_ask_1 11 rfl rfl)
theorem dX4_ask_37 : decode cX4_ask 37 = .ok (.iload 4, 2) := dk_21 4 (dk_at dksX4_ask_1 13 rfl rfl)
theorem dX4_ask_39 : decode cX4_ask 39 = .ok (.aload_n 0, 1) := dk_42 (dk_at dksX4_ask_1 15 rfl rfl)
theorem dX4_ask_40 : decode cX4_ask 40 = .ok (.invokevirtual 365, 3) := dk_182 1 109 (dk_at dksX4_ask_1 16 rfl rfl)
theorem dX4_ask_43 : decode cX4_ask 43 = .ok (.if_icmp .ge 28, 3) := dk_162 0 28 (dk_at dksX4_ask_1 19 rfl rfl)
theorem dX4_ask_46 : decode cX4_ask 46 = .ok (.aload_n 0, 1) := dk_42 (dk_at dksX4_ask_1 22 rfl rfl)
theorem dX4_ask_47 : decode cX4_ask 47 = .ok (.iload 4, 2) := dk_21 4 (dk_at dksX4_ask_2 0 rfl rfl)
theorem dX4_ask_49 : decode cX4_ask 49 = .ok (.iload_n 2, 1) := dk_28 (dk_at dksX4_ask_2 2 rfl rfl)
theorem dX4_ask_50 : decode cX4_ask 50 = .ok (.invokevirtual 508, 3) := dk_182 1 252 (dk_at dksX4_ask_2 3 rfl rfl)
theorem dX4_ask_53 : decode cX4_ask 53 = .ok (.aload_n 0, 1) := dk_42 (dk_at dksX4_ask_2 6 rfl rfl)
theorem dX4_ask_54 : decode cX4_ask 54 = .ok (.iload_n 3, 1) := dk_29 (dk_at dksX4_ask_2 7 rfl rfl)
theorem dX4_ask_55 : decode cX4_ask 55 = .ok (.iload_n 2, 1) := dk_28 (dk_at dksX4_ask_2 8 rfl rfl)
theorem dX4_ask_56 : decode cX4_ask 56 = .ok (.invokevirtual 508, 3) := dk_182 1 252 (dk_at dksX4_ask_2 9 rfl rfl)
theorem dX4_ask_59 : decode cX4_ask 59 = .ok (.if_icmp .ge 6, 3) := dk_162 0 6 (dk_at dksX4_ask_2 12 rfl rfl)
theorem dX4_ask_62 : decode cX4_ask 62 = .ok (.iload 4, 2) := dk_21 4 (dk_at dksX4_ask_2 15 rfl rfl)
theorem dX4_ask_64 : decode cX4_ask 64 = .ok (.istore_n 3, 1) := dk_62 (dk_at dksX4_ask_2 17 rfl rfl)
theorem dX4_ask_65 : decode cX4_ask 65 = .ok (.iinc 4 1, 3) := dk_132 4 1 (dk_at dksX4_ask_2 18 rfl rfl)
theorem dX4_ask_68 : decode cX4_ask 68 = .ok (.goto (-31), 3) := dk_167 255 225 (dk_at dksX4_ask_2 21 rfl rfl)
theorem dX4_ask_71 : decode cX4_ask 71 = .ok (.iload_n 1, 1) := dk_27 (dk_at dksX4_ask_3 0 rfl rfl)
theorem dX4_ask_72 : decode cX4_ask 72 = .ok (.ifCond .ne 7, 3) := dk_154 0 7 (dk_at dksX4_ask_3 1 rfl rfl)
theorem dX4_ask_75 : decode cX4_ask 75 = .ok (.iload_n 3, 1) := dk_29 (dk_at dksX4_ask_3 4 rfl rfl)
theorem dX4_ask_76 : decode cX4_ask 76 = .ok (.goto 9, 3) := dk_167 0 9 (dk_at dksX4_ask_3 5 rfl rfl)
theorem dX4_ask_79 : decode cX4_ask 79 = .ok (.aload_n 0, 1) := dk_42 (dk_at dksX4_ask_3 8 rfl rfl)
theorem dX4_ask_80 : decode cX4_ask 80 = .ok (.iload_n 3, 1) := dk_29 (dk_at dksX4_ask_3 9 rfl rfl)
theorem dX4_ask_81 : decode cX4_ask 81 = .ok (.iload_n 2, 1) := dk_28 (dk_at dksX4_ask_3 10 rfl rfl)
theorem dX4_ask_82 : decode cX4_ask 82 = .ok (.invokevirtual 508, 3) := dk_182 1 252 (dk_at dksX4_ask_3 11 rfl rfl)
theorem dX4_ask_85 : decode cX4_ask 85 = .ok (.ireturn, 1) := dk_172 (dk_at dksX4_ask_3 14 rfl rfl)
abbrev cX4_mostBy : ByteArray := prog_23_method_133_code
def yX4_mostBy : MethodName := ⟨RX4, "mostBy", "(II)I"⟩
def dkwX4_mostBy_4 : List UInt8 := [167, 255, 188, 29, 172]
abbrev dktX4_mostBy_4 : List UInt8 := dkwX4_mostBy_4 ++ []
def dkwX4_mostBy_3 : List UInt8 := [42, 180, 0, 127, 21, 5, 46, 29, 164, 0, 11, 42, 180, 0, 127, 21, 5, 46, 62, 132, 4, 1]
abbrev dktX4_mostBy_3 : List UInt8 := dkwX4_mostBy_3 ++ dktX4_mostBy_4
def dkwX4_mostBy_2 : List UInt8 := [42, 180, 0, 106, 8, 21, 4, 104, 27, 96, 46, 54, 5, 42, 180, 0, 127, 21, 5, 92, 46, 4, 96, 79]
abbrev dktX4_mostBy_2 : List UInt8 := dkwX4_mostBy_2 ++ dktX4_mostBy_3
def dkwX4_mostBy_1 : List UInt8 := [54, 4, 21, 4, 42, 182, 1, 242, 162, 0, 65, 42, 21, 4, 28, 182, 1, 245, 154, 0, 6, 167, 0, 46]
abbrev dktX4_mostBy_1 : List UInt8 := dkwX4_mostBy_1 ++ dktX4_mostBy_2
def dkwX4_mostBy_0 : List UInt8 := [3, 62, 29, 16, 11, 162, 0, 16, 42, 180, 0, 127, 29, 3, 79, 132, 3, 1, 167, 255, 240, 3, 62, 3]
abbrev dktX4_mostBy_0 : List UInt8 := dkwX4_mostBy_0 ++ dktX4_mostBy_1
theorem dksX4_mostBy_0 : cX4_mostBy.data.toList.drop 0 = dktX4_mostBy_0 := by decide +kernel
theorem dksX4_mostBy_1 : cX4_mostBy.data.toList.drop 24 = dktX4_mostBy_1 := dk_seg dksX4_mostBy_0 24 rfl rfl
theorem dksX4_mostBy_2 : cX4_mostBy.data.toList.drop 48 = dktX4_mostBy_2 := dk_seg dksX4_mostBy_1 24 rfl rfl
theorem dksX4_mostBy_3 : cX4_mostBy.data.toList.drop 72 = dktX4_mostBy_3 := dk_seg dksX4_mostBy_2 24 rfl rfl
theorem dksX4_mostBy_4 : cX4_mostBy.data.toList.drop 94 = dktX4_mostBy_4 := dk_seg dksX4_mostBy_3 22 rfl rfl
theorem dX4_mostBy_0 : decode cX4_mostBy 0 = .ok (.iconst 0, 1) := dk_3 (dk_at dksX4_mostBy_0 0 rfl rfl)
theorem dX4_mostBy_1 : decode cX4_mostBy 1 = .ok (.istore_n 3, 1) := dk_62 (dk_at dksX4_mostBy_0 1 rfl rfl)
theorem dX4_mostBy_2 : decode cX4_mostBy 2 = .ok (.iload_n 3, 1) := dk_29 (dk_at dksX4_mostBy_0 2 rfl rfl)
theorem dX4_mostBy_3 : decode cX4_mostBy 3 = .ok (.bipush 11, 2) := dk_16 11 (dk_at dksX4_mostBy_0 3 rfl rfl)
theorem dX4_mostBy_5 : decode cX4_mostBy 5 = .ok (.if_icmp .ge 16, 3) := dk_162 0 16 (dk_at dksX4_mostBy_0 5 rfl rfl)
theorem dX4_mostBy_8 : decode cX4_mostBy 8 = .ok (.aload_n 0, 1) := dk_42 (dk_at dksX4_mostBy_0 8 rfl rfl)
theorem dX4_mostBy_9 : decode cX4_mostBy 9 = .ok (.getfield 127, 3) := dk_180 0 127 (dk_at dksX4_mostBy_0 9 rfl rfl)
theorem dX4_mostBy_12 : decode cX4_mostBy 12 = .ok (.iload_n 3, 1) := dk_29 (dk_at dksX4_mostBy_0 12 rfl rfl)
theorem dX4_mostBy_13 : decode cX4_mostBy 13 = .ok (.iconst 0, 1) := dk_3 (dk_at dksX4_mostBy_0 13 rfl rfl)
theorem dX4_mostBy_14 : decode cX4_mostBy 14 = .ok (.iastore, 1) := dk_79 (dk_at dksX4_mostBy_0 14 rfl rfl)
theorem dX4_mostBy_15 : decode cX4_mostBy 15 = .ok (.iinc 3 1, 3) := dk_132 3 1 (dk_at dksX4_mostBy_0 15 rfl rfl)
theorem dX4_mostBy_18 : decode cX4_mostBy 18 = .ok (.goto (-16), 3) := dk_167 255 240 (dk_at dksX4_mostBy_0 18 rfl rfl)
theorem dX4_mostBy_21 : decode cX4_mostBy 21 = .ok (.iconst 0, 1) := dk_3 (dk_at dksX4_mostBy_0 21 rfl rfl)
theorem dX4_mostBy_22 : decode cX4_mostBy 22 = .ok (.istore_n 3, 1) := dk_62 (dk_at dksX4_mostBy_0 22 rfl rfl)
theorem dX4_mostBy_23 : decode cX4_mostBy 23 = .ok (.iconst 0, 1) := dk_3 (dk_at dksX4_mostBy_0 23 rfl rfl)
theorem dX4_mostBy_24 : decode cX4_mostBy 24 = .ok (.istore 4, 2) := dk_54 4 (dk_at dksX4_mostBy_1 0 rfl rfl)
theorem dX4_mostBy_26 : decode cX4_mostBy 26 = .ok (.iload 4, 2) := dk_21 4 (dk_at dksX4_mostBy_1 2 rfl rfl)
theorem dX4_mostBy_28 : decode cX4_mostBy 28 = .ok (.aload_n 0, 1) := dk_42 (dk_at dksX4_mostBy_1 4 rfl rfl)
theorem dX4_mostBy_29 : decode cX4_mostBy 29 = .ok (.invokevirtual 498, 3) := dk_182 1 242 (dk_at dksX4_mostBy_1 5 rfl rfl)
theorem dX4_mostBy_32 : decode cX4_mostBy 32 = .ok (.if_icmp .ge 65, 3) := dk_162 0 65 (dk_at dksX4_mostBy_1 8 rfl rfl)
theorem dX4_mostBy_35 : decode cX4_mostBy 35 = .ok (.aload_n 0, 1) := dk_42 (dk_at dksX4_mostBy_1 11 rfl rfl)
theorem dX4_mostBy_36 : decode cX4_mostBy 36 = .ok (.iload 4, 2) := dk_21 4 (dk_at dksX4_mostBy_1 12 rfl rfl)
theorem dX4_mostBy_38 : decode cX4_mostBy 38 = .ok (.iload_n 2, 1) := dk_28 (dk_at dksX4_mostBy_1 14 rfl rfl)
theorem dX4_mostBy_39 : decode cX4_mostBy 39 = .ok (.invokevirtual 501, 3) := dk_182 1 245 (dk_at dksX4_mostBy_1 15 rfl rfl)
theorem dX4_mostBy_42 : decode cX4_mostBy 42 = .ok (.ifCond .ne 6, 3) := dk_154 0 6 (dk_at dksX4_mostBy_1 18 rfl rfl)
theorem dX4_mostBy_45 : decode cX4_mostBy 45 = .ok (.goto 46, 3) := dk_167 0 46 (dk_at dksX4_mostBy_1 21 rfl rfl)
theorem dX4_mostBy_48 : decode cX4_mostBy 48 = .ok (.aload_n 0, 1) := dk_42 (dk_at dksX4_mostBy_2 0 rfl rfl)
theorem dX4_mostBy_49 : decode cX4_mostBy 49 = .ok (.getfield 106, 3) := dk_180 0 106 (dk_at dksX4_mostBy_2 1 rfl rfl)
theorem dX4_mostBy_52 : decode cX4_mostBy 52 = .ok (.iconst 5, 1) := dk_8 (dk_at dksX4_mostBy_2 4 rfl rfl)
theorem dX4_mostBy_53 : decode cX4_mostBy 53 = .ok (.iload 4, 2) := dk_21 4 (dk_at dksX4_mostBy_2 5 rfl rfl)
theorem dX4_mostBy_55 : decode cX4_mostBy 55 = .ok (.imul, 1) := dk_104 (dk_at dksX4_mostBy_2 7 rfl rfl)
theorem dX4_mostBy_56 : decode cX4_mostBy 56 = .ok (.iload_n 1, 1) := dk_27 (dk_at dksX4_mostBy_2 8 rfl rfl)
theorem dX4_mostBy_57 : decode cX4_mostBy 57 = .ok (.iadd, 1) := dk_96 (dk_at dksX4_mostBy_2 9 rfl rfl)
theorem dX4_mostBy_58 : decode cX4_mostBy 58 = .ok (.iaload, 1) := dk_46 (dk_at dksX4_mostBy_2 10 rfl rfl)
theorem dX4_mostBy_59 : decode cX4_mostBy 59 = .ok (.istore 5, 2) := dk_54 5 (dk_at dksX4_mostBy_2 11 rfl rfl)
theorem dX4_mostBy_61 : decode cX4_mostBy 61 = .ok (.aload_n 0, 1) := dk_42 (dk_at dksX4_mostBy_2 13 rfl rfl)
theorem dX4_mostBy_62 : decode cX4_mostBy 62 = .ok (.getfield 127, 3) := dk_180 0 127 (dk_at dksX4_mostBy_2 14 rfl rfl)
theorem dX4_mostBy_65 : decode cX4_mostBy 65 = .ok (.iload 5, 2) := dk_21 5 (dk_at dksX4_mostBy_2 17 rfl rfl)
theorem dX4_mostBy_67 : decode cX4_mostBy 67 = .ok (.dup2, 1) := dk_92 (dk_at dksX4_mostBy_2 19 rfl rfl)
theorem dX4_mostBy_68 : decode cX4_mostBy 68 = .ok (.iaload, 1) := dk_46 (dk_at dksX4_mostBy_2 20 rfl rfl)
theorem dX4_mostBy_69 : decode cX4_mostBy 69 = .ok (.iconst 1, 1) := dk_4 (dk_at dksX4_mostBy_2 21 rfl rfl)
theorem dX4_mostBy_70 : decode cX4_mostBy 70 = .ok (.iadd, 1) := dk_96 (dk_at dksX4_mostBy_2 22 rfl rfl)
theorem dX4_mostBy_71 : decode cX4_mostBy 71 = .ok (.iastore, 1) := dk_79 (dk_at dksX4_mostBy_2 23 rfl rfl)
theorem dX4_mostBy_72 : decode cX4_mostBy 72 = .ok (.aload_n 0, 1) := dk_42 (dk_at dksX4_mostBy_3 0 rfl rfl)
theorem dX4_mostBy_73 : decode cX4_mostBy 73 = .ok (.getfield 127, 3) := dk_180 0 127 (dk_at dksX4_mostBy_3 1 rfl rfl)
theorem dX4_mostBy_76 : decode cX4_mostBy 76 = .ok (.iload 5, 2) := dk_21 5 (dk_at dksX4_mostBy_3 4 rfl rfl)
theorem dX4_mostBy_78 : decode cX4_mostBy 78 = .ok (.iaload, 1) := dk_46 (dk_at dksX4_mostBy_3 6 rfl rfl)
theorem dX4_mostBy_79 : decode cX4_mostBy 79 = .ok (.iload_n 3, 1) := dk_29 (dk_at dksX4_mostBy_3 7 rfl rfl)
theorem dX4_mostBy_80 : decode cX4_mostBy 80 = .ok (.if_icmp .le 11, 3) := dk_164 0 11 (dk_at dksX4_mostBy_3 8 rfl rfl)
theorem dX4_mostBy_83 : decode cX4_mostBy 83 = .ok (.aload_n 0, 1) := dk_42 (dk_at dksX4_mostBy_3 11 rfl rfl)
theorem dX4_mostBy_84 : decode cX4_mostBy 84 = .ok (.getfield 127, 3) := dk_180 0 127 (dk_at dksX4_mostBy_3 12 rfl rfl)
theorem dX4_mostBy_87 : decode cX4_mostBy 87 = .ok (.iload 5, 2) := dk_21 5 (dk_at dksX4_mostBy_3 15 rfl rfl)
theorem dX4_mostBy_89 : decode cX4_mostBy 89 = .ok (.iaload, 1) := dk_46 (dk_at dksX4_mostBy_3 17 rfl rfl)
theorem dX4_mostBy_90 : decode cX4_mostBy 90 = .ok (.istore_n 3, 1) := dk_62 (dk_at dksX4_mostBy_3 18 rfl rfl)
theorem dX4_mostBy_91 : decode cX4_mostBy 91 = .ok (.iinc 4 1, 3) := dk_132 4 1 (dk_at dksX4_mostBy_3 19 rfl rfl)
theorem dX4_mostBy_94 : decode cX4_mostBy 94 = .ok (.goto (-68), 3) := dk_167 255 188 (dk_at dksX4_mostBy_4 0 rfl rfl)
theorem dX4_mostBy_97 : decode cX4_mostBy 97 = .ok (.iload_n 3, 1) := dk_29 (dk_at dksX4_mostBy_4 3 rfl rfl)
theorem dX4_mostBy_98 : decode cX4_mostBy 98 = .ok (.ireturn, 1) := dk_172 (dk_at dksX4_mostBy_4 4 rfl rfl)
abbrev cX4_image : ByteArray := prog_23_method_135_code
def yX4_image : MethodName := ⟨RX4, "image", "(I)I"⟩
def dkwX4_image_2 : List UInt8 := [4, 84, 42, 180, 0, 88, 16, 17, 46, 172]
abbrev dktX4_image_2 : List UInt8 := dkwX4_image_2 ++ []
def dkwX4_image_1 : List UInt8 := [16, 19, 27, 104, 28, 96, 42, 180, 0, 88, 28, 46, 79, 132, 2, 1, 167, 255, 230, 42, 180, 0, 133, 27]
abbrev dktX4_image_1 : List UInt8 := dkwX4_image_1 ++ dktX4_image_2
def dkwX4_image_0 : List UInt8 := [27, 3, 5, 184, 1, 105, 154, 0, 5, 2, 172, 3, 61, 28, 16, 19, 162, 0, 26, 42, 180, 0, 130]
abbrev dktX4_image_0 : List UInt8 := dkwX4_image_0 ++ dktX4_image_1
theorem dksX4_image_0 : cX4_image.data.toList.drop 0 = dktX4_image_0 := by decide +kernel
theorem dksX4_image_1 : cX4_image.data.toList.drop 23 = dktX4_image_1 := dk_seg dksX4_image_0 23 rfl rfl
theorem dksX4_image_2 : cX4_image.data.toList.drop 47 = dktX4_image_2 := dk_seg dksX4_image_1 24 rfl rfl
theorem dX4_image_0 : decode cX4_image 0 = .ok (.iload_n 1, 1) := dk_27 (dk_at dksX4_image_0 0 rfl rfl)
theorem dX4_image_1 : decode cX4_image 1 = .ok (.iconst 0, 1) := dk_3 (dk_at dksX4_image_0 1 rfl rfl)
theorem dX4_image_2 : decode cX4_image 2 = .ok (.iconst 2, 1) := dk_5 (dk_at dksX4_image_0 2 rfl rfl)
theorem dX4_image_3 : decode cX4_image 3 = .ok (.invokestatic 361, 3) := dk_184 1 105 (dk_at dksX4_image_0 3 rfl rfl)
theorem dX4_image_6 : decode cX4_image 6 = .ok (.ifCond .ne 5, 3) := dk_154 0 5 (dk_at dksX4_image_0 6 rfl rfl)
theorem dX4_image_9 : decode cX4_image 9 = .ok (.iconst (-1), 1) := dk_2 (dk_at dksX4_image_0 9 rfl rfl)
theorem dX4_image_10 : decode cX4_image 10 = .ok (.ireturn, 1) := dk_172 (dk_at dksX4_image_0 10 rfl rfl)
theorem dX4_image_11 : decode cX4_image 11 = .ok (.iconst 0, 1) := dk_3 (dk_at dksX4_image_0 11 rfl rfl)
theorem dX4_image_12 : decode cX4_image 12 = .ok (.istore_n 2, 1) := dk_61 (dk_at dksX4_image_0 12 rfl rfl)
theorem dX4_image_13 : decode cX4_image 13 = .ok (.iload_n 2, 1) := dk_28 (dk_at dksX4_image_0 13 rfl rfl)
theorem dX4_image_14 : decode cX4_image 14 = .ok (.bipush 19, 2) := dk_16 19 (dk_at dksX4_image_0 14 rfl rfl)
theorem dX4_image_16 : decode cX4_image 16 = .ok (.if_icmp .ge 26, 3) := dk_162 0 26 (dk_at dksX4_image_0 16 rfl rfl)
theorem dX4_image_19 : decode cX4_image 19 = .ok (.aload_n 0, 1) := dk_42 (dk_at dksX4_image_0 19 rfl rfl)
theorem dX4_image_20 : decode cX4_image 20 = .ok (.getfield 130, 3) := dk_180 0 130 (dk_at dksX4_image_0 20 rfl rfl)
theorem dX4_image_23 : decode cX4_image 23 = .ok (.bipush 19, 2) := dk_16 19 (dk_at dksX4_image_1 0 rfl rfl)
theorem dX4_image_25 : decode cX4_image 25 = .ok (.iload_n 1, 1) := dk_27 (dk_at dksX4_image_1 2 rfl rfl)
theorem dX4_image_26 : decode cX4_image 26 = .ok (.imul, 1) := dk_104 (dk_at dksX4_image_1 3 rfl rfl)
theorem dX4_image_27 : decode cX4_image 27 = .ok (.iload_n 2, 1) := dk_28 (dk_at dksX4_image_1 4 rfl rfl)
theorem dX4_image_28 : decode cX4_image 28 = .ok (.iadd, 1) := dk_96 (dk_at dksX4_image_1 5 rfl rfl)
theorem dX4_image_29 : decode cX4_image 29 = .ok (.aload_n 0, 1) := dk_42 (dk_at dksX4_image_1 6 rfl rfl)
theorem dX4_image_30 : decode cX4_image 30 = .ok (.getfield 88, 3) := dk_180 0 88 (dk_at dksX4_image_1 7 rfl rfl)
theorem dX4_image_33 : decode cX4_image 33 = .ok (.iload_n 2, 1) := dk_28 (dk_at dksX4_image_1 10 rfl rfl)
theorem dX4_image_34 : decode cX4_image 34 = .ok (.iaload, 1) := dk_46 (dk_at dksX4_image_1 11 rfl rfl)
theorem dX4_image_35 : decode cX4_image 35 = .ok (.iastore, 1) := dk_79 (dk_at dksX4_image_1 12 rfl rfl)
theorem dX4_image_36 : decode cX4_image 36 = .ok (.iinc 2 1, 3) := dk_132 2 1 (dk_at dksX4_image_1 13 rfl rfl)
theorem dX4_image_39 : decode cX4_image 39 = .ok (.goto (-26), 3) := dk_167 255 230 (dk_at dksX4_image_1 16 rfl rfl)
theorem dX4_image_42 : decode cX4_image 42 = .ok (.aload_n 0, 1) := dk_42 (dk_at dksX4_image_1 19 rfl rfl)
theorem dX4_image_43 : decode cX4_image 43 = .ok (.getfield 133, 3) := dk_180 0 133 (dk_at dksX4_image_1 20 rfl rfl)
theorem dX4_image_46 : decode cX4_image 46 = .ok (.iload_n 1, 1) := dk_27 (dk_at dksX4_image_1 23 rfl rfl)
theorem dX4_image_47 : decode cX4_image 47 = .ok (.iconst 1, 1) := dk_4 (dk_at dksX4_image_2 0 rfl rfl)
theorem dX4_image_48 : decode cX4_image 48 = .ok (.bastore, 1) := dk_84 (dk_at dksX4_image_2 1 rfl rfl)
theorem dX4_image_49 : decode cX4_image 49 = .ok (.aload_n 0, 1) := dk_42 (dk_at dksX4_image_2 2 rfl rfl)
theorem dX4_image_50 : decode cX4_image 50 = .ok (.getfield 88, 3) := dk_180 0 88 (dk_at dksX4_image_2 3 rfl rfl)
theorem dX4_image_53 : decode cX4_image 53 = .ok (.bipush 17, 2) := dk_16 17 (dk_at dksX4_image_2 6 rfl rfl)
theorem dX4_image_55 : decode cX4_image 55 = .ok (.iaload, 1) := dk_46 (dk_at dksX4_image_2 8 rfl rfl)
theorem dX4_image_56 : decode cX4_image 56 = .ok (.ireturn, 1) := dk_172 (dk_at dksX4_image_2 9 rfl rfl)
abbrev cX4_back : ByteArray := prog_23_method_136_code
def yX4_back : MethodName := ⟨RX4, "back", "(I)I"⟩
def dkwX4_back_2 : List UInt8 := [132, 2, 1, 167, 255, 230, 42, 3, 181, 1, 118, 42, 3, 181, 1, 121, 42, 180, 0, 88, 16, 17, 46, 172]
abbrev dktX4_back_2 : List UInt8 := dkwX4_back_2 ++ []
def dkwX4_back_1 : List UInt8 := [16, 19, 162, 0, 26, 42, 180, 0, 88, 28, 42, 180, 0, 130, 16, 19, 27, 104, 28, 96, 46, 79]
abbrev dktX4_back_1 : List UInt8 := dkwX4_back_1 ++ dktX4_back_2
def dkwX4_back_0 : List UInt8 := [27, 3, 5, 184, 1, 105, 153, 0, 12, 42, 180, 0, 133, 27, 51, 154, 0, 5, 2, 172, 3, 61, 28]
abbrev dktX4_back_0 : List UInt8 := dkwX4_back_0 ++ dktX4_back_1
theorem dksX4_back_0 : cX4_back.data.toList.drop 0 = dktX4_back_0 := by decide +kernel
theorem dksX4_back_1 : cX4_back.data.toList.drop 23 = dktX4_back_1 := dk_seg dksX4_back_0 23 rfl rfl
theorem dksX4_back_2 : cX4_back.data.toList.drop 45 = dktX4_back_2 := dk_seg dksX4_back_1 22 rfl rfl
theorem dX4_back_0 : decode cX4_back 0 = .ok (.iload_n 1, 1) := dk_27 (dk_at dksX4_back_0 0 rfl rfl)
theorem dX4_back_1 : decode cX4_back 1 = .ok (.iconst 0, 1) := dk_3 (dk_at dksX4_back_0 1 rfl rfl)
theorem dX4_back_2 : decode cX4_back 2 = .ok (.iconst 2, 1) := dk_5 (dk_at dksX4_back_0 2 rfl rfl)
theorem dX4_back_3 : decode cX4_back 3 = .ok (.invokestatic 361, 3) := dk_184 1 105 (dk_at dksX4_back_0 3 rfl rfl)
theorem dX4_back_6 : decode cX4_back 6 = .ok (.ifCond .eq 12, 3) := dk_153 0 12 (dk_at dksX4_back_0 6 rfl rfl)
theorem dX4_back_9 : decode cX4_back 9 = .ok (.aload_n 0, 1) := dk_42 (dk_at dksX4_back_0 9 rfl rfl)
theorem dX4_back_10 : decode cX4_back 10 = .ok (.getfield 133, 3) := dk_180 0 133 (dk_at dksX4_back_0 10 rfl rfl)
theorem dX4_back_13 : decode cX4_back 13 = .ok (.iload_n 1, 1) := dk_27 (dk_at dksX4_back_0 13 rfl rfl)
theorem dX4_back_14 : decode cX4_back 14 = .ok (.baload, 1) := dk_51 (dk_at dksX4_back_0 14 rfl rfl)
theorem dX4_back_15 : decode cX4_back 15 = .ok (.ifCond .ne 5, 3) := dk_154 0 5 (dk_at dksX4_back_0 15 rfl rfl)
theorem dX4_back_18 : decode cX4_back 18 = .ok (.iconst (-1), 1) := dk_2 (dk_at dksX4_back_0 18 rfl rfl)
theorem dX4_back_19 : decode cX4_back 19 = .ok (.ireturn, 1) := dk_172 (dk_at dksX4_back_0 19 rfl rfl)
theorem dX4_back_20 : decode cX4_back 20 = .ok (.iconst 0, 1) := dk_3 (dk_at dksX4_back_0 20 rfl rfl)
theorem dX4_back_21 : decode cX4_back 21 = .ok (.istore_n 2, 1) := dk_61 (dk_at dksX4_back_0 21 rfl rfl)
theorem dX4_back_22 : decode cX4_back 22 = .ok (.iload_n 2, 1) := dk_28 (dk_at dksX4_back_0 22 rfl rfl)
theorem dX4_back_23 : decode cX4_back 23 = .ok (.bipush 19, 2) := dk_16 19 (dk_at dksX4_back_1 0 rfl rfl)
theorem dX4_back_25 : decode cX4_back 25 = .ok (.if_icmp .ge 26, 3) := dk_162 0 26 (dk_at dksX4_back_1 2 rfl rfl)
theorem dX4_back_28 : decode cX4_back 28 = .ok (.aload_n 0, 1) := dk_42 (dk_at dksX4_back_1 5 rfl rfl)
theorem dX4_back_29 : decode cX4_back 29 = .ok (.getfield 88, 3) := dk_180 0 88 (dk_at dksX4_back_1 6 rfl rfl)
theorem dX4_back_32 : decode cX4_back 32 = .ok (.iload_n 2, 1) := dk_28 (dk_at dksX4_back_1 9 rfl rfl)
theorem dX4_back_33 : decode cX4_back 33 = .ok (.aload_n 0, 1) := dk_42 (dk_at dksX4_back_1 10 rfl rfl)
theorem dX4_back_34 : decode cX4_back 34 = .ok (.getfield 130, 3) := dk_180 0 130 (dk_at dksX4_back_1 11 rfl rfl)
theorem dX4_back_37 : decode cX4_back 37 = .ok (.bipush 19, 2) := dk_16 19 (dk_at dksX4_back_1 14 rfl rfl)
theorem dX4_back_39 : decode cX4_back 39 = .ok (.iload_n 1, 1) := dk_27 (dk_at dksX4_back_1 16 rfl rfl)
theorem dX4_back_40 : decode cX4_back 40 = .ok (.imul, 1) := dk_104 (dk_at dksX4_back_1 17 rfl rfl)
theorem dX4_back_41 : decode cX4_back 41 = .ok (.iload_n 2, 1) := dk_28 (dk_at dksX4_back_1 18 rfl rfl)
theorem dX4_back_42 : decode cX4_back 42 = .ok (.iadd, 1) := dk_96 (dk_at dksX4_back_1 19 rfl rfl)
theorem dX4_back_43 : decode cX4_back 43 = .ok (.iaload, 1) := dk_46 (dk_at dksX4_back_1 20 rfl rfl)
theorem dX4_back_44 : decode cX4_back 44 = .ok (.iastore, 1) := dk_79 (dk_at dksX4_back_1 21 rfl rfl)
theorem dX4_back_45 : decode cX4_back 45 = .ok (.iinc 2 1, 3) := dk_132 2 1 (dk_at dksX4_back_2 0 rfl rfl)
theorem dX4_back_48 : decode cX4_back 48 = .ok (.goto (-26), 3) := dk_167 255 230 (dk_at dksX4_back_2 3 rfl rfl)
theorem dX4_back_51 : decode cX4_back 51 = .ok (.aload_n 0, 1) := dk_42 (dk_at dksX4_back_2 6 rfl rfl)
theorem dX4_back_52 : decode cX4_back 52 = .ok (.iconst 0, 1) := dk_3 (dk_at dksX4_back_2 7 rfl rfl)
theorem dX4_back_53 : decode cX4_back 53 = .ok (.putfield 374, 3) := dk_181 1 118 (dk_at dksX4_back_2 8 rfl rfl)
theorem dX4_back_56 : decode cX4_back 56 = .ok (.aload_n 0, 1) := dk_42 (dk_at dksX4_back_2 11 rfl rfl)
theorem dX4_back_57 : decode cX4_back 57 = .ok (.iconst 0, 1) := dk_3 (dk_at dksX4_back_2 12 rfl rfl)
theorem dX4_back_58 : decode cX4_back 58 = .ok (.putfield 377, 3) := dk_181 1 121 (dk_at dksX4_back_2 13 rfl rfl)
theorem dX4_back_61 : decode cX4_back 61 = .ok (.aload_n 0, 1) := dk_42 (dk_at dksX4_back_2 16 rfl rfl)
theorem dX4_back_62 : decode cX4_back 62 = .ok (.getfield 88, 3) := dk_180 0 88 (dk_at dksX4_back_2 17 rfl rfl)
theorem dX4_back_65 : decode cX4_back 65 = .ok (.bipush 17, 2) := dk_16 17 (dk_at dksX4_back_2 20 rfl rfl)
theorem dX4_back_67 : decode cX4_back 67 = .ok (.iaload, 1) := dk_46 (dk_at dksX4_back_2 22 rfl rfl)
theorem dX4_back_68 : decode cX4_back 68 = .ok (.ireturn, 1) := dk_172 (dk_at dksX4_back_2 23 rfl rfl)
abbrev cX4_about : ByteArray := prog_23_method_137_code
def yX4_about : MethodName := ⟨RX4, "about", "(I)I"⟩
def dkwX4_about_6 : List UInt8 := [172, 42, 42, 182, 1, 160, 182, 1, 92, 172, 2, 172]
abbrev dktX4_about_6 : List UInt8 := dkwX4_about_6 ++ []
def dkwX4_about_5 : List UInt8 := [42, 180, 0, 30, 42, 180, 0, 253, 46, 172, 42, 180, 1, 127, 172, 42, 180, 0, 33, 42, 180, 0, 253, 46]
abbrev dktX4_about_5 : List UInt8 := dkwX4_about_5 ++ dktX4_about_6
def dkwX4_about_4 : List UInt8 := [180, 1, 118, 172, 42, 180, 1, 121, 172, 42, 180, 1, 124, 172, 42, 180, 1, 226, 172, 42, 180, 0, 250, 172]
abbrev dktX4_about_4 : List UInt8 := dkwX4_about_4 ++ dktX4_about_5
def dkwX4_about_3 : List UInt8 := [180, 0, 88, 4, 46, 172, 42, 180, 0, 88, 16, 17, 46, 172, 42, 180, 0, 88, 16, 18, 46, 172, 42]
abbrev dktX4_about_3 : List UInt8 := dkwX4_about_3 ++ dktX4_about_4
def dkwX4_about_2 : List UInt8 := [42, 182, 1, 112, 172, 42, 182, 1, 102, 172, 42, 182, 1, 109, 172, 42, 180, 0, 88, 3, 46, 172, 42]
abbrev dktX4_about_2 : List UInt8 := dkwX4_about_2 ++ dktX4_about_3
def dkwX4_about_1 : List UInt8 := [170, 0, 0, 0, 0, 0, 183, 0, 0, 0, 0, 0, 0, 0, 15, 0, 0, 0, 79, 0, 0, 0, 84, 0, 0, 0, 89, 0, 0, 0, 94, 0, 0, 0, 101, 0, 0, 0, 108, 0, 0, 0, 116, 0, 0, 0, 124, 0, 0, 0, 129, 0, 0, 0, 134, 0, 0, 0, 139, 0, 0, 0, 144, 0, 0, 0, 149, 0, 0, 0, 159, 0, 0, 0, 164, 0, 0, 0, 174]
abbrev dktX4_about_1 : List UInt8 := dkwX4_about_1 ++ dktX4_about_2
def dkwX4_about_0 : List UInt8 := [27]
abbrev dktX4_about_0 : List UInt8 := dkwX4_about_0 ++ dktX4_about_1
theorem dksX4_about_0 : cX4_about.data.toList.drop 0 = dktX4_about_0 := by decide +kernel
theorem dksX4_about_1 : cX4_about.data.toList.drop 1 = dktX4_about_1 := dk_seg dksX4_about_0 1 rfl rfl
theorem dksX4_about_2 : cX4_about.data.toList.drop 80 = dktX4_about_2 := dk_seg dksX4_about_1 79 rfl rfl
theorem dksX4_about_3 : cX4_about.data.toList.drop 103 = dktX4_about_3 := dk_seg dksX4_about_2 23 rfl rfl
theorem dksX4_about_4 : cX4_about.data.toList.drop 126 = dktX4_about_4 := dk_seg dksX4_about_3 23 rfl rfl
theorem dksX4_about_5 : cX4_about.data.toList.drop 150 = dktX4_about_5 := dk_seg dksX4_about_4 24 rfl rfl
theorem dksX4_about_6 : cX4_about.data.toList.drop 174 = dktX4_about_6 := dk_seg dksX4_about_5 24 rfl rfl
theorem dX4_about_0 : decode cX4_about 0 = .ok (.iload_n 1, 1) := dk_27 (dk_at dksX4_about_0 0 rfl rfl)
theorem dX4_about_1 : decode cX4_about 1 = .ok (.tableswitch 183 0 15 #[79, 84, 89, 94, 101, 108, 116, 124, 129, 134, 139, 144, 149, 159, 164, 174], 79) := by decide +kernel
theorem dX4_about_80 : decode cX4_about 80 = .ok (.aload_n 0, 1) := dk_42 (dk_at dksX4_about_2 0 rfl rfl)
theorem dX4_about_81 : decode cX4_about 81 = .ok (.invokevirtual 368, 3) := dk_182 1 112 (dk_at dksX4_about_2 1 rfl rfl)
theorem dX4_about_84 : decode cX4_about 84 = .ok (.ireturn, 1) := dk_172 (dk_at dksX4_about_2 4 rfl rfl)
theorem dX4_about_85 : decode cX4_about 85 = .ok (.aload_n 0, 1) := dk_42 (dk_at dksX4_about_2 5 rfl rfl)
theorem dX4_about_86 : decode cX4_about 86 = .ok (.invokevirtual 358, 3) := dk_182 1 102 (dk_at dksX4_about_2 6 rfl rfl)
theorem dX4_about_89 : decode cX4_about 89 = .ok (.ireturn, 1) := dk_172 (dk_at dksX4_about_2 9 rfl rfl)
theorem dX4_about_90 : decode cX4_about 90 = .ok (.aload_n 0, 1) := dk_42 (dk_at dksX4_about_2 10 rfl rfl)
theorem dX4_about_91 : decode cX4_about 91 = .ok (.invokevirtual 365, 3) := dk_182 1 109 (dk_at dksX4_about_2 11 rfl rfl)
theorem dX4_about_94 : decode cX4_about 94 = .ok (.ireturn, 1) := dk_172 (dk_at dksX4_about_2 14 rfl rfl)
theorem dX4_about_95 : decode cX4_about 95 = .ok (.aload_n 0, 1) := dk_42 (dk_at dksX4_about_2 15 rfl rfl)
theorem dX4_about_96 : decode cX4_about 96 = .ok (.getfield 88, 3) := dk_180 0 88 (dk_at dksX4_about_2 16 rfl rfl)
theorem dX4_about_99 : decode cX4_about 99 = .ok (.iconst 0, 1) := dk_3 (dk_at dksX4_about_2 19 rfl rfl)
theorem dX4_about_100 : decode cX4_about 100 = .ok (.iaload, 1) := dk_46 (dk_at dksX4_about_2 20 rfl rfl)
theorem dX4_about_101 : decode cX4_about 101 = .ok (.ireturn, 1) := dk_172 (dk_at dksX4_about_2 21 rfl rfl)
theorem dX4_about_102 : decode cX4_about 102 = .ok (.aload_n 0, 1) := dk_42 (dk_at dksX4_about_2 22 rfl rfl)
theorem dX4_about_103 : decode cX4_about 103 = .ok (.getfield 88, 3) := dk_180 0 88 (dk_at dksX4_about_3 0 rfl rfl)
theorem dX4_about_106 : decode cX4_about 106 = .ok (.iconst 1, 1) := dk_4 (dk_at dksX4_about_3 3 rfl rfl)
theorem dX4_about_107 : decode cX4_about 107 = .ok (.iaload, 1) := dk_46 (dk_at dksX4_about_3 4 rfl rfl)
theorem dX4_about_108 : decode cX4_about 108 = .ok (.ireturn, 1) := dk_172 (dk_at dksX4_about_3 5 rfl rfl)
theorem dX4_about_109 : decode cX4_about 109 = .ok (.aload_n 0, 1) := dk_42 (dk_at dksX4_about_3 6 rfl rfl)
theorem dX4_about_110 : decode cX4_about 110 = .ok (.getfield 88, 3) := dk_180 0 88 (dk_at dksX4_about_3 7 rfl rfl)
theorem dX4_about_113 : decode cX4_about 113 = .ok (.bipush 17, 2) := dk_16 17 (dk_at dksX4_about_3 10 rfl rfl)
theorem dX4_about_115 : decode cX4_about 115 = .ok (.iaload, 1) := dk_46 (dk_at dksX4_about_3 12 rfl rfl)
theorem dX4_about_116 : decode cX4_about 116 = .ok (.ireturn, 1) := dk_172 (dk_at dksX4_about_3 13 rfl rfl)
theorem dX4_about_117 : decode cX4_about 117 = .ok (.aload_n 0, 1) := dk_42 (dk_at dksX4_about_3 14 rfl rfl)
theorem dX4_about_118 : decode cX4_about 118 = .ok (.getfield 88, 3) := dk_180 0 88 (dk_at dksX4_about_3 15 rfl rfl)
theorem dX4_about_121 : decode cX4_about 121 = .ok (.bipush 18, 2) := dk_16 18 (dk_at dksX4_about_3 18 rfl rfl)
theorem dX4_about_123 : decode cX4_about 123 = .ok (.iaload, 1) := dk_46 (dk_at dksX4_about_3 20 rfl rfl)
theorem dX4_about_124 : decode cX4_about 124 = .ok (.ireturn, 1) := dk_172 (dk_at dksX4_about_3 21 rfl rfl)
theorem dX4_about_125 : decode cX4_about 125 = .ok (.aload_n 0, 1) := dk_42 (dk_at dksX4_about_3 22 rfl rfl)
theorem dX4_about_126 : decode cX4_about 126 = .ok (.getfield 374, 3) := dk_180 1 118 (dk_at dksX4_about_4 0 rfl rfl)
theorem dX4_about_129 : decode cX4_about 129 = .ok (.ireturn, 1) := dk_172 (dk_at dksX4_about_4 3 rfl rfl)
theorem dX4_about_130 : decode cX4_about 130 = .ok (.aload_n 0, 1) := dk_42 (dk_at dksX4_about_4 4 rfl rfl)
theorem dX4_about_131 : decode cX4_about 131 = .ok (.getfield 377, 3) := dk_180 1 121 (dk_at dksX4_about_4 5 rfl rfl)
theorem dX4_about_134 : decode cX4_about 134 = .ok (.ireturn, 1) := dk_172 (dk_at dksX4_about_4 8 rfl rfl)
theorem dX4_about_135 : decode cX4_about 135 = .ok (.aload_n 0, 1) := dk_42 (dk_at dksX4_about_4 9 rfl rfl)
theorem dX4_about_136 : decode cX4_about 136 = .ok (.getfield 380, 3) := dk_180 1 124 (dk_at dksX4_about_4 10 rfl rfl)
theorem dX4_about_139 : decode cX4_about 139 = .ok (.ireturn, 1) := dk_172 (dk_at dksX4_about_4 13 rfl rfl)
theorem dX4_about_140 : decode cX4_about 140 = .ok (.aload_n 0, 1) := dk_42 (dk_at dksX4_about_4 14 rfl rfl)
theorem dX4_about_141 : decode cX4_about 141 = .ok (.getfield 482, 3) := dk_180 1 226 (dk_at dksX4_about_4 15 rfl rfl)
theorem dX4_about_144 : decode cX4_about 144 = .ok (.ireturn, 1) := dk_172 (dk_at dksX4_about_4 18 rfl rfl)
theorem dX4_about_145 : decode cX4_about 145 = .ok (.aload_n 0, 1) := dk_42 (dk_at dksX4_about_4 19 rfl rfl)
theorem dX4_about_146 : decode cX4_about 146 = .ok (.getfield 250, 3) := dk_180 0 250 (dk_at dksX4_about_4 20 rfl rfl)
theorem dX4_about_149 : decode cX4_about 149 = .ok (.ireturn, 1) := dk_172 (dk_at dksX4_about_4 23 rfl rfl)
theorem dX4_about_150 : decode cX4_about 150 = .ok (.aload_n 0, 1) := dk_42 (dk_at dksX4_about_5 0 rfl rfl)
theorem dX4_about_151 : decode cX4_about 151 = .ok (.getfield 30, 3) := dk_180 0 30 (dk_at dksX4_about_5 1 rfl rfl)
theorem dX4_about_154 : decode cX4_about 154 = .ok (.aload_n 0, 1) := dk_42 (dk_at dksX4_about_5 4 rfl rfl)
theorem dX4_about_155 : decode cX4_about 155 = .ok (.getfield 253, 3) := dk_180 0 253 (dk_at dksX4_about_5 5 rfl rfl)
theorem dX4_about_158 : decode cX4_about 158 = .ok (.iaload, 1) := dk_46 (dk_at dksX4_about_5 8 rfl rfl)
theorem dX4_about_159 : decode cX4_about 159 = .ok (.ireturn, 1) := dk_172 (dk_at dksX4_about_5 9 rfl rfl)
theorem dX4_about_160 : decode cX4_about 160 = .ok (.aload_n 0, 1) := dk_42 (dk_at dksX4_about_5 10 rfl rfl)
theorem dX4_about_161 : decode cX4_about 161 = .ok (.getfield 383, 3) := dk_180 1 127 (dk_at dksX4_about_5 11 rfl rfl)
theorem dX4_about_164 : decode cX4_about 164 = .ok (.ireturn, 1) := dk_172 (dk_at dksX4_about_5 14 rfl rfl)
theorem dX4_about_165 : decode cX4_about 165 = .ok (.aload_n 0, 1) := dk_42 (dk_at dksX4_about_5 15 rfl rfl)
theorem dX4_about_166 : decode cX4_about 166 = .ok (.getfield 33, 3) := dk_180 0 33 (dk_at dksX4_about_5 16 rfl rfl)
theorem dX4_about_169 : decode cX4_about 169 = .ok (.aload_n 0, 1) := dk_42 (dk_at dksX4_about_5 19 rfl rfl)
theorem dX4_about_170 : decode cX4_about 170 = .ok (.getfield 253, 3) := dk_180 0 253 (dk_at dksX4_about_5 20 rfl rfl)
theorem dX4_about_173 : decode cX4_about 173 = .ok (.iaload, 1) := dk_46 (dk_at dksX4_about_5 23 rfl rfl)
theorem dX4_about_174 : decode cX4_about 174 = .ok (.ireturn, 1) := dk_172 (dk_at dksX4_about_6 0 rfl rfl)
theorem dX4_about_175 : decode cX4_about 175 = .ok (.aload_n 0, 1) := dk_42 (dk_at dksX4_about_6 1 rfl rfl)
theorem dX4_about_176 : decode cX4_about 176 = .ok (.aload_n 0, 1) := dk_42 (dk_at dksX4_about_6 2 rfl rfl)
theorem dX4_about_177 : decode cX4_about 177 = .ok (.invokevirtual 416, 3) := dk_182 1 160 (dk_at dksX4_about_6 3 rfl rfl)
theorem dX4_about_180 : decode cX4_about 180 = .ok (.invokevirtual 348, 3) := dk_182 1 92 (dk_at dksX4_about_6 6 rfl rfl)
theorem dX4_about_183 : decode cX4_about 183 = .ok (.ireturn, 1) := dk_172 (dk_at dksX4_about_6 9 rfl rfl)
theorem dX4_about_184 : decode cX4_about 184 = .ok (.iconst (-1), 1) := dk_2 (dk_at dksX4_about_6 10 rfl rfl)
theorem dX4_about_185 : decode cX4_about 185 = .ok (.ireturn, 1) := dk_172 (dk_at dksX4_about_6 11 rfl rfl)
abbrev cX4_feed : ByteArray := prog_23_method_138_code
def yX4_feed : MethodName := ⟨RX4, "feed", "(IIIII)I"⟩
def dkwX4_feed_5 : List UInt8 := [180, 0, 250, 172]
abbrev dktX4_feed_5 : List UInt8 := dkwX4_feed_5 ++ []
def dkwX4_feed_4 : List UInt8 := [126, 104, 100, 122, 145, 84, 132, 6, 1, 167, 255, 172, 42, 89, 180, 0, 250, 16, 20, 96, 181, 0, 250, 42]
abbrev dktX4_feed_4 : List UInt8 := dkwX4_feed_4 ++ dktX4_feed_5
def dkwX4_feed_3 : List UInt8 := [21, 5, 54, 7, 42, 180, 0, 7, 42, 180, 0, 250, 21, 6, 96, 21, 7, 16, 24, 16, 8, 21, 6, 6]
abbrev dktX4_feed_3 : List UInt8 := dkwX4_feed_3 ++ dktX4_feed_4
def dkwX4_feed_2 : List UInt8 := [21, 6, 16, 12, 162, 0, 7, 29, 167, 0, 17, 21, 6, 16, 16, 162, 0, 8, 21, 4, 167, 0, 5]
abbrev dktX4_feed_2 : List UInt8 := dkwX4_feed_2 ++ dktX4_feed_3
def dkwX4_feed_1 : List UInt8 := [162, 0, 83, 21, 6, 7, 162, 0, 7, 27, 167, 0, 39, 21, 6, 16, 8, 162, 0, 7, 28, 167, 0, 28]
abbrev dktX4_feed_1 : List UInt8 := dkwX4_feed_1 ++ dktX4_feed_2
def dkwX4_feed_0 : List UInt8 := [42, 180, 0, 250, 16, 20, 96, 17, 6, 64, 164, 0, 5, 2, 172, 3, 54, 6, 21, 6, 16, 20]
abbrev dktX4_feed_0 : List UInt8 := dkwX4_feed_0 ++ dktX4_feed_1
theorem dksX4_feed_0 : cX4_feed.data.toList.drop 0 = dktX4_feed_0 := by decide +kernel
theorem dksX4_feed_1 : cX4_feed.data.toList.drop 22 = dktX4_feed_1 := dk_seg dksX4_feed_0 22 rfl rfl
theorem dksX4_feed_2 : cX4_feed.data.toList.drop 46 = dktX4_feed_2 := dk_seg dksX4_feed_1 24 rfl rfl
theorem dksX4_feed_3 : cX4_feed.data.toList.drop 69 = dktX4_feed_3 := dk_seg dksX4_feed_2 23 rfl rfl
theorem dksX4_feed_4 : cX4_feed.data.toList.drop 93 = dktX4_feed_4 := dk_seg dksX4_feed_3 24 rfl rfl
theorem dksX4_feed_5 : cX4_feed.data.toList.drop 117 = dktX4_feed_5 := dk_seg dksX4_feed_4 24 rfl rfl
theorem dX4_feed_0 : decode cX4_feed 0 = .ok (.aload_n 0, 1) := dk_42 (dk_at dksX4_feed_0 0 rfl rfl)
theorem dX4_feed_1 : decode cX4_feed 1 = .ok (.getfield 250, 3) := dk_180 0 250 (dk_at dksX4_feed_0 1 rfl rfl)
theorem dX4_feed_4 : decode cX4_feed 4 = .ok (.bipush 20, 2) := dk_16 20 (dk_at dksX4_feed_0 4 rfl rfl)
theorem dX4_feed_6 : decode cX4_feed 6 = .ok (.iadd, 1) := dk_96 (dk_at dksX4_feed_0 6 rfl rfl)
theorem dX4_feed_7 : decode cX4_feed 7 = .ok (.sipush 1600, 3) := dk_17 6 64 (dk_at dksX4_feed_0 7 rfl rfl)
theorem dX4_feed_10 : decode cX4_feed 10 = .ok (.if_icmp .le 5, 3) := dk_164 0 5 (dk_at dksX4_feed_0 10 rfl rfl)
theorem dX4_feed_13 : decode cX4_feed 13 = .ok (.iconst (-1), 1) := dk_2 (dk_at dksX4_feed_0 13 rfl rfl)
theorem dX4_feed_14 : decode cX4_feed 14 = .ok (.ireturn, 1) := dk_172 (dk_at dksX4_feed_0 14 rfl rfl)
theorem dX4_feed_15 : decode cX4_feed 15 = .ok (.iconst 0, 1) := dk_3 (dk_at dksX4_feed_0 15 rfl rfl)
theorem dX4_feed_16 : decode cX4_feed 16 = .ok (.istore 6, 2) := dk_54 6 (dk_at dksX4_feed_0 16 rfl rfl)
theorem dX4_feed_18 : decode cX4_feed 18 = .ok (.iload 6, 2) := dk_21 6 (dk_at dksX4_feed_0 18 rfl rfl)
theorem dX4_feed_20 : decode cX4_feed 20 = .ok (.bipush 20, 2) := dk_16 20 (dk_at dksX4_feed_0 20 rfl rfl)
theorem dX4_feed_22 : decode cX4_feed 22 = .ok (.if_icmp .ge 83, 3) := dk_162 0 83 (dk_at dksX4_feed_1 0 rfl rfl)
theorem dX4_feed_25 : decode cX4_feed 25 = .ok (.iload 6, 2) := dk_21 6 (dk_at dksX4_feed_1 3 rfl rfl)
theorem dX4_feed_27 : decode cX4_feed 27 = .ok (.iconst 4, 1) := dk_7 (dk_at dksX4_feed_1 5 rfl rfl)
theorem dX4_feed_28 : decode cX4_feed 28 = .ok (.if_icmp .ge 7, 3) := dk_162 0 7 (dk_at dksX4_feed_1 6 rfl rfl)
theorem dX4_feed_31 : decode cX4_feed 31 = .ok (.iload_n 1, 1) := dk_27 (dk_at dksX4_feed_1 9 rfl rfl)
theorem dX4_feed_32 : decode cX4_feed 32 = .ok (.goto 39, 3) := dk_167 0 39 (dk_at dksX4_feed_1 10 rfl rfl)
theorem dX4_feed_35 : decode cX4_feed 35 = .ok (.iload 6, 2) := dk_21 6 (dk_at dksX4_feed_1 13 rfl rfl)
theorem dX4_feed_37 : decode cX4_feed 37 = .ok (.bipush 8, 2) := dk_16 8 (dk_at dksX4_feed_1 15 rfl rfl)
theorem dX4_feed_39 : decode cX4_feed 39 = .ok (.if_icmp .ge 7, 3) := dk_162 0 7 (dk_at dksX4_feed_1 17 rfl rfl)
theorem dX4_feed_42 : decode cX4_feed 42 = .ok (.iload_n 2, 1) := dk_28 (dk_at dksX4_feed_1 20 rfl rfl)
theorem dX4_feed_43 : decode cX4_feed 43 = .ok (.goto 28, 3) := dk_167 0 28 (dk_at dksX4_feed_1 21 rfl rfl)
theorem dX4_feed_46 : decode cX4_feed 46 = .ok (.iload 6, 2) := dk_21 6 (dk_at dksX4_feed_2 0 rfl rfl)
theorem dX4_feed_48 : decode cX4_feed 48 = .ok (.bipush 12, 2) := dk_16 12 (dk_at dksX4_feed_2 2 rfl rfl)
theorem dX4_feed_50 : decode cX4_feed 50 = .ok (.if_icmp .ge 7, 3) := dk_162 0 7 (dk_at dksX4_feed_2 4 rfl rfl)
theorem dX4_feed_53 : decode cX4_feed 53 = .ok (.iload_n 3, 1) := dk_29 (dk_at dksX4_feed_2 7 rfl rfl)
theorem dX4_feed_54 : decode cX4_feed 54 = .ok (.goto 17, 3) := dk_167 0 17 (dk_at dksX4_feed_2 8 rfl rfl)
theorem dX4_feed_57 : decode cX4_feed 57 = .ok (.iload 6, 2) := dk_21 6 (dk_at dksX4_feed_2 11 rfl rfl)
theorem dX4_feed_59 : decode cX4_feed 59 = .ok (.bipush 16, 2) := dk_16 16 (dk_at dksX4_feed_2 13 rfl rfl)
theorem dX4_feed_61 : decode cX4_feed 61 = .ok (.if_icmp .ge 8, 3) := dk_162 0 8 (dk_at dksX4_feed_2 15 rfl rfl)
theorem dX4_feed_64 : decode cX4_feed 64 = .ok (.iload 4, 2) := dk_21 4 (dk_at dksX4_feed_2 18 rfl rfl)
theorem dX4_feed_66 : decode cX4_feed 66 = .ok (.goto 5, 3) := dk_167 0 5 (dk_at dksX4_feed_2 20 rfl rfl)
theorem dX4_feed_69 : decode cX4_feed 69 = .ok (.iload 5, 2) := dk_21 5 (dk_at dksX4_feed_3 0 rfl rfl)
theorem dX4_feed_71 : decode cX4_feed 71 = .ok (.istore 7, 2) := dk_54 7 (dk_at dksX4_feed_3 2 rfl rfl)
theorem dX4_feed_73 : decode cX4_feed 73 = .ok (.aload_n 0, 1) := dk_42 (dk_at dksX4_feed_3 4 rfl rfl)
theorem dX4_feed_74 : decode cX4_feed 74 = .ok (.getfield 7, 3) := dk_180 0 7 (dk_at dksX4_feed_3 5 rfl rfl)
theorem dX4_feed_77 : decode cX4_feed 77 = .ok (.aload_n 0, 1) := dk_42 (dk_at dksX4_feed_3 8 rfl rfl)
theorem dX4_feed_78 : decode cX4_feed 78 = .ok (.getfield 250, 3) := dk_180 0 250 (dk_at dksX4_feed_3 9 rfl rfl)
theorem dX4_feed_81 : decode cX4_feed 81 = .ok (.iload 6, 2) := dk_21 6 (dk_at dksX4_feed_3 12 rfl rfl)
theorem dX4_feed_83 : decode cX4_feed 83 = .ok (.iadd, 1) := dk_96 (dk_at dksX4_feed_3 14 rfl rfl)
theorem dX4_feed_84 : decode cX4_feed 84 = .ok (.iload 7, 2) := dk_21 7 (dk_at dksX4_feed_3 15 rfl rfl)
theorem dX4_feed_86 : decode cX4_feed 86 = .ok (.bipush 24, 2) := dk_16 24 (dk_at dksX4_feed_3 17 rfl rfl)
theorem dX4_feed_88 : decode cX4_feed 88 = .ok (.bipush 8, 2) := dk_16 8 (dk_at dksX4_feed_3 19 rfl rfl)
theorem dX4_feed_90 : decode cX4_feed 90 = .ok (.iload 6, 2) := dk_21 6 (dk_at dksX4_feed_3 21 rfl rfl)
theorem dX4_feed_92 : decode cX4_feed 92 = .ok (.iconst 3, 1) := dk_6 (dk_at dksX4_feed_3 23 rfl rfl)
theorem dX4_feed_93 : decode cX4_feed 93 = .ok (.iand, 1) := dk_126 (dk_at dksX4_feed_4 0 rfl rfl)
theorem dX4_feed_94 : decode cX4_feed 94 = .ok (.imul, 1) := dk_104 (dk_at dksX4_feed_4 1 rfl rfl)
theorem dX4_feed_95 : decode cX4_feed 95 = .ok (.isub, 1) := dk_100 (dk_at dksX4_feed_4 2 rfl rfl)
theorem dX4_feed_96 : decode cX4_feed 96 = .ok (.ishr, 1) := dk_122 (dk_at dksX4_feed_4 3 rfl rfl)
theorem dX4_feed_97 : decode cX4_feed 97 = .ok (.i2b, 1) := dk_145 (dk_at dksX4_feed_4 4 rfl rfl)
theorem dX4_feed_98 : decode cX4_feed 98 = .ok (.bastore, 1) := dk_84 (dk_at dksX4_feed_4 5 rfl rfl)
theorem dX4_feed_99 : decode cX4_feed 99 = .ok (.iinc 6 1, 3) := dk_132 6 1 (dk_at dksX4_feed_4 6 rfl rfl)
theorem dX4_feed_102 : decode cX4_feed 102 = .ok (.goto (-84), 3) := dk_167 255 172 (dk_at dksX4_feed_4 9 rfl rfl)
theorem dX4_feed_105 : decode cX4_feed 105 = .ok (.aload_n 0, 1) := dk_42 (dk_at dksX4_feed_4 12 rfl rfl)
theorem dX4_feed_106 : decode cX4_feed 106 = .ok (.dup, 1) := dk_89 (dk_at dksX4_feed_4 13 rfl rfl)
theorem dX4_feed_107 : decode cX4_feed 107 = .ok (.getfield 250, 3) := dk_180 0 250 (dk_at dksX4_feed_4 14 rfl rfl)
theorem dX4_feed_110 : decode cX4_feed 110 = .ok (.bipush 20, 2) := dk_16 20 (dk_at dksX4_feed_4 17 rfl rfl)
theorem dX4_feed_112 : decode cX4_feed 112 = .ok (.iadd, 1) := dk_96 (dk_at dksX4_feed_4 19 rfl rfl)
theorem dX4_feed_113 : decode cX4_feed 113 = .ok (.putfield 250, 3) := dk_181 0 250 (dk_at dksX4_feed_4 20 rfl rfl)
theorem dX4_feed_116 : decode cX4_feed 116 = .ok (.aload_n 0, 1) := dk_42 (dk_at dksX4_feed_4 23 rfl rfl)
theorem dX4_feed_117 : decode cX4_feed 117 = .ok (.getfield 250, 3) := dk_180 0 250 (dk_at dksX4_feed_5 0 rfl rfl)
theorem dX4_feed_120 : decode cX4_feed 120 = .ok (.ireturn, 1) := dk_172 (dk_at dksX4_feed_5 3 rfl rfl)
abbrev cX4_end : ByteArray := prog_23_method_139_code
def yX4_end : MethodName := ⟨RX4, "end", "(I)I"⟩
def dkwX4_end_0 : List UInt8 := [27, 155, 0, 11, 27, 42, 180, 0, 250, 164, 0, 5, 2, 172, 42, 27, 181, 0, 250, 27, 172]
abbrev dktX4_end_0 : List UInt8 := dkwX4_end_0 ++ []
theorem dksX4_end_0 : cX4_end.data.toList.drop 0 = dktX4_end_0 := by decide +kernel
theorem dX4_end_0 : decode cX4_end 0 = .ok (.iload_n 1, 1) := dk_27 (dk_at dksX4_end_0 0 rfl rfl)
theorem dX4_end_1 : decode cX4_end 1 = .ok (.ifCond .lt 11, 3) := dk_155 0 11 (dk_at dksX4_end_0 1 rfl rfl)
theorem dX4_end_4 : decode cX4_end 4 = .ok (.iload_n 1, 1) := dk_27 (dk_at dksX4_end_0 4 rfl rfl)
theorem dX4_end_5 : decode cX4_end 5 = .ok (.aload_n 0, 1) := dk_42 (dk_at dksX4_end_0 5 rfl rfl)
theorem dX4_end_6 : decode cX4_end 6 = .ok (.getfield 250, 3) := dk_180 0 250 (dk_at dksX4_end_0 6 rfl rfl)
theorem dX4_end_9 : decode cX4_end 9 = .ok (.if_icmp .le 5, 3) := dk_164 0 5 (dk_at dksX4_end_0 9 rfl rfl)
theorem dX4_end_12 : decode cX4_end 12 = .ok (.iconst (-1), 1) := dk_2 (dk_at dksX4_end_0 12 rfl rfl)
theorem dX4_end_13 : decode cX4_end 13 = .ok (.ireturn, 1) := dk_172 (dk_at dksX4_end_0 13 rfl rfl)
theorem dX4_end_14 : decode cX4_end 14 = .ok (.aload_n 0, 1) := dk_42 (dk_at dksX4_end_0 14 rfl rfl)
theorem dX4_end_15 : decode cX4_end 15 = .ok (.iload_n 1, 1) := dk_27 (dk_at dksX4_end_0 15 rfl rfl)
theorem dX4_end_16 : decode cX4_end 16 = .ok (.putfield 250, 3) := dk_181 0 250 (dk_at dksX4_end_0 16 rfl rfl)
theorem dX4_end_19 : decode cX4_end 19 = .ok (.iload_n 1, 1) := dk_27 (dk_at dksX4_end_0 19 rfl rfl)
theorem dX4_end_20 : decode cX4_end 20 = .ok (.ireturn, 1) := dk_172 (dk_at dksX4_end_0 20 rfl rfl)
theorem q145 : (Jvm.Cond.initialized "PepperTablesModel") ∈ lw_all := lw_g (lw_at lw_m1 10 rfl) rfl
theorem q947 : (Jvm.Cond.selects "PepperTablesModel" ({ cls := "java/lang/Object", name := "getClass", desc := "()Ljava/lang/Class;" } : Jvm.MethodName) ({ cls := "java/lang/Object", name := "getClass", desc := "()Ljava/lang/Class;" } : Jvm.MethodName)) ∈ lw_all := lw_g (lw_at lw_m4 92 rfl) rfl
theorem q1641 : (Jvm.Cond.instantiable "PepperTablesModel" (65 : Nat)) ∈ lw_all := lw_g (lw_at lw_m7 66 rfl) rfl
theorem q1643 : (Jvm.Cond.instanceMethod ({ cls := "PepperTablesModel", name := "<init>", desc := "()V" } : Jvm.MethodName)) ∈ lw_all := lw_g (lw_at lw_m7 68 rfl) rfl
theorem q1644 : (Jvm.Cond.code ({ cls := "PepperTablesModel", name := "<init>", desc := "()V" } : Jvm.MethodName) prog_23_method_1_code (1 : Nat) (Option.none : Option Jvm.ClassFile.FieldType)) ∈ lw_all := lw_g (lw_at lw_m7 69 rfl) rfl
theorem q1645 : (Jvm.Cond.methodLink "PepperTablesModel" (1 : Nat) ({ cls := "java/lang/Object", name := "<init>", desc := "()V" } : Jvm.MethodName)) ∈ lw_all := lw_g (lw_at lw_m7 70 rfl) rfl
theorem q1646 : (Jvm.Cond.methodLink "PepperTablesModel" (137 : Nat) ({ cls := "PepperTablesModel", name := "clearBank", desc := "()V" } : Jvm.MethodName)) ∈ lw_all := lw_g (lw_at lw_m7 71 rfl) rfl
theorem q1647 : (Jvm.Cond.privateMethod ({ cls := "PepperTablesModel", name := "clearBank", desc := "()V" } : Jvm.MethodName)) ∈ lw_tbl := lw_at lw_m7 72 rfl
theorem q1648 : (Jvm.Cond.instanceMethod ({ cls := "PepperTablesModel", name := "clearBank", desc := "()V" } : Jvm.MethodName)) ∈ lw_all := lw_g (lw_at lw_m7 73 rfl) rfl
theorem q1649 : (Jvm.Cond.code ({ cls := "PepperTablesModel", name := "clearBank", desc := "()V" } : Jvm.MethodName) prog_23_method_16_code (1 : Nat) (Option.none : Option Jvm.ClassFile.FieldType)) ∈ lw_all := lw_g (lw_at lw_m7 74 rfl) rfl
theorem q1650 : (Jvm.Cond.methodLink "PepperTablesModel" (140 : Nat) ({ cls := "PepperTablesModel", name := "startAnew", desc := "()V" } : Jvm.MethodName)) ∈ lw_all := lw_g (lw_at lw_m7 75 rfl) rfl
theorem q1651 : (Jvm.Cond.privateMethod ({ cls := "PepperTablesModel", name := "startAnew", desc := "()V" } : Jvm.MethodName)) ∈ lw_tbl := lw_at lw_m7 76 rfl
theorem q1652 : (Jvm.Cond.instanceMethod ({ cls := "PepperTablesModel", name := "startAnew", desc := "()V" } : Jvm.MethodName)) ∈ lw_all := lw_g (lw_at lw_m7 77 rfl) rfl
theorem q1653 : (Jvm.Cond.code ({ cls := "PepperTablesModel", name := "startAnew", desc := "()V" } : Jvm.MethodName) prog_23_method_53_code (2 : Nat) (Option.none : Option Jvm.ClassFile.FieldType)) ∈ lw_all := lw_g (lw_at lw_m7 78 rfl) rfl
theorem q1654 : (Jvm.Cond.methodLink "PepperTablesModel" (371 : Nat) ({ cls := "PepperTablesModel", name := "layTold", desc := "()V" } : Jvm.MethodName)) ∈ lw_all := lw_g (lw_at lw_m7 79 rfl) rfl
theorem q1655 : (Jvm.Cond.privateMethod ({ cls := "PepperTablesModel", name := "layTold", desc := "()V" } : Jvm.MethodName)) ∈ lw_tbl := lw_at lw_m7 80 rfl
theorem q1656 : (Jvm.Cond.instanceMethod ({ cls := "PepperTablesModel", name := "layTold", desc := "()V" } : Jvm.MethodName)) ∈ lw_all := lw_g (lw_at lw_m7 81 rfl) rfl
theorem q1657 : (Jvm.Cond.code ({ cls := "PepperTablesModel", name := "layTold", desc := "()V" } : Jvm.MethodName) prog_23_method_54_code (2 : Nat) (Option.none : Option Jvm.ClassFile.FieldType)) ∈ lw_all := lw_g (lw_at lw_m7 82 rfl) rfl
theorem q1658 : (Jvm.Cond.methodLink "PepperTablesModel" (368 : Nat) ({ cls := "PepperTablesModel", name := "many", desc := "()I" } : Jvm.MethodName)) ∈ lw_all := lw_g (lw_at lw_m7 83 rfl) rfl
theorem q1659 : (Jvm.Cond.privateMethod ({ cls := "PepperTablesModel", name := "many", desc := "()I" } : Jvm.MethodName)) ∈ lw_tbl := lw_at lw_m7 84 rfl
theorem q1660 : (Jvm.Cond.instanceMethod ({ cls := "PepperTablesModel", name := "many", desc := "()I" } : Jvm.MethodName)) ∈ lw_all := lw_g (lw_at lw_m7 85 rfl) rfl
theorem q1661 : (Jvm.Cond.code ({ cls := "PepperTablesModel", name := "many", desc := "()I" } : Jvm.MethodName) prog_23_method_46_code (1 : Nat) (Option.some Jvm.ClassFile.FieldType.int)) ∈ lw_all := lw_g (lw_at lw_m7 86 rfl) rfl
theorem q1662 : (Jvm.Cond.fieldLink "PepperTablesModel" (7 : Nat) "PepperTablesModel" "tape" "[B") ∈ lw_all := lw_g (lw_at lw_m7 87 rfl) rfl
theorem q1663 : (Jvm.Cond.fieldLink "PepperTablesModel" (13 : Nat) "PepperTablesModel" "text" "[B") ∈ lw_all := lw_g (lw_at lw_m7 88 rfl) rfl
theorem q1664 : (Jvm.Cond.fieldLink "PepperTablesModel" (250 : Nat) "PepperTablesModel" "taped" "I") ∈ lw_all := lw_g (lw_at lw_m7 89 rfl) rfl
theorem q1665 : (Jvm.Cond.fieldLink "PepperTablesModel" (143 : Nat) "PepperTablesModel" "size" "I") ∈ lw_all := lw_g (lw_at lw_m7 90 rfl) rfl
theorem q1666 : (Jvm.Cond.fieldLink "PepperTablesModel" (146 : Nat) "PepperTablesModel" "faultKind" "I") ∈ lw_all := lw_g (lw_at lw_m7 91 rfl) rfl
theorem q1667 : (Jvm.Cond.fieldLink "PepperTablesModel" (16 : Nat) "PepperTablesModel" "faultPlace" "I") ∈ lw_all := lw_g (lw_at lw_m7 92 rfl) rfl
theorem q1668 : (Jvm.Cond.fieldLink "PepperTablesModel" (188 : Nat) "PepperTablesModel" "at" "I") ∈ lw_all := lw_g (lw_at lw_m7 93 rfl) rfl
theorem q1669 : (Jvm.Cond.fieldLink "PepperTablesModel" (185 : Nat) "PepperTablesModel" "end" "I") ∈ lw_all := lw_g (lw_at lw_m7 94 rfl) rfl
theorem q1670 : (Jvm.Cond.fieldLink "PepperTablesModel" (195 : Nat) "PepperTablesModel" "token" "I") ∈ lw_all := lw_g (lw_at lw_m7 95 rfl) rfl
theorem q1671 : (Jvm.Cond.fieldLink "PepperTablesModel" (213 : Nat) "PepperTablesModel" "number" "I") ∈ lw_all := lw_g (lw_at lw_m7 96 rfl) rfl
theorem q1672 : (Jvm.Cond.fieldLink "PepperTablesModel" (202 : Nat) "PepperTablesModel" "name" "J") ∈ lw_all := lw_g (lw_at lw_m7 97 rfl) rfl
theorem q1673 : (Jvm.Cond.fieldLink "PepperTablesModel" (20 : Nat) "PepperTablesModel" "people" "[I") ∈ lw_all := lw_g (lw_at lw_m7 98 rfl) rfl
theorem q1674 : (Jvm.Cond.fieldLink "PepperTablesModel" (24 : Nat) "PepperTablesModel" "sacks" "[I") ∈ lw_all := lw_g (lw_at lw_m7 99 rfl) rfl
theorem q1675 : (Jvm.Cond.fieldLink "PepperTablesModel" (27 : Nat) "PepperTablesModel" "things" "[I") ∈ lw_all := lw_g (lw_at lw_m7 100 rfl) rfl
theorem q1676 : (Jvm.Cond.fieldLink "PepperTablesModel" (30 : Nat) "PepperTablesModel" "units" "[I") ∈ lw_all := lw_g (lw_at lw_m7 101 rfl) rfl
theorem q1677 : (Jvm.Cond.fieldLink "PepperTablesModel" (33 : Nat) "PepperTablesModel" "sneeze" "[I") ∈ lw_all := lw_g (lw_at lw_m7 102 rfl) rfl
theorem q1678 : (Jvm.Cond.fieldLink "PepperTablesModel" (36 : Nat) "PepperTablesModel" "draw" "[I") ∈ lw_all := lw_g (lw_at lw_m7 103 rfl) rfl
theorem q1679 : (Jvm.Cond.fieldLink "PepperTablesModel" (39 : Nat) "PepperTablesModel" "told" "[I") ∈ lw_all := lw_g (lw_at lw_m7 104 rfl) rfl
theorem q1680 : (Jvm.Cond.fieldLink "PepperTablesModel" (42 : Nat) "PepperTablesModel" "shy" "[I") ∈ lw_all := lw_g (lw_at lw_m7 105 rfl) rfl
theorem q1681 : (Jvm.Cond.fieldLink "PepperTablesModel" (45 : Nat) "PepperTablesModel" "from" "[I") ∈ lw_all := lw_g (lw_at lw_m7 106 rfl) rfl
theorem q1682 : (Jvm.Cond.fieldLink "PepperTablesModel" (48 : Nat) "PepperTablesModel" "whom" "[I") ∈ lw_all := lw_g (lw_at lw_m7 107 rfl) rfl
theorem q1683 : (Jvm.Cond.fieldLink "PepperTablesModel" (51 : Nat) "PepperTablesModel" "hot" "[I") ∈ lw_all := lw_g (lw_at lw_m7 108 rfl) rfl
theorem q1684 : (Jvm.Cond.fieldLink "PepperTablesModel" (54 : Nat) "PepperTablesModel" "inSack" "[I") ∈ lw_all := lw_g (lw_at lw_m7 109 rfl) rfl
theorem q1685 : (Jvm.Cond.fieldLink "PepperTablesModel" (57 : Nat) "PepperTablesModel" "ruleFrom" "[I") ∈ lw_all := lw_g (lw_at lw_m7 110 rfl) rfl
theorem q1686 : (Jvm.Cond.fieldLink "PepperTablesModel" (60 : Nat) "PepperTablesModel" "ruleTo" "[I") ∈ lw_all := lw_g (lw_at lw_m7 111 rfl) rfl
theorem q1687 : (Jvm.Cond.fieldLink "PepperTablesModel" (63 : Nat) "PepperTablesModel" "pName" "[J") ∈ lw_all := lw_g (lw_at lw_m7 112 rfl) rfl
theorem q1688 : (Jvm.Cond.fieldLink "PepperTablesModel" (67 : Nat) "PepperTablesModel" "sName" "[J") ∈ lw_all := lw_g (lw_at lw_m7 113 rfl) rfl
theorem q1689 : (Jvm.Cond.fieldLink "PepperTablesModel" (70 : Nat) "PepperTablesModel" "tName" "[J") ∈ lw_all := lw_g (lw_at lw_m7 114 rfl) rfl
theorem q1690 : (Jvm.Cond.fieldLink "PepperTablesModel" (73 : Nat) "PepperTablesModel" "code" "[I") ∈ lw_all := lw_g (lw_at lw_m7 115 rfl) rfl
theorem q1691 : (Jvm.Cond.fieldLink "PepperTablesModel" (76 : Nat) "PepperTablesModel" "codeNumber" "[I") ∈ lw_all := lw_g (lw_at lw_m7 116 rfl) rfl
theorem q1692 : (Jvm.Cond.fieldLink "PepperTablesModel" (79 : Nat) "PepperTablesModel" "eWhat" "[I") ∈ lw_all := lw_g (lw_at lw_m7 117 rfl) rfl
theorem q1693 : (Jvm.Cond.fieldLink "PepperTablesModel" (82 : Nat) "PepperTablesModel" "eSign" "[I") ∈ lw_all := lw_g (lw_at lw_m7 118 rfl) rfl
theorem q1694 : (Jvm.Cond.fieldLink "PepperTablesModel" (85 : Nat) "PepperTablesModel" "pile" "[I") ∈ lw_all := lw_g (lw_at lw_m7 119 rfl) rfl
theorem q1695 : (Jvm.Cond.fieldLink "PepperTablesModel" (253 : Nat) "PepperTablesModel" "bank" "I") ∈ lw_all := lw_g (lw_at lw_m7 120 rfl) rfl
theorem q1696 : (Jvm.Cond.fieldLink "PepperTablesModel" (244 : Nat) "PepperTablesModel" "rb" "I") ∈ lw_all := lw_g (lw_at lw_m7 121 rfl) rfl
theorem q1697 : (Jvm.Cond.fieldLink "PepperTablesModel" (247 : Nat) "PepperTablesModel" "codes" "I") ∈ lw_all := lw_g (lw_at lw_m7 122 rfl) rfl
theorem q1698 : (Jvm.Cond.fieldLink "PepperTablesModel" (306 : Nat) "PepperTablesModel" "within" "I") ∈ lw_all := lw_g (lw_at lw_m7 123 rfl) rfl
theorem q1699 : (Jvm.Cond.fieldLink "PepperTablesModel" (303 : Nat) "PepperTablesModel" "piled" "I") ∈ lw_all := lw_g (lw_at lw_m7 124 rfl) rfl
theorem q1700 : (Jvm.Cond.fieldLink "PepperTablesModel" (297 : Nat) "PepperTablesModel" "unitsInRule" "I") ∈ lw_all := lw_g (lw_at lw_m7 125 rfl) rfl
theorem q1701 : (Jvm.Cond.fieldLink "PepperTablesModel" (330 : Nat) "PepperTablesModel" "askThing" "I") ∈ lw_all := lw_g (lw_at lw_m7 126 rfl) rfl
theorem q1702 : (Jvm.Cond.fieldLink "PepperTablesModel" (342 : Nat) "PepperTablesModel" "askSack" "I") ∈ lw_all := lw_g (lw_at lw_m7 127 rfl) rfl
theorem q1703 : (Jvm.Cond.fieldLink "PepperTablesModel" (336 : Nat) "PepperTablesModel" "askShy" "I") ∈ lw_all := lw_g (lw_at lw_m7 128 rfl) rfl
theorem q1704 : (Jvm.Cond.fieldLink "PepperTablesModel" (88 : Nat) "PepperTablesModel" "all" "[I") ∈ lw_all := lw_g (lw_at lw_m7 129 rfl) rfl
theorem q1705 : (Jvm.Cond.fieldLink "PepperTablesModel" (91 : Nat) "PepperTablesModel" "thoughtThing" "I") ∈ lw_all := lw_g (lw_at lw_m7 130 rfl) rfl
theorem q1706 : (Jvm.Cond.fieldLink "PepperTablesModel" (398 : Nat) "PepperTablesModel" "thoughtShy" "I") ∈ lw_all := lw_g (lw_at lw_m7 131 rfl) rfl
theorem q1707 : (Jvm.Cond.fieldLink "PepperTablesModel" (94 : Nat) "PepperTablesModel" "was" "[I") ∈ lw_all := lw_g (lw_at lw_m7 132 rfl) rfl
theorem q1708 : (Jvm.Cond.fieldLink "PepperTablesModel" (374 : Nat) "PepperTablesModel" "acts" "I") ∈ lw_all := lw_g (lw_at lw_m7 133 rfl) rfl
theorem q1709 : (Jvm.Cond.fieldLink "PepperTablesModel" (377 : Nat) "PepperTablesModel" "undone" "I") ∈ lw_all := lw_g (lw_at lw_m7 134 rfl) rfl
theorem q1710 : (Jvm.Cond.fieldLink "PepperTablesModel" (97 : Nat) "PepperTablesModel" "kept" "[I") ∈ lw_all := lw_g (lw_at lw_m7 135 rfl) rfl
theorem q1711 : (Jvm.Cond.fieldLink "PepperTablesModel" (100 : Nat) "PepperTablesModel" "laidRow" "[I") ∈ lw_all := lw_g (lw_at lw_m7 136 rfl) rfl
theorem q1712 : (Jvm.Cond.fieldLink "PepperTablesModel" (383 : Nat) "PepperTablesModel" "laid" "I") ∈ lw_all := lw_g (lw_at lw_m7 137 rfl) rfl
theorem q1713 : (Jvm.Cond.fieldLink "PepperTablesModel" (103 : Nat) "PepperTablesModel" "feasts" "[I") ∈ lw_all := lw_g (lw_at lw_m7 138 rfl) rfl
theorem q1714 : (Jvm.Cond.fieldLink "PepperTablesModel" (106 : Nat) "PepperTablesModel" "manyBy" "[I") ∈ lw_all := lw_g (lw_at lw_m7 139 rfl) rfl
theorem q1715 : (Jvm.Cond.fieldLink "PepperTablesModel" (109 : Nat) "PepperTablesModel" "sSack" "[I") ∈ lw_all := lw_g (lw_at lw_m7 140 rfl) rfl
theorem q1716 : (Jvm.Cond.fieldLink "PepperTablesModel" (112 : Nat) "PepperTablesModel" "sMany" "[I") ∈ lw_all := lw_g (lw_at lw_m7 141 rfl) rfl
theorem q1717 : (Jvm.Cond.fieldLink "PepperTablesModel" (115 : Nat) "PepperTablesModel" "sIs" "[I") ∈ lw_all := lw_g (lw_at lw_m7 142 rfl) rfl
theorem q1718 : (Jvm.Cond.fieldLink "PepperTablesModel" (118 : Nat) "PepperTablesModel" "sTold" "[I") ∈ lw_all := lw_g (lw_at lw_m7 143 rfl) rfl
theorem q1719 : (Jvm.Cond.fieldLink "PepperTablesModel" (121 : Nat) "PepperTablesModel" "sUntold" "[I") ∈ lw_all := lw_g (lw_at lw_m7 144 rfl) rfl
theorem q1720 : (Jvm.Cond.fieldLink "PepperTablesModel" (124 : Nat) "PepperTablesModel" "parts" "[I") ∈ lw_all := lw_g (lw_at lw_m7 145 rfl) rfl
theorem q1721 : (Jvm.Cond.fieldLink "PepperTablesModel" (127 : Nat) "PepperTablesModel" "byMany" "[I") ∈ lw_all := lw_g (lw_at lw_m7 146 rfl) rfl
theorem q1722 : (Jvm.Cond.fieldLink "PepperTablesModel" (380 : Nat) "PepperTablesModel" "heards" "I") ∈ lw_all := lw_g (lw_at lw_m7 147 rfl) rfl
theorem q1723 : (Jvm.Cond.fieldLink "PepperTablesModel" (482 : Nat) "PepperTablesModel" "time" "I") ∈ lw_all := lw_g (lw_at lw_m7 148 rfl) rfl
theorem q1724 : (Jvm.Cond.fieldLink "PepperTablesModel" (492 : Nat) "PepperTablesModel" "fitting" "I") ∈ lw_all := lw_g (lw_at lw_m7 149 rfl) rfl
theorem q1725 : (Jvm.Cond.fieldLink "PepperTablesModel" (130 : Nat) "PepperTablesModel" "boxAll" "[I") ∈ lw_all := lw_g (lw_at lw_m7 150 rfl) rfl
theorem q1726 : (Jvm.Cond.fieldLink "PepperTablesModel" (133 : Nat) "PepperTablesModel" "isBoxed" "[Z") ∈ lw_all := lw_g (lw_at lw_m7 151 rfl) rfl
theorem q1727 : (Jvm.Cond.laysFinal "PepperTablesModel" "PepperTablesModel" "tape" "[B") ∈ lw_all := lw_g (lw_at lw_m7 152 rfl) rfl
theorem q1728 : (Jvm.Cond.soleField "PepperTablesModel" "tape") ∈ lw_all := lw_g (lw_at lw_m7 153 rfl) rfl
theorem q1729 : (Jvm.Cond.laysFinal "PepperTablesModel" "PepperTablesModel" "text" "[B") ∈ lw_all := lw_g (lw_at lw_m7 154 rfl) rfl
theorem q1730 : (Jvm.Cond.soleField "PepperTablesModel" "text") ∈ lw_all := lw_g (lw_at lw_m7 155 rfl) rfl
theorem q1731 : (Jvm.Cond.lays "PepperTablesModel" "PepperTablesModel" "taped" "I") ∈ lw_all := lw_g (lw_at lw_m7 156 rfl) rfl
theorem q1732 : (Jvm.Cond.soleField "PepperTablesModel" "taped") ∈ lw_all := lw_g (lw_at lw_m7 157 rfl) rfl
theorem q1733 : (Jvm.Cond.lays "PepperTablesModel" "PepperTablesModel" "size" "I") ∈ lw_all := lw_g (lw_at lw_m7 158 rfl) rfl
theorem q1734 : (Jvm.Cond.soleField "PepperTablesModel" "size") ∈ lw_all := lw_g (lw_at lw_m7 159 rfl) rfl
theorem q1735 : (Jvm.Cond.lays "PepperTablesModel" "PepperTablesModel" "faultKind" "I") ∈ lw_all := lw_g (lw_at lw_m7 160 rfl) rfl
theorem q1736 : (Jvm.Cond.soleField "PepperTablesModel" "faultKind") ∈ lw_all := lw_g (lw_at lw_m7 161 rfl) rfl
theorem q1737 : (Jvm.Cond.lays "PepperTablesModel" "PepperTablesModel" "faultPlace" "I") ∈ lw_all := lw_g (lw_at lw_m7 162 rfl) rfl
theorem q1738 : (Jvm.Cond.soleField "PepperTablesModel" "faultPlace") ∈ lw_all := lw_g (lw_at lw_m7 163 rfl) rfl
theorem q1739 : (Jvm.Cond.lays "PepperTablesModel" "PepperTablesModel" "at" "I") ∈ lw_all := lw_g (lw_at lw_m7 164 rfl) rfl
theorem q1740 : (Jvm.Cond.soleField "PepperTablesModel" "at") ∈ lw_all := lw_g (lw_at lw_m7 165 rfl) rfl
theorem q1741 : (Jvm.Cond.lays "PepperTablesModel" "PepperTablesModel" "end" "I") ∈ lw_all := lw_g (lw_at lw_m7 166 rfl) rfl
theorem q1742 : (Jvm.Cond.soleField "PepperTablesModel" "end") ∈ lw_all := lw_g (lw_at lw_m7 167 rfl) rfl
theorem q1743 : (Jvm.Cond.lays "PepperTablesModel" "PepperTablesModel" "token" "I") ∈ lw_all := lw_g (lw_at lw_m7 168 rfl) rfl
theorem q1744 : (Jvm.Cond.soleField "PepperTablesModel" "token") ∈ lw_all := lw_g (lw_at lw_m7 169 rfl) rfl
theorem q1745 : (Jvm.Cond.lays "PepperTablesModel" "PepperTablesModel" "number" "I") ∈ lw_all := lw_g (lw_at lw_m7 170 rfl) rfl
theorem q1746 : (Jvm.Cond.soleField "PepperTablesModel" "number") ∈ lw_all := lw_g (lw_at lw_m7 171 rfl) rfl
theorem q1747 : (Jvm.Cond.lays "PepperTablesModel" "PepperTablesModel" "name" "J") ∈ lw_all := lw_g (lw_at lw_m7 172 rfl) rfl
theorem q1748 : (Jvm.Cond.soleField "PepperTablesModel" "name") ∈ lw_all := lw_g (lw_at lw_m7 173 rfl) rfl
theorem q1749 : (Jvm.Cond.laysFinal "PepperTablesModel" "PepperTablesModel" "people" "[I") ∈ lw_all := lw_g (lw_at lw_m7 174 rfl) rfl
theorem q1750 : (Jvm.Cond.soleField "PepperTablesModel" "people") ∈ lw_all := lw_g (lw_at lw_m7 175 rfl) rfl
theorem q1751 : (Jvm.Cond.laysFinal "PepperTablesModel" "PepperTablesModel" "sacks" "[I") ∈ lw_all := lw_g (lw_at lw_m7 176 rfl) rfl
theorem q1752 : (Jvm.Cond.soleField "PepperTablesModel" "sacks") ∈ lw_all := lw_g (lw_at lw_m7 177 rfl) rfl
theorem q1753 : (Jvm.Cond.laysFinal "PepperTablesModel" "PepperTablesModel" "things" "[I") ∈ lw_all := lw_g (lw_at lw_m7 178 rfl) rfl
theorem q1754 : (Jvm.Cond.soleField "PepperTablesModel" "things") ∈ lw_all := lw_g (lw_at lw_m7 179 rfl) rfl
theorem q1755 : (Jvm.Cond.laysFinal "PepperTablesModel" "PepperTablesModel" "units" "[I") ∈ lw_all := lw_g (lw_at lw_m7 180 rfl) rfl
theorem q1756 : (Jvm.Cond.soleField "PepperTablesModel" "units") ∈ lw_all := lw_g (lw_at lw_m7 181 rfl) rfl
theorem q1757 : (Jvm.Cond.laysFinal "PepperTablesModel" "PepperTablesModel" "sneeze" "[I") ∈ lw_all := lw_g (lw_at lw_m7 182 rfl) rfl
theorem q1758 : (Jvm.Cond.soleField "PepperTablesModel" "sneeze") ∈ lw_all := lw_g (lw_at lw_m7 183 rfl) rfl
theorem q1759 : (Jvm.Cond.laysFinal "PepperTablesModel" "PepperTablesModel" "draw" "[I") ∈ lw_all := lw_g (lw_at lw_m7 184 rfl) rfl
theorem q1760 : (Jvm.Cond.soleField "PepperTablesModel" "draw") ∈ lw_all := lw_g (lw_at lw_m7 185 rfl) rfl
theorem q1761 : (Jvm.Cond.laysFinal "PepperTablesModel" "PepperTablesModel" "told" "[I") ∈ lw_all := lw_g (lw_at lw_m7 186 rfl) rfl
theorem q1762 : (Jvm.Cond.soleField "PepperTablesModel" "told") ∈ lw_all := lw_g (lw_at lw_m7 187 rfl) rfl
theorem q1763 : (Jvm.Cond.laysFinal "PepperTablesModel" "PepperTablesModel" "shy" "[I") ∈ lw_all := lw_g (lw_at lw_m7 188 rfl) rfl
theorem q1764 : (Jvm.Cond.soleField "PepperTablesModel" "shy") ∈ lw_all := lw_g (lw_at lw_m7 189 rfl) rfl
theorem q1765 : (Jvm.Cond.laysFinal "PepperTablesModel" "PepperTablesModel" "from" "[I") ∈ lw_all := lw_g (lw_at lw_m7 190 rfl) rfl
theorem q1766 : (Jvm.Cond.soleField "PepperTablesModel" "from") ∈ lw_all := lw_g (lw_at lw_m7 191 rfl) rfl
theorem q1767 : (Jvm.Cond.laysFinal "PepperTablesModel" "PepperTablesModel" "whom" "[I") ∈ lw_all := lw_g (lw_at lw_m7 192 rfl) rfl
theorem q1768 : (Jvm.Cond.soleField "PepperTablesModel" "whom") ∈ lw_all := lw_g (lw_at lw_m7 193 rfl) rfl
theorem q1769 : (Jvm.Cond.laysFinal "PepperTablesModel" "PepperTablesModel" "hot" "[I") ∈ lw_all := lw_g (lw_at lw_m7 194 rfl) rfl
theorem q1770 : (Jvm.Cond.soleField "PepperTablesModel" "hot") ∈ lw_all := lw_g (lw_at lw_m7 195 rfl) rfl
theorem q1771 : (Jvm.Cond.laysFinal "PepperTablesModel" "PepperTablesModel" "inSack" "[I") ∈ lw_all := lw_g (lw_at lw_m7 196 rfl) rfl
theorem q1772 : (Jvm.Cond.soleField "PepperTablesModel" "inSack") ∈ lw_all := lw_g (lw_at lw_m7 197 rfl) rfl
theorem q1773 : (Jvm.Cond.laysFinal "PepperTablesModel" "PepperTablesModel" "ruleFrom" "[I") ∈ lw_all := lw_g (lw_at lw_m7 198 rfl) rfl
theorem q1774 : (Jvm.Cond.soleField "PepperTablesModel" "ruleFrom") ∈ lw_all := lw_g (lw_at lw_m7 199 rfl) rfl
theorem q1775 : (Jvm.Cond.laysFinal "PepperTablesModel" "PepperTablesModel" "ruleTo" "[I") ∈ lw_all := lw_g (lw_at lw_m7 200 rfl) rfl
theorem q1776 : (Jvm.Cond.soleField "PepperTablesModel" "ruleTo") ∈ lw_all := lw_g (lw_at lw_m7 201 rfl) rfl
theorem q1777 : (Jvm.Cond.laysFinal "PepperTablesModel" "PepperTablesModel" "pName" "[J") ∈ lw_all := lw_g (lw_at lw_m7 202 rfl) rfl
theorem q1778 : (Jvm.Cond.soleField "PepperTablesModel" "pName") ∈ lw_all := lw_g (lw_at lw_m7 203 rfl) rfl
theorem q1779 : (Jvm.Cond.laysFinal "PepperTablesModel" "PepperTablesModel" "sName" "[J") ∈ lw_all := lw_g (lw_at lw_m7 204 rfl) rfl
theorem q1780 : (Jvm.Cond.soleField "PepperTablesModel" "sName") ∈ lw_all := lw_g (lw_at lw_m7 205 rfl) rfl
theorem q1781 : (Jvm.Cond.laysFinal "PepperTablesModel" "PepperTablesModel" "tName" "[J") ∈ lw_all := lw_g (lw_at lw_m7 206 rfl) rfl
theorem q1782 : (Jvm.Cond.soleField "PepperTablesModel" "tName") ∈ lw_all := lw_g (lw_at lw_m7 207 rfl) rfl
theorem q1783 : (Jvm.Cond.laysFinal "PepperTablesModel" "PepperTablesModel" "code" "[I") ∈ lw_all := lw_g (lw_at lw_m7 208 rfl) rfl
theorem q1784 : (Jvm.Cond.soleField "PepperTablesModel" "code") ∈ lw_all := lw_g (lw_at lw_m7 209 rfl) rfl
theorem q1785 : (Jvm.Cond.laysFinal "PepperTablesModel" "PepperTablesModel" "codeNumber" "[I") ∈ lw_all := lw_g (lw_at lw_m7 210 rfl) rfl
theorem q1786 : (Jvm.Cond.soleField "PepperTablesModel" "codeNumber") ∈ lw_all := lw_g (lw_at lw_m7 211 rfl) rfl
theorem q1787 : (Jvm.Cond.laysFinal "PepperTablesModel" "PepperTablesModel" "eWhat" "[I") ∈ lw_all := lw_g (lw_at lw_m7 212 rfl) rfl
theorem q1788 : (Jvm.Cond.soleField "PepperTablesModel" "eWhat") ∈ lw_all := lw_g (lw_at lw_m7 213 rfl) rfl
theorem q1789 : (Jvm.Cond.laysFinal "PepperTablesModel" "PepperTablesModel" "eSign" "[I") ∈ lw_all := lw_g (lw_at lw_m7 214 rfl) rfl
theorem q1790 : (Jvm.Cond.soleField "PepperTablesModel" "eSign") ∈ lw_all := lw_g (lw_at lw_m7 215 rfl) rfl
theorem q1791 : (Jvm.Cond.laysFinal "PepperTablesModel" "PepperTablesModel" "pile" "[I") ∈ lw_all := lw_g (lw_at lw_m7 216 rfl) rfl
theorem q1792 : (Jvm.Cond.soleField "PepperTablesModel" "pile") ∈ lw_all := lw_g (lw_at lw_m7 217 rfl) rfl
theorem q1793 : (Jvm.Cond.lays "PepperTablesModel" "PepperTablesModel" "bank" "I") ∈ lw_all := lw_g (lw_at lw_m7 218 rfl) rfl
theorem q1794 : (Jvm.Cond.soleField "PepperTablesModel" "bank") ∈ lw_all := lw_g (lw_at lw_m7 219 rfl) rfl
theorem q1795 : (Jvm.Cond.lays "PepperTablesModel" "PepperTablesModel" "rb" "I") ∈ lw_all := lw_g (lw_at lw_m7 220 rfl) rfl
theorem q1796 : (Jvm.Cond.soleField "PepperTablesModel" "rb") ∈ lw_all := lw_g (lw_at lw_m7 221 rfl) rfl
theorem q1797 : (Jvm.Cond.lays "PepperTablesModel" "PepperTablesModel" "codes" "I") ∈ lw_all := lw_g (lw_at lw_m7 222 rfl) rfl
theorem q1798 : (Jvm.Cond.soleField "PepperTablesModel" "codes") ∈ lw_all := lw_g (lw_at lw_m7 223 rfl) rfl
theorem q1799 : (Jvm.Cond.lays "PepperTablesModel" "PepperTablesModel" "within" "I") ∈ lw_all := lw_g (lw_at lw_m7 224 rfl) rfl
theorem q1800 : (Jvm.Cond.soleField "PepperTablesModel" "within") ∈ lw_all := lw_g (lw_at lw_m7 225 rfl) rfl
theorem q1801 : (Jvm.Cond.lays "PepperTablesModel" "PepperTablesModel" "piled" "I") ∈ lw_all := lw_g (lw_at lw_m7 226 rfl) rfl
theorem q1802 : (Jvm.Cond.soleField "PepperTablesModel" "piled") ∈ lw_all := lw_g (lw_at lw_m7 227 rfl) rfl
theorem q1803 : (Jvm.Cond.lays "PepperTablesModel" "PepperTablesModel" "unitsInRule" "I") ∈ lw_all := lw_g (lw_at lw_m7 228 rfl) rfl
theorem q1804 : (Jvm.Cond.soleField "PepperTablesModel" "unitsInRule") ∈ lw_all := lw_g (lw_at lw_m7 229 rfl) rfl
theorem q1805 : (Jvm.Cond.lays "PepperTablesModel" "PepperTablesModel" "askThing" "I") ∈ lw_all := lw_g (lw_at lw_m7 230 rfl) rfl
theorem q1806 : (Jvm.Cond.soleField "PepperTablesModel" "askThing") ∈ lw_all := lw_g (lw_at lw_m7 231 rfl) rfl
theorem q1807 : (Jvm.Cond.lays "PepperTablesModel" "PepperTablesModel" "askSack" "I") ∈ lw_all := lw_g (lw_at lw_m7 232 rfl) rfl
theorem q1808 : (Jvm.Cond.soleField "PepperTablesModel" "askSack") ∈ lw_all := lw_g (lw_at lw_m7 233 rfl) rfl
theorem q1809 : (Jvm.Cond.lays "PepperTablesModel" "PepperTablesModel" "askShy" "I") ∈ lw_all := lw_g (lw_at lw_m7 234 rfl) rfl
theorem q1810 : (Jvm.Cond.soleField "PepperTablesModel" "askShy") ∈ lw_all := lw_g (lw_at lw_m7 235 rfl) rfl
theorem q1811 : (Jvm.Cond.laysFinal "PepperTablesModel" "PepperTablesModel" "all" "[I") ∈ lw_all := lw_g (lw_at lw_m7 236 rfl) rfl
theorem q1812 : (Jvm.Cond.soleField "PepperTablesModel" "all") ∈ lw_all := lw_g (lw_at lw_m7 237 rfl) rfl
theorem q1813 : (Jvm.Cond.lays "PepperTablesModel" "PepperTablesModel" "thoughtThing" "I") ∈ lw_all := lw_g (lw_at lw_m7 238 rfl) rfl
theorem q1814 : (Jvm.Cond.soleField "PepperTablesModel" "thoughtThing") ∈ lw_all := lw_g (lw_at lw_m7 239 rfl) rfl
theorem q1815 : (Jvm.Cond.lays "PepperTablesModel" "PepperTablesModel" "thoughtShy" "I") ∈ lw_all := lw_g (lw_at lw_m8 0 rfl) rfl
theorem q1816 : (Jvm.Cond.soleField "PepperTablesModel" "thoughtShy") ∈ lw_all := lw_g (lw_at lw_m8 1 rfl) rfl
theorem q1817 : (Jvm.Cond.laysFinal "PepperTablesModel" "PepperTablesModel" "was" "[I") ∈ lw_all := lw_g (lw_at lw_m8 2 rfl) rfl
theorem q1818 : (Jvm.Cond.soleField "PepperTablesModel" "was") ∈ lw_all := lw_g (lw_at lw_m8 3 rfl) rfl
theorem q1819 : (Jvm.Cond.lays "PepperTablesModel" "PepperTablesModel" "acts" "I") ∈ lw_all := lw_g (lw_at lw_m8 4 rfl) rfl
theorem q1820 : (Jvm.Cond.soleField "PepperTablesModel" "acts") ∈ lw_all := lw_g (lw_at lw_m8 5 rfl) rfl
theorem q1821 : (Jvm.Cond.lays "PepperTablesModel" "PepperTablesModel" "undone" "I") ∈ lw_all := lw_g (lw_at lw_m8 6 rfl) rfl
theorem q1822 : (Jvm.Cond.soleField "PepperTablesModel" "undone") ∈ lw_all := lw_g (lw_at lw_m8 7 rfl) rfl
theorem q1823 : (Jvm.Cond.laysFinal "PepperTablesModel" "PepperTablesModel" "kept" "[I") ∈ lw_all := lw_g (lw_at lw_m8 8 rfl) rfl
theorem q1824 : (Jvm.Cond.soleField "PepperTablesModel" "kept") ∈ lw_all := lw_g (lw_at lw_m8 9 rfl) rfl
theorem q1825 : (Jvm.Cond.laysFinal "PepperTablesModel" "PepperTablesModel" "laidRow" "[I") ∈ lw_all := lw_g (lw_at lw_m8 10 rfl) rfl
theorem q1826 : (Jvm.Cond.soleField "PepperTablesModel" "laidRow") ∈ lw_all := lw_g (lw_at lw_m8 11 rfl) rfl
theorem q1827 : (Jvm.Cond.lays "PepperTablesModel" "PepperTablesModel" "laid" "I") ∈ lw_all := lw_g (lw_at lw_m8 12 rfl) rfl
theorem q1828 : (Jvm.Cond.soleField "PepperTablesModel" "laid") ∈ lw_all := lw_g (lw_at lw_m8 13 rfl) rfl
theorem q1829 : (Jvm.Cond.laysFinal "PepperTablesModel" "PepperTablesModel" "feasts" "[I") ∈ lw_all := lw_g (lw_at lw_m8 14 rfl) rfl
theorem q1830 : (Jvm.Cond.soleField "PepperTablesModel" "feasts") ∈ lw_all := lw_g (lw_at lw_m8 15 rfl) rfl
theorem q1831 : (Jvm.Cond.laysFinal "PepperTablesModel" "PepperTablesModel" "manyBy" "[I") ∈ lw_all := lw_g (lw_at lw_m8 16 rfl) rfl
theorem q1832 : (Jvm.Cond.soleField "PepperTablesModel" "manyBy") ∈ lw_all := lw_g (lw_at lw_m8 17 rfl) rfl
theorem q1833 : (Jvm.Cond.laysFinal "PepperTablesModel" "PepperTablesModel" "sSack" "[I") ∈ lw_all := lw_g (lw_at lw_m8 18 rfl) rfl
theorem q1834 : (Jvm.Cond.soleField "PepperTablesModel" "sSack") ∈ lw_all := lw_g (lw_at lw_m8 19 rfl) rfl
theorem q1835 : (Jvm.Cond.laysFinal "PepperTablesModel" "PepperTablesModel" "sMany" "[I") ∈ lw_all := lw_g (lw_at lw_m8 20 rfl) rfl
theorem q1836 : (Jvm.Cond.soleField "PepperTablesModel" "sMany") ∈ lw_all := lw_g (lw_at lw_m8 21 rfl) rfl
theorem q1837 : (Jvm.Cond.laysFinal "PepperTablesModel" "PepperTablesModel" "sIs" "[I") ∈ lw_all := lw_g (lw_at lw_m8 22 rfl) rfl
theorem q1838 : (Jvm.Cond.soleField "PepperTablesModel" "sIs") ∈ lw_all := lw_g (lw_at lw_m8 23 rfl) rfl
theorem q1839 : (Jvm.Cond.laysFinal "PepperTablesModel" "PepperTablesModel" "sTold" "[I") ∈ lw_all := lw_g (lw_at lw_m8 24 rfl) rfl
theorem q1840 : (Jvm.Cond.soleField "PepperTablesModel" "sTold") ∈ lw_all := lw_g (lw_at lw_m8 25 rfl) rfl
theorem q1841 : (Jvm.Cond.laysFinal "PepperTablesModel" "PepperTablesModel" "sUntold" "[I") ∈ lw_all := lw_g (lw_at lw_m8 26 rfl) rfl
theorem q1842 : (Jvm.Cond.soleField "PepperTablesModel" "sUntold") ∈ lw_all := lw_g (lw_at lw_m8 27 rfl) rfl
theorem q1843 : (Jvm.Cond.laysFinal "PepperTablesModel" "PepperTablesModel" "parts" "[I") ∈ lw_all := lw_g (lw_at lw_m8 28 rfl) rfl
theorem q1844 : (Jvm.Cond.soleField "PepperTablesModel" "parts") ∈ lw_all := lw_g (lw_at lw_m8 29 rfl) rfl
theorem q1845 : (Jvm.Cond.laysFinal "PepperTablesModel" "PepperTablesModel" "byMany" "[I") ∈ lw_all := lw_g (lw_at lw_m8 30 rfl) rfl
theorem q1846 : (Jvm.Cond.soleField "PepperTablesModel" "byMany") ∈ lw_all := lw_g (lw_at lw_m8 31 rfl) rfl
theorem q1847 : (Jvm.Cond.lays "PepperTablesModel" "PepperTablesModel" "heards" "I") ∈ lw_all := lw_g (lw_at lw_m8 32 rfl) rfl
theorem q1848 : (Jvm.Cond.soleField "PepperTablesModel" "heards") ∈ lw_all := lw_g (lw_at lw_m8 33 rfl) rfl
theorem q1849 : (Jvm.Cond.lays "PepperTablesModel" "PepperTablesModel" "time" "I") ∈ lw_all := lw_g (lw_at lw_m8 34 rfl) rfl
theorem q1850 : (Jvm.Cond.soleField "PepperTablesModel" "time") ∈ lw_all := lw_g (lw_at lw_m8 35 rfl) rfl
theorem q1851 : (Jvm.Cond.lays "PepperTablesModel" "PepperTablesModel" "fitting" "I") ∈ lw_all := lw_g (lw_at lw_m8 36 rfl) rfl
theorem q1852 : (Jvm.Cond.soleField "PepperTablesModel" "fitting") ∈ lw_all := lw_g (lw_at lw_m8 37 rfl) rfl
theorem q1853 : (Jvm.Cond.laysFinal "PepperTablesModel" "PepperTablesModel" "boxAll" "[I") ∈ lw_all := lw_g (lw_at lw_m8 38 rfl) rfl
theorem q1854 : (Jvm.Cond.soleField "PepperTablesModel" "boxAll") ∈ lw_all := lw_g (lw_at lw_m8 39 rfl) rfl
theorem q1855 : (Jvm.Cond.laysFinal "PepperTablesModel" "PepperTablesModel" "isBoxed" "[Z") ∈ lw_all := lw_g (lw_at lw_m8 40 rfl) rfl
theorem q1856 : (Jvm.Cond.soleField "PepperTablesModel" "isBoxed") ∈ lw_all := lw_g (lw_at lw_m8 41 rfl) rfl
theorem q1857 : (Jvm.Cond.superclass "PepperTablesModel" "java/lang/Object") ∈ lw_all := lw_g (lw_at lw_m8 42 rfl) rfl
theorem q1860 : (Jvm.Cond.instanceMethod ({ cls := "PepperTablesModel", name := "store", desc := "()I" } : Jvm.MethodName)) ∈ lw_all := lw_g (lw_at lw_m8 45 rfl) rfl
theorem q1861 : (Jvm.Cond.selects "PepperTablesModel" ({ cls := "PepperTablesModel", name := "store", desc := "()I" } : Jvm.MethodName) ({ cls := "PepperTablesModel", name := "store", desc := "()I" } : Jvm.MethodName)) ∈ lw_all := lw_g (lw_at lw_m8 46 rfl) rfl
theorem q1862 : (Jvm.Cond.code ({ cls := "PepperTablesModel", name := "store", desc := "()I" } : Jvm.MethodName) prog_23_method_17_code (2 : Nat) (Option.some Jvm.ClassFile.FieldType.int)) ∈ lw_all := lw_g (lw_at lw_m8 47 rfl) rfl
theorem q1863 : (Jvm.Cond.methodLink "PepperTablesModel" (227 : Nat) ({ cls := "PepperTablesModel", name := "goOn", desc := "()V" } : Jvm.MethodName)) ∈ lw_all := lw_g (lw_at lw_m8 48 rfl) rfl
theorem q1864 : (Jvm.Cond.privateMethod ({ cls := "PepperTablesModel", name := "goOn", desc := "()V" } : Jvm.MethodName)) ∈ lw_tbl := lw_at lw_m8 49 rfl
theorem q1865 : (Jvm.Cond.instanceMethod ({ cls := "PepperTablesModel", name := "goOn", desc := "()V" } : Jvm.MethodName)) ∈ lw_all := lw_g (lw_at lw_m8 50 rfl) rfl
theorem q1866 : (Jvm.Cond.code ({ cls := "PepperTablesModel", name := "goOn", desc := "()V" } : Jvm.MethodName) prog_23_method_9_code (3 : Nat) (Option.none : Option Jvm.ClassFile.FieldType)) ∈ lw_all := lw_g (lw_at lw_m8 51 rfl) rfl
theorem q1867 : (Jvm.Cond.methodLink "PepperTablesModel" (191 : Nat) ({ cls := "PepperTablesModel", name := "sign", desc := "(I)I" } : Jvm.MethodName)) ∈ lw_all := lw_g (lw_at lw_m8 52 rfl) rfl
theorem q1868 : (Jvm.Cond.privateMethod ({ cls := "PepperTablesModel", name := "sign", desc := "(I)I" } : Jvm.MethodName)) ∈ lw_tbl := lw_at lw_m8 53 rfl
theorem q1869 : (Jvm.Cond.instanceMethod ({ cls := "PepperTablesModel", name := "sign", desc := "(I)I" } : Jvm.MethodName)) ∈ lw_all := lw_g (lw_at lw_m8 54 rfl) rfl
theorem q1870 : (Jvm.Cond.code ({ cls := "PepperTablesModel", name := "sign", desc := "(I)I" } : Jvm.MethodName) prog_23_method_2_code (2 : Nat) (Option.some Jvm.ClassFile.FieldType.int)) ∈ lw_all := lw_g (lw_at lw_m8 55 rfl) rfl
theorem q1871 : (Jvm.Cond.methodLink "PepperTablesModel" (198 : Nat) ({ cls := "PepperTablesModel", name := "isLetter", desc := "(I)Z" } : Jvm.MethodName)) ∈ lw_all := lw_g (lw_at lw_m8 56 rfl) rfl
theorem q1872 : (Jvm.Cond.static ({ cls := "PepperTablesModel", name := "isLetter", desc := "(I)Z" } : Jvm.MethodName)) ∈ lw_all := lw_g (lw_at lw_m8 57 rfl) rfl
theorem q1873 : (Jvm.Cond.code ({ cls := "PepperTablesModel", name := "isLetter", desc := "(I)Z" } : Jvm.MethodName) prog_23_method_3_code (1 : Nat) (Option.some Jvm.ClassFile.FieldType.boolean)) ∈ lw_all := lw_g (lw_at lw_m8 58 rfl) rfl
theorem q1874 : (Jvm.Cond.methodLink "PepperTablesModel" (206 : Nat) ({ cls := "PepperTablesModel", name := "isKept", desc := "(J)Z" } : Jvm.MethodName)) ∈ lw_all := lw_g (lw_at lw_m8 59 rfl) rfl
theorem q1875 : (Jvm.Cond.static ({ cls := "PepperTablesModel", name := "isKept", desc := "(J)Z" } : Jvm.MethodName)) ∈ lw_all := lw_g (lw_at lw_m8 60 rfl) rfl
theorem q1876 : (Jvm.Cond.code ({ cls := "PepperTablesModel", name := "isKept", desc := "(J)Z" } : Jvm.MethodName) prog_23_method_7_code (3 : Nat) (Option.some Jvm.ClassFile.FieldType.boolean)) ∈ lw_all := lw_g (lw_at lw_m8 61 rfl) rfl
theorem q1877 : (Jvm.Cond.constantLong "PepperTablesModel" (149 : Nat) (123581014175598 : Int64)) ∈ lw_all := lw_g (lw_at lw_m8 62 rfl) rfl
theorem q1878 : (Jvm.Cond.constantLong "PepperTablesModel" (151 : Nat) (7563385 : Int64)) ∈ lw_all := lw_g (lw_at lw_m8 63 rfl) rfl
theorem q1879 : (Jvm.Cond.constantLong "PepperTablesModel" (153 : Nat) (1935762283 : Int64)) ∈ lw_all := lw_g (lw_at lw_m8 64 rfl) rfl
theorem q1880 : (Jvm.Cond.constantLong "PepperTablesModel" (155 : Nat) (499967946343 : Int64)) ∈ lw_all := lw_g (lw_at lw_m8 65 rfl) rfl
theorem q1881 : (Jvm.Cond.constantLong "PepperTablesModel" (157 : Nat) (25209 : Int64)) ∈ lw_all := lw_g (lw_at lw_m8 66 rfl) rfl
theorem q1882 : (Jvm.Cond.constantLong "PepperTablesModel" (159 : Nat) (29807 : Int64)) ∈ lw_all := lw_g (lw_at lw_m8 67 rfl) rfl
theorem q1883 : (Jvm.Cond.constantLong "PepperTablesModel" (161 : Nat) (6844276 : Int64)) ∈ lw_all := lw_g (lw_at lw_m8 68 rfl) rfl
theorem q1884 : (Jvm.Cond.constantLong "PepperTablesModel" (163 : Nat) (26990 : Int64)) ∈ lw_all := lw_g (lw_at lw_m8 69 rfl) rfl
theorem q1885 : (Jvm.Cond.constantLong "PepperTablesModel" (165 : Nat) (1935763812 : Int64)) ∈ lw_all := lw_g (lw_at lw_m8 70 rfl) rfl
theorem q1886 : (Jvm.Cond.constantLong "PepperTablesModel" (167 : Nat) (126917984746085 : Int64)) ∈ lw_all := lw_g (lw_at lw_m8 71 rfl) rfl
theorem q1887 : (Jvm.Cond.constantLong "PepperTablesModel" (169 : Nat) (1685217655 : Int64)) ∈ lw_all := lw_g (lw_at lw_m8 72 rfl) rfl
theorem q1888 : (Jvm.Cond.constantLong "PepperTablesModel" (171 : Nat) (113753910899827 : Int64)) ∈ lw_all := lw_g (lw_at lw_m8 73 rfl) rfl
theorem q1889 : (Jvm.Cond.constantLong "PepperTablesModel" (173 : Nat) (113741193899620 : Int64)) ∈ lw_all := lw_g (lw_at lw_m8 74 rfl) rfl
theorem q1890 : (Jvm.Cond.constantLong "PepperTablesModel" (175 : Nat) (1751474548 : Int64)) ∈ lw_all := lw_g (lw_at lw_m8 75 rfl) rfl
theorem q1891 : (Jvm.Cond.constantLong "PepperTablesModel" (177 : Nat) (109330362954597 : Int64)) ∈ lw_all := lw_g (lw_at lw_m8 76 rfl) rfl
theorem q1892 : (Jvm.Cond.constantLong "PepperTablesModel" (179 : Nat) (28530 : Int64)) ∈ lw_all := lw_g (lw_at lw_m8 77 rfl) rfl
theorem q1893 : (Jvm.Cond.constantLong "PepperTablesModel" (181 : Nat) (6385252 : Int64)) ∈ lw_all := lw_g (lw_at lw_m8 78 rfl) rfl
theorem q1894 : (Jvm.Cond.constantLong "PepperTablesModel" (183 : Nat) (7237492 : Int64)) ∈ lw_all := lw_g (lw_at lw_m8 79 rfl) rfl
theorem q1895 : (Jvm.Cond.methodLink "PepperTablesModel" (210 : Nat) ({ cls := "PepperTablesModel", name := "isDigit", desc := "(I)Z" } : Jvm.MethodName)) ∈ lw_all := lw_g (lw_at lw_m8 80 rfl) rfl
theorem q1896 : (Jvm.Cond.static ({ cls := "PepperTablesModel", name := "isDigit", desc := "(I)Z" } : Jvm.MethodName)) ∈ lw_all := lw_g (lw_at lw_m8 81 rfl) rfl
theorem q1897 : (Jvm.Cond.code ({ cls := "PepperTablesModel", name := "isDigit", desc := "(I)Z" } : Jvm.MethodName) prog_23_method_4_code (1 : Nat) (Option.some Jvm.ClassFile.FieldType.boolean)) ∈ lw_all := lw_g (lw_at lw_m8 82 rfl) rfl
theorem q1898 : (Jvm.Cond.methodLink "PepperTablesModel" (216 : Nat) ({ cls := "PepperTablesModel", name := "isSign", desc := "(I)Z" } : Jvm.MethodName)) ∈ lw_all := lw_g (lw_at lw_m8 83 rfl) rfl
theorem q1899 : (Jvm.Cond.static ({ cls := "PepperTablesModel", name := "isSign", desc := "(I)Z" } : Jvm.MethodName)) ∈ lw_all := lw_g (lw_at lw_m8 84 rfl) rfl
theorem q1900 : (Jvm.Cond.code ({ cls := "PepperTablesModel", name := "isSign", desc := "(I)Z" } : Jvm.MethodName) prog_23_method_8_code (1 : Nat) (Option.some Jvm.ClassFile.FieldType.boolean)) ∈ lw_all := lw_g (lw_at lw_m8 85 rfl) rfl
theorem q1901 : (Jvm.Cond.methodLink "PepperTablesModel" (223 : Nat) ({ cls := "PepperTablesModel", name := "isGood", desc := "()Z" } : Jvm.MethodName)) ∈ lw_all := lw_g (lw_at lw_m8 86 rfl) rfl
theorem q1902 : (Jvm.Cond.privateMethod ({ cls := "PepperTablesModel", name := "isGood", desc := "()Z" } : Jvm.MethodName)) ∈ lw_tbl := lw_at lw_m8 87 rfl
theorem q1903 : (Jvm.Cond.instanceMethod ({ cls := "PepperTablesModel", name := "isGood", desc := "()Z" } : Jvm.MethodName)) ∈ lw_all := lw_g (lw_at lw_m8 88 rfl) rfl
theorem q1904 : (Jvm.Cond.code ({ cls := "PepperTablesModel", name := "isGood", desc := "()Z" } : Jvm.MethodName) prog_23_method_6_code (1 : Nat) (Option.some Jvm.ClassFile.FieldType.boolean)) ∈ lw_all := lw_g (lw_at lw_m8 89 rfl) rfl
theorem q1905 : (Jvm.Cond.methodLink "PepperTablesModel" (256 : Nat) ({ cls := "PepperTablesModel", name := "readLine", desc := "()V" } : Jvm.MethodName)) ∈ lw_all := lw_g (lw_at lw_m8 90 rfl) rfl
theorem q1906 : (Jvm.Cond.privateMethod ({ cls := "PepperTablesModel", name := "readLine", desc := "()V" } : Jvm.MethodName)) ∈ lw_tbl := lw_at lw_m8 91 rfl
theorem q1907 : (Jvm.Cond.instanceMethod ({ cls := "PepperTablesModel", name := "readLine", desc := "()V" } : Jvm.MethodName)) ∈ lw_all := lw_g (lw_at lw_m8 92 rfl) rfl
theorem q1908 : (Jvm.Cond.code ({ cls := "PepperTablesModel", name := "readLine", desc := "()V" } : Jvm.MethodName) prog_23_method_19_code (3 : Nat) (Option.none : Option Jvm.ClassFile.FieldType)) ∈ lw_all := lw_g (lw_at lw_m8 93 rfl) rfl
theorem q1909 : (Jvm.Cond.methodLink "PepperTablesModel" (263 : Nat) ({ cls := "PepperTablesModel", name := "isFull", desc := "()Z" } : Jvm.MethodName)) ∈ lw_all := lw_g (lw_at lw_m8 94 rfl) rfl
theorem q1910 : (Jvm.Cond.privateMethod ({ cls := "PepperTablesModel", name := "isFull", desc := "()Z" } : Jvm.MethodName)) ∈ lw_tbl := lw_at lw_m8 95 rfl
theorem q1911 : (Jvm.Cond.instanceMethod ({ cls := "PepperTablesModel", name := "isFull", desc := "()Z" } : Jvm.MethodName)) ∈ lw_all := lw_g (lw_at lw_m8 96 rfl) rfl
theorem q1912 : (Jvm.Cond.code ({ cls := "PepperTablesModel", name := "isFull", desc := "()Z" } : Jvm.MethodName) prog_23_method_18_code (1 : Nat) (Option.some Jvm.ClassFile.FieldType.boolean)) ∈ lw_all := lw_g (lw_at lw_m8 97 rfl) rfl
theorem q1913 : (Jvm.Cond.methodLink "PepperTablesModel" (233 : Nat) ({ cls := "PepperTablesModel", name := "isWord", desc := "(J)Z" } : Jvm.MethodName)) ∈ lw_all := lw_g (lw_at lw_m8 98 rfl) rfl
theorem q1914 : (Jvm.Cond.privateMethod ({ cls := "PepperTablesModel", name := "isWord", desc := "(J)Z" } : Jvm.MethodName)) ∈ lw_tbl := lw_at lw_m8 99 rfl
theorem q1915 : (Jvm.Cond.instanceMethod ({ cls := "PepperTablesModel", name := "isWord", desc := "(J)Z" } : Jvm.MethodName)) ∈ lw_all := lw_g (lw_at lw_m8 100 rfl) rfl
theorem q1916 : (Jvm.Cond.code ({ cls := "PepperTablesModel", name := "isWord", desc := "(J)Z" } : Jvm.MethodName) prog_23_method_11_code (3 : Nat) (Option.some Jvm.ClassFile.FieldType.boolean)) ∈ lw_all := lw_g (lw_at lw_m8 101 rfl) rfl
theorem q1917 : (Jvm.Cond.methodLink "PepperTablesModel" (259 : Nat) ({ cls := "PepperTablesModel", name := "bit", desc := "(II)Z" } : Jvm.MethodName)) ∈ lw_all := lw_g (lw_at lw_m8 102 rfl) rfl
theorem q1918 : (Jvm.Cond.static ({ cls := "PepperTablesModel", name := "bit", desc := "(II)Z" } : Jvm.MethodName)) ∈ lw_all := lw_g (lw_at lw_m8 103 rfl) rfl
theorem q1919 : (Jvm.Cond.code ({ cls := "PepperTablesModel", name := "bit", desc := "(II)Z" } : Jvm.MethodName) prog_23_method_40_code (2 : Nat) (Option.some Jvm.ClassFile.FieldType.boolean)) ∈ lw_all := lw_g (lw_at lw_m8 104 rfl) rfl
theorem q1920 : (Jvm.Cond.methodLink "PepperTablesModel" (230 : Nat) ({ cls := "PepperTablesModel", name := "misplaced", desc := "()V" } : Jvm.MethodName)) ∈ lw_all := lw_g (lw_at lw_m8 105 rfl) rfl
theorem q1921 : (Jvm.Cond.privateMethod ({ cls := "PepperTablesModel", name := "misplaced", desc := "()V" } : Jvm.MethodName)) ∈ lw_tbl := lw_at lw_m8 106 rfl
theorem q1922 : (Jvm.Cond.instanceMethod ({ cls := "PepperTablesModel", name := "misplaced", desc := "()V" } : Jvm.MethodName)) ∈ lw_all := lw_g (lw_at lw_m8 107 rfl) rfl
theorem q1923 : (Jvm.Cond.code ({ cls := "PepperTablesModel", name := "misplaced", desc := "()V" } : Jvm.MethodName) prog_23_method_12_code (1 : Nat) (Option.none : Option Jvm.ClassFile.FieldType)) ∈ lw_all := lw_g (lw_at lw_m8 108 rfl) rfl
theorem q1924 : (Jvm.Cond.methodLink "PepperTablesModel" (219 : Nat) ({ cls := "PepperTablesModel", name := "fails", desc := "(II)V" } : Jvm.MethodName)) ∈ lw_all := lw_g (lw_at lw_m8 109 rfl) rfl
theorem q1925 : (Jvm.Cond.privateMethod ({ cls := "PepperTablesModel", name := "fails", desc := "(II)V" } : Jvm.MethodName)) ∈ lw_tbl := lw_at lw_m8 110 rfl
theorem q1926 : (Jvm.Cond.instanceMethod ({ cls := "PepperTablesModel", name := "fails", desc := "(II)V" } : Jvm.MethodName)) ∈ lw_all := lw_g (lw_at lw_m8 111 rfl) rfl
theorem q1927 : (Jvm.Cond.code ({ cls := "PepperTablesModel", name := "fails", desc := "(II)V" } : Jvm.MethodName) prog_23_method_5_code (3 : Nat) (Option.none : Option Jvm.ClassFile.FieldType)) ∈ lw_all := lw_g (lw_at lw_m8 112 rfl) rfl
theorem q1928 : (Jvm.Cond.methodLink "PepperTablesModel" (266 : Nat) ({ cls := "PepperTablesModel", name := "personHere", desc := "()I" } : Jvm.MethodName)) ∈ lw_all := lw_g (lw_at lw_m8 113 rfl) rfl
theorem q1929 : (Jvm.Cond.privateMethod ({ cls := "PepperTablesModel", name := "personHere", desc := "()I" } : Jvm.MethodName)) ∈ lw_tbl := lw_at lw_m8 114 rfl
theorem q1930 : (Jvm.Cond.instanceMethod ({ cls := "PepperTablesModel", name := "personHere", desc := "()I" } : Jvm.MethodName)) ∈ lw_all := lw_g (lw_at lw_m8 115 rfl) rfl
theorem q1931 : (Jvm.Cond.code ({ cls := "PepperTablesModel", name := "personHere", desc := "()I" } : Jvm.MethodName) prog_23_method_21_code (1 : Nat) (Option.some Jvm.ClassFile.FieldType.int)) ∈ lw_all := lw_g (lw_at lw_m8 116 rfl) rfl
theorem q1932 : (Jvm.Cond.methodLink "PepperTablesModel" (290 : Nat) ({ cls := "PepperTablesModel", name := "here", desc := "([JII)I" } : Jvm.MethodName)) ∈ lw_all := lw_g (lw_at lw_m8 117 rfl) rfl
theorem q1933 : (Jvm.Cond.privateMethod ({ cls := "PepperTablesModel", name := "here", desc := "([JII)I" } : Jvm.MethodName)) ∈ lw_tbl := lw_at lw_m8 118 rfl
theorem q1934 : (Jvm.Cond.instanceMethod ({ cls := "PepperTablesModel", name := "here", desc := "([JII)I" } : Jvm.MethodName)) ∈ lw_all := lw_g (lw_at lw_m8 119 rfl) rfl
theorem q1935 : (Jvm.Cond.code ({ cls := "PepperTablesModel", name := "here", desc := "([JII)I" } : Jvm.MethodName) prog_23_method_20_code (5 : Nat) (Option.some Jvm.ClassFile.FieldType.int)) ∈ lw_all := lw_g (lw_at lw_m8 120 rfl) rfl
theorem q1936 : (Jvm.Cond.methodLink "PepperTablesModel" (270 : Nat) ({ cls := "PepperTablesModel", name := "fresh", desc := "(I)J" } : Jvm.MethodName)) ∈ lw_all := lw_g (lw_at lw_m8 121 rfl) rfl
theorem q1937 : (Jvm.Cond.privateMethod ({ cls := "PepperTablesModel", name := "fresh", desc := "(I)J" } : Jvm.MethodName)) ∈ lw_tbl := lw_at lw_m8 122 rfl
theorem q1938 : (Jvm.Cond.instanceMethod ({ cls := "PepperTablesModel", name := "fresh", desc := "(I)J" } : Jvm.MethodName)) ∈ lw_all := lw_g (lw_at lw_m8 123 rfl) rfl
theorem q1939 : (Jvm.Cond.code ({ cls := "PepperTablesModel", name := "fresh", desc := "(I)J" } : Jvm.MethodName) prog_23_method_23_code (4 : Nat) (Option.some Jvm.ClassFile.FieldType.long)) ∈ lw_all := lw_g (lw_at lw_m8 124 rfl) rfl
theorem q1940 : (Jvm.Cond.methodLink "PepperTablesModel" (274 : Nat) ({ cls := "PepperTablesModel", name := "afterWord", desc := "(JII)I" } : Jvm.MethodName)) ∈ lw_all := lw_g (lw_at lw_m8 125 rfl) rfl
theorem q1941 : (Jvm.Cond.privateMethod ({ cls := "PepperTablesModel", name := "afterWord", desc := "(JII)I" } : Jvm.MethodName)) ∈ lw_tbl := lw_at lw_m8 126 rfl
theorem q1942 : (Jvm.Cond.instanceMethod ({ cls := "PepperTablesModel", name := "afterWord", desc := "(JII)I" } : Jvm.MethodName)) ∈ lw_all := lw_g (lw_at lw_m8 127 rfl) rfl
theorem q1943 : (Jvm.Cond.code ({ cls := "PepperTablesModel", name := "afterWord", desc := "(JII)I" } : Jvm.MethodName) prog_23_method_15_code (5 : Nat) (Option.some Jvm.ClassFile.FieldType.int)) ∈ lw_all := lw_g (lw_at lw_m8 128 rfl) rfl
theorem q1944 : (Jvm.Cond.methodLink "PepperTablesModel" (236 : Nat) ({ cls := "PepperTablesModel", name := "must", desc := "(Z)V" } : Jvm.MethodName)) ∈ lw_all := lw_g (lw_at lw_m8 129 rfl) rfl
theorem q1945 : (Jvm.Cond.privateMethod ({ cls := "PepperTablesModel", name := "must", desc := "(Z)V" } : Jvm.MethodName)) ∈ lw_tbl := lw_at lw_m8 130 rfl
theorem q1946 : (Jvm.Cond.instanceMethod ({ cls := "PepperTablesModel", name := "must", desc := "(Z)V" } : Jvm.MethodName)) ∈ lw_all := lw_g (lw_at lw_m8 131 rfl) rfl
theorem q1947 : (Jvm.Cond.code ({ cls := "PepperTablesModel", name := "must", desc := "(Z)V" } : Jvm.MethodName) prog_23_method_13_code (2 : Nat) (Option.none : Option Jvm.ClassFile.FieldType)) ∈ lw_all := lw_g (lw_at lw_m8 132 rfl) rfl
theorem q1948 : (Jvm.Cond.methodLink "PepperTablesModel" (240 : Nat) ({ cls := "PepperTablesModel", name := "numeral", desc := "(II)I" } : Jvm.MethodName)) ∈ lw_all := lw_g (lw_at lw_m8 133 rfl) rfl
theorem q1949 : (Jvm.Cond.privateMethod ({ cls := "PepperTablesModel", name := "numeral", desc := "(II)I" } : Jvm.MethodName)) ∈ lw_tbl := lw_at lw_m8 134 rfl
theorem q1950 : (Jvm.Cond.instanceMethod ({ cls := "PepperTablesModel", name := "numeral", desc := "(II)I" } : Jvm.MethodName)) ∈ lw_all := lw_g (lw_at lw_m8 135 rfl) rfl
theorem q1951 : (Jvm.Cond.code ({ cls := "PepperTablesModel", name := "numeral", desc := "(II)I" } : Jvm.MethodName) prog_23_method_14_code (4 : Nat) (Option.some Jvm.ClassFile.FieldType.int)) ∈ lw_all := lw_g (lw_at lw_m8 136 rfl) rfl
theorem q1952 : (Jvm.Cond.methodLink "PepperTablesModel" (278 : Nat) ({ cls := "PepperTablesModel", name := "sackHere", desc := "()I" } : Jvm.MethodName)) ∈ lw_all := lw_g (lw_at lw_m8 137 rfl) rfl
theorem q1953 : (Jvm.Cond.privateMethod ({ cls := "PepperTablesModel", name := "sackHere", desc := "()I" } : Jvm.MethodName)) ∈ lw_tbl := lw_at lw_m8 138 rfl
theorem q1954 : (Jvm.Cond.instanceMethod ({ cls := "PepperTablesModel", name := "sackHere", desc := "()I" } : Jvm.MethodName)) ∈ lw_all := lw_g (lw_at lw_m8 139 rfl) rfl
theorem q1955 : (Jvm.Cond.code ({ cls := "PepperTablesModel", name := "sackHere", desc := "()I" } : Jvm.MethodName) prog_23_method_22_code (1 : Nat) (Option.some Jvm.ClassFile.FieldType.int)) ∈ lw_all := lw_g (lw_at lw_m8 140 rfl) rfl
theorem q1956 : (Jvm.Cond.methodLink "PepperTablesModel" (281 : Nat) ({ cls := "PepperTablesModel", name := "readThing", desc := "()V" } : Jvm.MethodName)) ∈ lw_all := lw_g (lw_at lw_m8 141 rfl) rfl
theorem q1957 : (Jvm.Cond.privateMethod ({ cls := "PepperTablesModel", name := "readThing", desc := "()V" } : Jvm.MethodName)) ∈ lw_tbl := lw_at lw_m8 142 rfl
theorem q1958 : (Jvm.Cond.instanceMethod ({ cls := "PepperTablesModel", name := "readThing", desc := "()V" } : Jvm.MethodName)) ∈ lw_all := lw_g (lw_at lw_m8 143 rfl) rfl
theorem q1959 : (Jvm.Cond.code ({ cls := "PepperTablesModel", name := "readThing", desc := "()V" } : Jvm.MethodName) prog_23_method_25_code (2 : Nat) (Option.none : Option Jvm.ClassFile.FieldType)) ∈ lw_all := lw_g (lw_at lw_m8 144 rfl) rfl
theorem q1960 : (Jvm.Cond.methodLink "PepperTablesModel" (294 : Nat) ({ cls := "PepperTablesModel", name := "known", desc := "(I)I" } : Jvm.MethodName)) ∈ lw_all := lw_g (lw_at lw_m8 145 rfl) rfl
theorem q1961 : (Jvm.Cond.privateMethod ({ cls := "PepperTablesModel", name := "known", desc := "(I)I" } : Jvm.MethodName)) ∈ lw_tbl := lw_at lw_m8 146 rfl
theorem q1962 : (Jvm.Cond.instanceMethod ({ cls := "PepperTablesModel", name := "known", desc := "(I)I" } : Jvm.MethodName)) ∈ lw_all := lw_g (lw_at lw_m8 147 rfl) rfl
theorem q1963 : (Jvm.Cond.code ({ cls := "PepperTablesModel", name := "known", desc := "(I)I" } : Jvm.MethodName) prog_23_method_24_code (2 : Nat) (Option.some Jvm.ClassFile.FieldType.int)) ∈ lw_all := lw_g (lw_at lw_m8 148 rfl) rfl
theorem q1964 : (Jvm.Cond.methodLink "PepperTablesModel" (284 : Nat) ({ cls := "PepperTablesModel", name := "readRule", desc := "()V" } : Jvm.MethodName)) ∈ lw_all := lw_g (lw_at lw_m8 149 rfl) rfl
theorem q1965 : (Jvm.Cond.privateMethod ({ cls := "PepperTablesModel", name := "readRule", desc := "()V" } : Jvm.MethodName)) ∈ lw_tbl := lw_at lw_m8 150 rfl
theorem q1966 : (Jvm.Cond.instanceMethod ({ cls := "PepperTablesModel", name := "readRule", desc := "()V" } : Jvm.MethodName)) ∈ lw_all := lw_g (lw_at lw_m8 151 rfl) rfl
theorem q1967 : (Jvm.Cond.code ({ cls := "PepperTablesModel", name := "readRule", desc := "()V" } : Jvm.MethodName) prog_23_method_26_code (1 : Nat) (Option.none : Option Jvm.ClassFile.FieldType)) ∈ lw_all := lw_g (lw_at lw_m8 152 rfl) rfl
theorem q1968 : (Jvm.Cond.methodLink "PepperTablesModel" (300 : Nat) ({ cls := "PepperTablesModel", name := "e", desc := "()V" } : Jvm.MethodName)) ∈ lw_all := lw_g (lw_at lw_m8 153 rfl) rfl
theorem q1969 : (Jvm.Cond.privateMethod ({ cls := "PepperTablesModel", name := "e", desc := "()V" } : Jvm.MethodName)) ∈ lw_tbl := lw_at lw_m8 154 rfl
theorem q1970 : (Jvm.Cond.instanceMethod ({ cls := "PepperTablesModel", name := "e", desc := "()V" } : Jvm.MethodName)) ∈ lw_all := lw_g (lw_at lw_m8 155 rfl) rfl
theorem q1971 : (Jvm.Cond.code ({ cls := "PepperTablesModel", name := "e", desc := "()V" } : Jvm.MethodName) prog_23_method_29_code (2 : Nat) (Option.none : Option Jvm.ClassFile.FieldType)) ∈ lw_all := lw_g (lw_at lw_m8 156 rfl) rfl
theorem q1972 : (Jvm.Cond.methodLink "PepperTablesModel" (309 : Nat) ({ cls := "PepperTablesModel", name := "pushE", desc := "(II)V" } : Jvm.MethodName)) ∈ lw_all := lw_g (lw_at lw_m8 157 rfl) rfl
theorem q1973 : (Jvm.Cond.privateMethod ({ cls := "PepperTablesModel", name := "pushE", desc := "(II)V" } : Jvm.MethodName)) ∈ lw_tbl := lw_at lw_m8 158 rfl
theorem q1974 : (Jvm.Cond.instanceMethod ({ cls := "PepperTablesModel", name := "pushE", desc := "(II)V" } : Jvm.MethodName)) ∈ lw_all := lw_g (lw_at lw_m8 159 rfl) rfl
theorem q1975 : (Jvm.Cond.code ({ cls := "PepperTablesModel", name := "pushE", desc := "(II)V" } : Jvm.MethodName) prog_23_method_28_code (3 : Nat) (Option.none : Option Jvm.ClassFile.FieldType)) ∈ lw_all := lw_g (lw_at lw_m8 160 rfl) rfl
theorem q1976 : (Jvm.Cond.methodLink "PepperTablesModel" (312 : Nat) ({ cls := "PepperTablesModel", name := "unit", desc := "()Z" } : Jvm.MethodName)) ∈ lw_all := lw_g (lw_at lw_m8 161 rfl) rfl
theorem q1977 : (Jvm.Cond.privateMethod ({ cls := "PepperTablesModel", name := "unit", desc := "()Z" } : Jvm.MethodName)) ∈ lw_tbl := lw_at lw_m8 162 rfl
theorem q1978 : (Jvm.Cond.instanceMethod ({ cls := "PepperTablesModel", name := "unit", desc := "()Z" } : Jvm.MethodName)) ∈ lw_all := lw_g (lw_at lw_m8 163 rfl) rfl
theorem q1979 : (Jvm.Cond.code ({ cls := "PepperTablesModel", name := "unit", desc := "()Z" } : Jvm.MethodName) prog_23_method_31_code (7 : Nat) (Option.some Jvm.ClassFile.FieldType.boolean)) ∈ lw_all := lw_g (lw_at lw_m8 164 rfl) rfl
theorem q1980 : (Jvm.Cond.methodLink "PepperTablesModel" (287 : Nat) ({ cls := "PepperTablesModel", name := "isSignHere", desc := "(I)Z" } : Jvm.MethodName)) ∈ lw_all := lw_g (lw_at lw_m8 165 rfl) rfl
theorem q1981 : (Jvm.Cond.privateMethod ({ cls := "PepperTablesModel", name := "isSignHere", desc := "(I)Z" } : Jvm.MethodName)) ∈ lw_tbl := lw_at lw_m8 166 rfl
theorem q1982 : (Jvm.Cond.instanceMethod ({ cls := "PepperTablesModel", name := "isSignHere", desc := "(I)Z" } : Jvm.MethodName)) ∈ lw_all := lw_g (lw_at lw_m8 167 rfl) rfl
theorem q1983 : (Jvm.Cond.code ({ cls := "PepperTablesModel", name := "isSignHere", desc := "(I)Z" } : Jvm.MethodName) prog_23_method_10_code (2 : Nat) (Option.some Jvm.ClassFile.FieldType.boolean)) ∈ lw_all := lw_g (lw_at lw_m8 168 rfl) rfl
theorem q1984 : (Jvm.Cond.methodLink "PepperTablesModel" (318 : Nat) ({ cls := "PepperTablesModel", name := "wordHere", desc := "()I" } : Jvm.MethodName)) ∈ lw_all := lw_g (lw_at lw_m8 169 rfl) rfl
theorem q1985 : (Jvm.Cond.privateMethod ({ cls := "PepperTablesModel", name := "wordHere", desc := "()I" } : Jvm.MethodName)) ∈ lw_tbl := lw_at lw_m8 170 rfl
theorem q1986 : (Jvm.Cond.instanceMethod ({ cls := "PepperTablesModel", name := "wordHere", desc := "()I" } : Jvm.MethodName)) ∈ lw_all := lw_g (lw_at lw_m8 171 rfl) rfl
theorem q1987 : (Jvm.Cond.code ({ cls := "PepperTablesModel", name := "wordHere", desc := "()I" } : Jvm.MethodName) prog_23_method_30_code (1 : Nat) (Option.some Jvm.ClassFile.FieldType.int)) ∈ lw_all := lw_g (lw_at lw_m8 172 rfl) rfl
theorem q1988 : (Jvm.Cond.methodLink "PepperTablesModel" (321 : Nat) ({ cls := "PepperTablesModel", name := "emit", desc := "(II)V" } : Jvm.MethodName)) ∈ lw_all := lw_g (lw_at lw_m8 173 rfl) rfl
theorem q1989 : (Jvm.Cond.privateMethod ({ cls := "PepperTablesModel", name := "emit", desc := "(II)V" } : Jvm.MethodName)) ∈ lw_tbl := lw_at lw_m8 174 rfl
theorem q1990 : (Jvm.Cond.instanceMethod ({ cls := "PepperTablesModel", name := "emit", desc := "(II)V" } : Jvm.MethodName)) ∈ lw_all := lw_g (lw_at lw_m8 175 rfl) rfl
theorem q1991 : (Jvm.Cond.code ({ cls := "PepperTablesModel", name := "emit", desc := "(II)V" } : Jvm.MethodName) prog_23_method_27_code (3 : Nat) (Option.none : Option Jvm.ClassFile.FieldType)) ∈ lw_all := lw_g (lw_at lw_m8 176 rfl) rfl
theorem q1992 : (Jvm.Cond.methodLink "PepperTablesModel" (315 : Nat) ({ cls := "PepperTablesModel", name := "behindUnit", desc := "()Z" } : Jvm.MethodName)) ∈ lw_all := lw_g (lw_at lw_m8 177 rfl) rfl
theorem q1993 : (Jvm.Cond.privateMethod ({ cls := "PepperTablesModel", name := "behindUnit", desc := "()Z" } : Jvm.MethodName)) ∈ lw_tbl := lw_at lw_m8 178 rfl
theorem q1994 : (Jvm.Cond.instanceMethod ({ cls := "PepperTablesModel", name := "behindUnit", desc := "()Z" } : Jvm.MethodName)) ∈ lw_all := lw_g (lw_at lw_m8 179 rfl) rfl
theorem q1995 : (Jvm.Cond.code ({ cls := "PepperTablesModel", name := "behindUnit", desc := "()Z" } : Jvm.MethodName) prog_23_method_34_code (2 : Nat) (Option.some Jvm.ClassFile.FieldType.boolean)) ∈ lw_all := lw_g (lw_at lw_m8 180 rfl) rfl
theorem q1996 : (Jvm.Cond.methodLink "PepperTablesModel" (324 : Nat) ({ cls := "PepperTablesModel", name := "rankHere", desc := "()I" } : Jvm.MethodName)) ∈ lw_all := lw_g (lw_at lw_m8 181 rfl) rfl
theorem q1997 : (Jvm.Cond.privateMethod ({ cls := "PepperTablesModel", name := "rankHere", desc := "()I" } : Jvm.MethodName)) ∈ lw_tbl := lw_at lw_m8 182 rfl
theorem q1998 : (Jvm.Cond.instanceMethod ({ cls := "PepperTablesModel", name := "rankHere", desc := "()I" } : Jvm.MethodName)) ∈ lw_all := lw_g (lw_at lw_m8 183 rfl) rfl
theorem q1999 : (Jvm.Cond.code ({ cls := "PepperTablesModel", name := "rankHere", desc := "()I" } : Jvm.MethodName) prog_23_method_32_code (1 : Nat) (Option.some Jvm.ClassFile.FieldType.int)) ∈ lw_all := lw_g (lw_at lw_m8 184 rfl) rfl
theorem q2000 : (Jvm.Cond.methodLink "PepperTablesModel" (327 : Nat) ({ cls := "PepperTablesModel", name := "isCompared", desc := "()Z" } : Jvm.MethodName)) ∈ lw_all := lw_g (lw_at lw_m8 185 rfl) rfl
theorem q2001 : (Jvm.Cond.privateMethod ({ cls := "PepperTablesModel", name := "isCompared", desc := "()Z" } : Jvm.MethodName)) ∈ lw_tbl := lw_at lw_m8 186 rfl
theorem q2002 : (Jvm.Cond.instanceMethod ({ cls := "PepperTablesModel", name := "isCompared", desc := "()Z" } : Jvm.MethodName)) ∈ lw_all := lw_g (lw_at lw_m8 187 rfl) rfl
theorem q2003 : (Jvm.Cond.code ({ cls := "PepperTablesModel", name := "isCompared", desc := "()Z" } : Jvm.MethodName) prog_23_method_33_code (2 : Nat) (Option.some Jvm.ClassFile.FieldType.boolean)) ∈ lw_all := lw_g (lw_at lw_m8 188 rfl) rfl
theorem q2005 : (Jvm.Cond.instanceMethod ({ cls := "PepperTablesModel", name := "fault", desc := "(I)I" } : Jvm.MethodName)) ∈ lw_all := lw_g (lw_at lw_m8 190 rfl) rfl
theorem q2006 : (Jvm.Cond.selects "PepperTablesModel" ({ cls := "PepperTablesModel", name := "fault", desc := "(I)I" } : Jvm.MethodName) ({ cls := "PepperTablesModel", name := "fault", desc := "(I)I" } : Jvm.MethodName)) ∈ lw_all := lw_g (lw_at lw_m8 191 rfl) rfl
theorem q2007 : (Jvm.Cond.code ({ cls := "PepperTablesModel", name := "fault", desc := "(I)I" } : Jvm.MethodName) prog_23_method_38_code (2 : Nat) (Option.some Jvm.ClassFile.FieldType.int)) ∈ lw_all := lw_g (lw_at lw_m8 192 rfl) rfl
theorem q2009 : (Jvm.Cond.instanceMethod ({ cls := "PepperTablesModel", name := "person", desc := "(II)I" } : Jvm.MethodName)) ∈ lw_all := lw_g (lw_at lw_m8 194 rfl) rfl
theorem q2010 : (Jvm.Cond.selects "PepperTablesModel" ({ cls := "PepperTablesModel", name := "person", desc := "(II)I" } : Jvm.MethodName) ({ cls := "PepperTablesModel", name := "person", desc := "(II)I" } : Jvm.MethodName)) ∈ lw_all := lw_g (lw_at lw_m8 195 rfl) rfl
theorem q2011 : (Jvm.Cond.code ({ cls := "PepperTablesModel", name := "person", desc := "(II)I" } : Jvm.MethodName) prog_23_method_68_code (3 : Nat) (Option.some Jvm.ClassFile.FieldType.int)) ∈ lw_all := lw_g (lw_at lw_m8 196 rfl) rfl
theorem q2012 : (Jvm.Cond.methodLink "PepperTablesModel" (410 : Nat) ({ cls := "PepperTablesModel", name := "isPerson", desc := "(I)Z" } : Jvm.MethodName)) ∈ lw_all := lw_g (lw_at lw_m8 197 rfl) rfl
theorem q2013 : (Jvm.Cond.privateMethod ({ cls := "PepperTablesModel", name := "isPerson", desc := "(I)Z" } : Jvm.MethodName)) ∈ lw_tbl := lw_at lw_m8 198 rfl
theorem q2014 : (Jvm.Cond.instanceMethod ({ cls := "PepperTablesModel", name := "isPerson", desc := "(I)Z" } : Jvm.MethodName)) ∈ lw_all := lw_g (lw_at lw_m8 199 rfl) rfl
theorem q2015 : (Jvm.Cond.code ({ cls := "PepperTablesModel", name := "isPerson", desc := "(I)Z" } : Jvm.MethodName) prog_23_method_47_code (2 : Nat) (Option.some Jvm.ClassFile.FieldType.boolean)) ∈ lw_all := lw_g (lw_at lw_m8 200 rfl) rfl
theorem q2016 : (Jvm.Cond.methodLink "PepperTablesModel" (358 : Nat) ({ cls := "PepperTablesModel", name := "folk", desc := "()I" } : Jvm.MethodName)) ∈ lw_all := lw_g (lw_at lw_m8 201 rfl) rfl
theorem q2017 : (Jvm.Cond.privateMethod ({ cls := "PepperTablesModel", name := "folk", desc := "()I" } : Jvm.MethodName)) ∈ lw_tbl := lw_at lw_m8 202 rfl
theorem q2018 : (Jvm.Cond.instanceMethod ({ cls := "PepperTablesModel", name := "folk", desc := "()I" } : Jvm.MethodName)) ∈ lw_all := lw_g (lw_at lw_m8 203 rfl) rfl
theorem q2019 : (Jvm.Cond.code ({ cls := "PepperTablesModel", name := "folk", desc := "()I" } : Jvm.MethodName) prog_23_method_44_code (1 : Nat) (Option.some Jvm.ClassFile.FieldType.int)) ∈ lw_all := lw_g (lw_at lw_m8 204 rfl) rfl
theorem q2020 : (Jvm.Cond.methodLink "PepperTablesModel" (361 : Nat) ({ cls := "PepperTablesModel", name := "isIn", desc := "(III)Z" } : Jvm.MethodName)) ∈ lw_all := lw_g (lw_at lw_m8 205 rfl) rfl
theorem q2021 : (Jvm.Cond.static ({ cls := "PepperTablesModel", name := "isIn", desc := "(III)Z" } : Jvm.MethodName)) ∈ lw_all := lw_g (lw_at lw_m8 206 rfl) rfl
theorem q2022 : (Jvm.Cond.code ({ cls := "PepperTablesModel", name := "isIn", desc := "(III)Z" } : Jvm.MethodName) prog_23_method_39_code (3 : Nat) (Option.some Jvm.ClassFile.FieldType.boolean)) ∈ lw_all := lw_g (lw_at lw_m8 207 rfl) rfl
theorem q2023 : (Jvm.Cond.methodLink "PepperTablesModel" (413 : Nat) ({ cls := "PepperTablesModel", name := "byOf", desc := "(I)I" } : Jvm.MethodName)) ∈ lw_all := lw_g (lw_at lw_m8 208 rfl) rfl
theorem q2024 : (Jvm.Cond.privateMethod ({ cls := "PepperTablesModel", name := "byOf", desc := "(I)I" } : Jvm.MethodName)) ∈ lw_tbl := lw_at lw_m8 209 rfl
theorem q2025 : (Jvm.Cond.instanceMethod ({ cls := "PepperTablesModel", name := "byOf", desc := "(I)I" } : Jvm.MethodName)) ∈ lw_all := lw_g (lw_at lw_m8 210 rfl) rfl
theorem q2026 : (Jvm.Cond.code ({ cls := "PepperTablesModel", name := "byOf", desc := "(I)I" } : Jvm.MethodName) prog_23_method_59_code (4 : Nat) (Option.some Jvm.ClassFile.FieldType.int)) ∈ lw_all := lw_g (lw_at lw_m8 211 rfl) rfl
theorem q2027 : (Jvm.Cond.methodLink "PepperTablesModel" (389 : Nat) ({ cls := "PepperTablesModel", name := "fromOf", desc := "(I)I" } : Jvm.MethodName)) ∈ lw_all := lw_g (lw_at lw_m8 212 rfl) rfl
theorem q2028 : (Jvm.Cond.privateMethod ({ cls := "PepperTablesModel", name := "fromOf", desc := "(I)I" } : Jvm.MethodName)) ∈ lw_tbl := lw_at lw_m8 213 rfl
theorem q2029 : (Jvm.Cond.instanceMethod ({ cls := "PepperTablesModel", name := "fromOf", desc := "(I)I" } : Jvm.MethodName)) ∈ lw_all := lw_g (lw_at lw_m8 214 rfl) rfl
theorem q2030 : (Jvm.Cond.code ({ cls := "PepperTablesModel", name := "fromOf", desc := "(I)I" } : Jvm.MethodName) prog_23_method_50_code (2 : Nat) (Option.some Jvm.ClassFile.FieldType.int)) ∈ lw_all := lw_g (lw_at lw_m8 215 rfl) rfl
theorem q2031 : (Jvm.Cond.methodLink "PepperTablesModel" (416 : Nat) ({ cls := "PepperTablesModel", name := "keptNow", desc := "()I" } : Jvm.MethodName)) ∈ lw_all := lw_g (lw_at lw_m8 216 rfl) rfl
theorem q2032 : (Jvm.Cond.privateMethod ({ cls := "PepperTablesModel", name := "keptNow", desc := "()I" } : Jvm.MethodName)) ∈ lw_tbl := lw_at lw_m8 217 rfl
theorem q2033 : (Jvm.Cond.instanceMethod ({ cls := "PepperTablesModel", name := "keptNow", desc := "()I" } : Jvm.MethodName)) ∈ lw_all := lw_g (lw_at lw_m8 218 rfl) rfl
theorem q2034 : (Jvm.Cond.code ({ cls := "PepperTablesModel", name := "keptNow", desc := "()I" } : Jvm.MethodName) prog_23_method_58_code (1 : Nat) (Option.some Jvm.ClassFile.FieldType.int)) ∈ lw_all := lw_g (lw_at lw_m8 219 rfl) rfl
theorem q2035 : (Jvm.Cond.methodLink "PepperTablesModel" (419 : Nat) ({ cls := "PepperTablesModel", name := "toOf", desc := "(I)I" } : Jvm.MethodName)) ∈ lw_all := lw_g (lw_at lw_m8 220 rfl) rfl
theorem q2036 : (Jvm.Cond.privateMethod ({ cls := "PepperTablesModel", name := "toOf", desc := "(I)I" } : Jvm.MethodName)) ∈ lw_tbl := lw_at lw_m8 221 rfl
theorem q2037 : (Jvm.Cond.instanceMethod ({ cls := "PepperTablesModel", name := "toOf", desc := "(I)I" } : Jvm.MethodName)) ∈ lw_all := lw_g (lw_at lw_m8 222 rfl) rfl
theorem q2038 : (Jvm.Cond.code ({ cls := "PepperTablesModel", name := "toOf", desc := "(I)I" } : Jvm.MethodName) prog_23_method_60_code (4 : Nat) (Option.some Jvm.ClassFile.FieldType.int)) ∈ lw_all := lw_g (lw_at lw_m8 223 rfl) rfl
theorem q2039 : (Jvm.Cond.methodLink "PepperTablesModel" (392 : Nat) ({ cls := "PepperTablesModel", name := "whomOf", desc := "(I)I" } : Jvm.MethodName)) ∈ lw_all := lw_g (lw_at lw_m8 224 rfl) rfl
theorem q2040 : (Jvm.Cond.privateMethod ({ cls := "PepperTablesModel", name := "whomOf", desc := "(I)I" } : Jvm.MethodName)) ∈ lw_tbl := lw_at lw_m8 225 rfl
theorem q2041 : (Jvm.Cond.instanceMethod ({ cls := "PepperTablesModel", name := "whomOf", desc := "(I)I" } : Jvm.MethodName)) ∈ lw_all := lw_g (lw_at lw_m8 226 rfl) rfl
theorem q2042 : (Jvm.Cond.code ({ cls := "PepperTablesModel", name := "whomOf", desc := "(I)I" } : Jvm.MethodName) prog_23_method_51_code (2 : Nat) (Option.some Jvm.ClassFile.FieldType.int)) ∈ lw_all := lw_g (lw_at lw_m8 227 rfl) rfl
theorem q2044 : (Jvm.Cond.instanceMethod ({ cls := "PepperTablesModel", name := "thing", desc := "(II)I" } : Jvm.MethodName)) ∈ lw_all := lw_g (lw_at lw_m8 229 rfl) rfl
theorem q2045 : (Jvm.Cond.selects "PepperTablesModel" ({ cls := "PepperTablesModel", name := "thing", desc := "(II)I" } : Jvm.MethodName) ({ cls := "PepperTablesModel", name := "thing", desc := "(II)I" } : Jvm.MethodName)) ∈ lw_all := lw_g (lw_at lw_m8 230 rfl) rfl
theorem q2046 : (Jvm.Cond.code ({ cls := "PepperTablesModel", name := "thing", desc := "(II)I" } : Jvm.MethodName) prog_23_method_69_code (3 : Nat) (Option.some Jvm.ClassFile.FieldType.int)) ∈ lw_all := lw_g (lw_at lw_m8 231 rfl) rfl
theorem q2047 : (Jvm.Cond.methodLink "PepperTablesModel" (422 : Nat) ({ cls := "PepperTablesModel", name := "isThing", desc := "(I)Z" } : Jvm.MethodName)) ∈ lw_all := lw_g (lw_at lw_m8 232 rfl) rfl
theorem q2048 : (Jvm.Cond.privateMethod ({ cls := "PepperTablesModel", name := "isThing", desc := "(I)Z" } : Jvm.MethodName)) ∈ lw_tbl := lw_at lw_m8 233 rfl
theorem q2049 : (Jvm.Cond.instanceMethod ({ cls := "PepperTablesModel", name := "isThing", desc := "(I)Z" } : Jvm.MethodName)) ∈ lw_all := lw_g (lw_at lw_m8 234 rfl) rfl
theorem q2050 : (Jvm.Cond.code ({ cls := "PepperTablesModel", name := "isThing", desc := "(I)Z" } : Jvm.MethodName) prog_23_method_49_code (2 : Nat) (Option.some Jvm.ClassFile.FieldType.boolean)) ∈ lw_all := lw_g (lw_at lw_m8 235 rfl) rfl
theorem q2051 : (Jvm.Cond.methodLink "PepperTablesModel" (333 : Nat) ({ cls := "PepperTablesModel", name := "hotOf", desc := "(I)I" } : Jvm.MethodName)) ∈ lw_all := lw_g (lw_at lw_m8 236 rfl) rfl
theorem q2052 : (Jvm.Cond.privateMethod ({ cls := "PepperTablesModel", name := "hotOf", desc := "(I)I" } : Jvm.MethodName)) ∈ lw_tbl := lw_at lw_m8 237 rfl
theorem q2053 : (Jvm.Cond.instanceMethod ({ cls := "PepperTablesModel", name := "hotOf", desc := "(I)I" } : Jvm.MethodName)) ∈ lw_all := lw_g (lw_at lw_m8 238 rfl) rfl
theorem q2054 : (Jvm.Cond.code ({ cls := "PepperTablesModel", name := "hotOf", desc := "(I)I" } : Jvm.MethodName) prog_23_method_52_code (2 : Nat) (Option.some Jvm.ClassFile.FieldType.int)) ∈ lw_all := lw_g (lw_at lw_m8 239 rfl) rfl
theorem q2056 : (Jvm.Cond.instanceMethod ({ cls := "PepperTablesModel", name := "sack", desc := "(II)I" } : Jvm.MethodName)) ∈ lw_all := lw_g (lw_at lw_m9 1 rfl) rfl
theorem q2057 : (Jvm.Cond.selects "PepperTablesModel" ({ cls := "PepperTablesModel", name := "sack", desc := "(II)I" } : Jvm.MethodName) ({ cls := "PepperTablesModel", name := "sack", desc := "(II)I" } : Jvm.MethodName)) ∈ lw_all := lw_g (lw_at lw_m9 2 rfl) rfl
theorem q2058 : (Jvm.Cond.code ({ cls := "PepperTablesModel", name := "sack", desc := "(II)I" } : Jvm.MethodName) prog_23_method_70_code (3 : Nat) (Option.some Jvm.ClassFile.FieldType.int)) ∈ lw_all := lw_g (lw_at lw_m9 3 rfl) rfl
theorem q2059 : (Jvm.Cond.methodLink "PepperTablesModel" (425 : Nat) ({ cls := "PepperTablesModel", name := "isSack", desc := "(I)Z" } : Jvm.MethodName)) ∈ lw_all := lw_g (lw_at lw_m9 4 rfl) rfl
theorem q2060 : (Jvm.Cond.privateMethod ({ cls := "PepperTablesModel", name := "isSack", desc := "(I)Z" } : Jvm.MethodName)) ∈ lw_tbl := lw_at lw_m9 5 rfl
theorem q2061 : (Jvm.Cond.instanceMethod ({ cls := "PepperTablesModel", name := "isSack", desc := "(I)Z" } : Jvm.MethodName)) ∈ lw_all := lw_g (lw_at lw_m9 6 rfl) rfl
theorem q2062 : (Jvm.Cond.code ({ cls := "PepperTablesModel", name := "isSack", desc := "(I)Z" } : Jvm.MethodName) prog_23_method_48_code (2 : Nat) (Option.some Jvm.ClassFile.FieldType.boolean)) ∈ lw_all := lw_g (lw_at lw_m9 7 rfl) rfl
theorem q2063 : (Jvm.Cond.methodLink "PepperTablesModel" (365 : Nat) ({ cls := "PepperTablesModel", name := "bags", desc := "()I" } : Jvm.MethodName)) ∈ lw_all := lw_g (lw_at lw_m9 8 rfl) rfl
theorem q2064 : (Jvm.Cond.privateMethod ({ cls := "PepperTablesModel", name := "bags", desc := "()I" } : Jvm.MethodName)) ∈ lw_tbl := lw_at lw_m9 9 rfl
theorem q2065 : (Jvm.Cond.instanceMethod ({ cls := "PepperTablesModel", name := "bags", desc := "()I" } : Jvm.MethodName)) ∈ lw_all := lw_g (lw_at lw_m9 10 rfl) rfl
theorem q2066 : (Jvm.Cond.code ({ cls := "PepperTablesModel", name := "bags", desc := "()I" } : Jvm.MethodName) prog_23_method_45_code (1 : Nat) (Option.some Jvm.ClassFile.FieldType.int)) ∈ lw_all := lw_g (lw_at lw_m9 11 rfl) rfl
theorem q2067 : (Jvm.Cond.methodLink "PepperTablesModel" (345 : Nat) ({ cls := "PepperTablesModel", name := "inOf", desc := "(I)I" } : Jvm.MethodName)) ∈ lw_all := lw_g (lw_at lw_m9 12 rfl) rfl
theorem q2068 : (Jvm.Cond.privateMethod ({ cls := "PepperTablesModel", name := "inOf", desc := "(I)I" } : Jvm.MethodName)) ∈ lw_tbl := lw_at lw_m9 13 rfl
theorem q2069 : (Jvm.Cond.instanceMethod ({ cls := "PepperTablesModel", name := "inOf", desc := "(I)I" } : Jvm.MethodName)) ∈ lw_all := lw_g (lw_at lw_m9 14 rfl) rfl
theorem q2070 : (Jvm.Cond.code ({ cls := "PepperTablesModel", name := "inOf", desc := "(I)I" } : Jvm.MethodName) prog_23_method_56_code (4 : Nat) (Option.some Jvm.ClassFile.FieldType.int)) ∈ lw_all := lw_g (lw_at lw_m9 15 rfl) rfl
theorem q2071 : (Jvm.Cond.methodLink "PepperTablesModel" (386 : Nat) ({ cls := "PepperTablesModel", name := "isStill", desc := "(I)Z" } : Jvm.MethodName)) ∈ lw_all := lw_g (lw_at lw_m9 16 rfl) rfl
theorem q2072 : (Jvm.Cond.privateMethod ({ cls := "PepperTablesModel", name := "isStill", desc := "(I)Z" } : Jvm.MethodName)) ∈ lw_tbl := lw_at lw_m9 17 rfl
theorem q2073 : (Jvm.Cond.instanceMethod ({ cls := "PepperTablesModel", name := "isStill", desc := "(I)Z" } : Jvm.MethodName)) ∈ lw_all := lw_g (lw_at lw_m9 18 rfl) rfl
theorem q2074 : (Jvm.Cond.code ({ cls := "PepperTablesModel", name := "isStill", desc := "(I)Z" } : Jvm.MethodName) prog_23_method_55_code (2 : Nat) (Option.some Jvm.ClassFile.FieldType.boolean)) ∈ lw_all := lw_g (lw_at lw_m9 19 rfl) rfl
theorem q2075 : (Jvm.Cond.methodLink "PepperTablesModel" (348 : Nat) ({ cls := "PepperTablesModel", name := "heatOf", desc := "(I)I" } : Jvm.MethodName)) ∈ lw_all := lw_g (lw_at lw_m9 20 rfl) rfl
theorem q2076 : (Jvm.Cond.privateMethod ({ cls := "PepperTablesModel", name := "heatOf", desc := "(I)I" } : Jvm.MethodName)) ∈ lw_tbl := lw_at lw_m9 21 rfl
theorem q2077 : (Jvm.Cond.instanceMethod ({ cls := "PepperTablesModel", name := "heatOf", desc := "(I)I" } : Jvm.MethodName)) ∈ lw_all := lw_g (lw_at lw_m9 22 rfl) rfl
theorem q2078 : (Jvm.Cond.code ({ cls := "PepperTablesModel", name := "heatOf", desc := "(I)I" } : Jvm.MethodName) prog_23_method_57_code (4 : Nat) (Option.some Jvm.ClassFile.FieldType.int)) ∈ lw_all := lw_g (lw_at lw_m9 23 rfl) rfl
theorem q2080 : (Jvm.Cond.instanceMethod ({ cls := "PepperTablesModel", name := "would", desc := "(I)I" } : Jvm.MethodName)) ∈ lw_all := lw_g (lw_at lw_m9 25 rfl) rfl
theorem q2081 : (Jvm.Cond.selects "PepperTablesModel" ({ cls := "PepperTablesModel", name := "would", desc := "(I)I" } : Jvm.MethodName) ({ cls := "PepperTablesModel", name := "would", desc := "(I)I" } : Jvm.MethodName)) ∈ lw_all := lw_g (lw_at lw_m9 26 rfl) rfl
theorem q2082 : (Jvm.Cond.code ({ cls := "PepperTablesModel", name := "would", desc := "(I)I" } : Jvm.MethodName) prog_23_method_71_code (2 : Nat) (Option.some Jvm.ClassFile.FieldType.int)) ∈ lw_all := lw_g (lw_at lw_m9 27 rfl) rfl
theorem q2083 : (Jvm.Cond.methodLink "PepperTablesModel" (407 : Nat) ({ cls := "PepperTablesModel", name := "wouldOf", desc := "(I)I" } : Jvm.MethodName)) ∈ lw_all := lw_g (lw_at lw_m9 28 rfl) rfl
theorem q2084 : (Jvm.Cond.privateMethod ({ cls := "PepperTablesModel", name := "wouldOf", desc := "(I)I" } : Jvm.MethodName)) ∈ lw_tbl := lw_at lw_m9 29 rfl
theorem q2085 : (Jvm.Cond.instanceMethod ({ cls := "PepperTablesModel", name := "wouldOf", desc := "(I)I" } : Jvm.MethodName)) ∈ lw_all := lw_g (lw_at lw_m9 30 rfl) rfl
theorem q2086 : (Jvm.Cond.code ({ cls := "PepperTablesModel", name := "wouldOf", desc := "(I)I" } : Jvm.MethodName) prog_23_method_63_code (5 : Nat) (Option.some Jvm.ClassFile.FieldType.int)) ∈ lw_all := lw_g (lw_at lw_m9 31 rfl) rfl
theorem q2087 : (Jvm.Cond.methodLink "PepperTablesModel" (404 : Nat) ({ cls := "PepperTablesModel", name := "isLetOut", desc := "(II)Z" } : Jvm.MethodName)) ∈ lw_all := lw_g (lw_at lw_m9 32 rfl) rfl
theorem q2088 : (Jvm.Cond.privateMethod ({ cls := "PepperTablesModel", name := "isLetOut", desc := "(II)Z" } : Jvm.MethodName)) ∈ lw_tbl := lw_at lw_m9 33 rfl
theorem q2089 : (Jvm.Cond.instanceMethod ({ cls := "PepperTablesModel", name := "isLetOut", desc := "(II)Z" } : Jvm.MethodName)) ∈ lw_all := lw_g (lw_at lw_m9 34 rfl) rfl
theorem q2090 : (Jvm.Cond.code ({ cls := "PepperTablesModel", name := "isLetOut", desc := "(II)Z" } : Jvm.MethodName) prog_23_method_62_code (3 : Nat) (Option.some Jvm.ClassFile.FieldType.boolean)) ∈ lw_all := lw_g (lw_at lw_m9 35 rfl) rfl
theorem q2091 : (Jvm.Cond.methodLink "PepperTablesModel" (395 : Nat) ({ cls := "PepperTablesModel", name := "doBothSit", desc := "(I)Z" } : Jvm.MethodName)) ∈ lw_all := lw_g (lw_at lw_m9 36 rfl) rfl
theorem q2092 : (Jvm.Cond.privateMethod ({ cls := "PepperTablesModel", name := "doBothSit", desc := "(I)Z" } : Jvm.MethodName)) ∈ lw_tbl := lw_at lw_m9 37 rfl
theorem q2093 : (Jvm.Cond.instanceMethod ({ cls := "PepperTablesModel", name := "doBothSit", desc := "(I)Z" } : Jvm.MethodName)) ∈ lw_all := lw_g (lw_at lw_m9 38 rfl) rfl
theorem q2094 : (Jvm.Cond.code ({ cls := "PepperTablesModel", name := "doBothSit", desc := "(I)Z" } : Jvm.MethodName) prog_23_method_61_code (2 : Nat) (Option.some Jvm.ClassFile.FieldType.boolean)) ∈ lw_all := lw_g (lw_at lw_m9 39 rfl) rfl
theorem q2095 : (Jvm.Cond.methodLink "PepperTablesModel" (401 : Nat) ({ cls := "PepperTablesModel", name := "comes", desc := "()I" } : Jvm.MethodName)) ∈ lw_all := lw_g (lw_at lw_m9 40 rfl) rfl
theorem q2096 : (Jvm.Cond.privateMethod ({ cls := "PepperTablesModel", name := "comes", desc := "()I" } : Jvm.MethodName)) ∈ lw_tbl := lw_at lw_m9 41 rfl
theorem q2097 : (Jvm.Cond.instanceMethod ({ cls := "PepperTablesModel", name := "comes", desc := "()I" } : Jvm.MethodName)) ∈ lw_all := lw_g (lw_at lw_m9 42 rfl) rfl
theorem q2098 : (Jvm.Cond.code ({ cls := "PepperTablesModel", name := "comes", desc := "()I" } : Jvm.MethodName) prog_23_method_37_code (4 : Nat) (Option.some Jvm.ClassFile.FieldType.int)) ∈ lw_all := lw_g (lw_at lw_m9 43 rfl) rfl
theorem q2099 : (Jvm.Cond.methodLink "PepperTablesModel" (351 : Nat) ({ cls := "PepperTablesModel", name := "asked", desc := "(II)I" } : Jvm.MethodName)) ∈ lw_all := lw_g (lw_at lw_m9 44 rfl) rfl
theorem q2100 : (Jvm.Cond.privateMethod ({ cls := "PepperTablesModel", name := "asked", desc := "(II)I" } : Jvm.MethodName)) ∈ lw_tbl := lw_at lw_m9 45 rfl
theorem q2101 : (Jvm.Cond.instanceMethod ({ cls := "PepperTablesModel", name := "asked", desc := "(II)I" } : Jvm.MethodName)) ∈ lw_all := lw_g (lw_at lw_m9 46 rfl) rfl
theorem q2102 : (Jvm.Cond.code ({ cls := "PepperTablesModel", name := "asked", desc := "(II)I" } : Jvm.MethodName) prog_23_method_36_code (3 : Nat) (Option.some Jvm.ClassFile.FieldType.int)) ∈ lw_all := lw_g (lw_at lw_m9 47 rfl) rfl
theorem q2103 : (Jvm.Cond.methodLink "PepperTablesModel" (339 : Nat) ({ cls := "PepperTablesModel", name := "bitsOf", desc := "(I)I" } : Jvm.MethodName)) ∈ lw_all := lw_g (lw_at lw_m9 48 rfl) rfl
theorem q2104 : (Jvm.Cond.static ({ cls := "PepperTablesModel", name := "bitsOf", desc := "(I)I" } : Jvm.MethodName)) ∈ lw_all := lw_g (lw_at lw_m9 49 rfl) rfl
theorem q2105 : (Jvm.Cond.code ({ cls := "PepperTablesModel", name := "bitsOf", desc := "(I)I" } : Jvm.MethodName) prog_23_method_41_code (3 : Nat) (Option.some Jvm.ClassFile.FieldType.int)) ∈ lw_all := lw_g (lw_at lw_m9 50 rfl) rfl
theorem q2106 : (Jvm.Cond.methodLink "PepperTablesModel" (354 : Nat) ({ cls := "PepperTablesModel", name := "two", desc := "(III)I" } : Jvm.MethodName)) ∈ lw_all := lw_g (lw_at lw_m9 51 rfl) rfl
theorem q2107 : (Jvm.Cond.static ({ cls := "PepperTablesModel", name := "two", desc := "(III)I" } : Jvm.MethodName)) ∈ lw_all := lw_g (lw_at lw_m9 52 rfl) rfl
theorem q2108 : (Jvm.Cond.code ({ cls := "PepperTablesModel", name := "two", desc := "(III)I" } : Jvm.MethodName) prog_23_method_35_code (3 : Nat) (Option.some Jvm.ClassFile.FieldType.int)) ∈ lw_all := lw_g (lw_at lw_m9 53 rfl) rfl
theorem q2110 : (Jvm.Cond.instanceMethod ({ cls := "PepperTablesModel", name := "keeps", desc := "(II)I" } : Jvm.MethodName)) ∈ lw_all := lw_g (lw_at lw_m9 55 rfl) rfl
theorem q2111 : (Jvm.Cond.selects "PepperTablesModel" ({ cls := "PepperTablesModel", name := "keeps", desc := "(II)I" } : Jvm.MethodName) ({ cls := "PepperTablesModel", name := "keeps", desc := "(II)I" } : Jvm.MethodName)) ∈ lw_all := lw_g (lw_at lw_m9 56 rfl) rfl
theorem q2112 : (Jvm.Cond.code ({ cls := "PepperTablesModel", name := "keeps", desc := "(II)I" } : Jvm.MethodName) prog_23_method_72_code (3 : Nat) (Option.some Jvm.ClassFile.FieldType.int)) ∈ lw_all := lw_g (lw_at lw_m9 57 rfl) rfl
theorem q2114 : (Jvm.Cond.instanceMethod ({ cls := "PepperTablesModel", name := "dupe", desc := "()I" } : Jvm.MethodName)) ∈ lw_all := lw_g (lw_at lw_m9 59 rfl) rfl
theorem q2115 : (Jvm.Cond.selects "PepperTablesModel" ({ cls := "PepperTablesModel", name := "dupe", desc := "()I" } : Jvm.MethodName) ({ cls := "PepperTablesModel", name := "dupe", desc := "()I" } : Jvm.MethodName)) ∈ lw_all := lw_g (lw_at lw_m9 60 rfl) rfl
theorem q2116 : (Jvm.Cond.code ({ cls := "PepperTablesModel", name := "dupe", desc := "()I" } : Jvm.MethodName) prog_23_method_73_code (3 : Nat) (Option.some Jvm.ClassFile.FieldType.int)) ∈ lw_all := lw_g (lw_at lw_m9 61 rfl) rfl
theorem q2118 : (Jvm.Cond.instanceMethod ({ cls := "PepperTablesModel", name := "closest", desc := "()I" } : Jvm.MethodName)) ∈ lw_all := lw_g (lw_at lw_m9 63 rfl) rfl
theorem q2119 : (Jvm.Cond.selects "PepperTablesModel" ({ cls := "PepperTablesModel", name := "closest", desc := "()I" } : Jvm.MethodName) ({ cls := "PepperTablesModel", name := "closest", desc := "()I" } : Jvm.MethodName)) ∈ lw_all := lw_g (lw_at lw_m9 64 rfl) rfl
theorem q2120 : (Jvm.Cond.code ({ cls := "PepperTablesModel", name := "closest", desc := "()I" } : Jvm.MethodName) prog_23_method_74_code (3 : Nat) (Option.some Jvm.ClassFile.FieldType.int)) ∈ lw_all := lw_g (lw_at lw_m9 65 rfl) rfl
theorem q2122 : (Jvm.Cond.instanceMethod ({ cls := "PepperTablesModel", name := "hottest", desc := "()I" } : Jvm.MethodName)) ∈ lw_all := lw_g (lw_at lw_m9 67 rfl) rfl
theorem q2123 : (Jvm.Cond.selects "PepperTablesModel" ({ cls := "PepperTablesModel", name := "hottest", desc := "()I" } : Jvm.MethodName) ({ cls := "PepperTablesModel", name := "hottest", desc := "()I" } : Jvm.MethodName)) ∈ lw_all := lw_g (lw_at lw_m9 68 rfl) rfl
theorem q2124 : (Jvm.Cond.code ({ cls := "PepperTablesModel", name := "hottest", desc := "()I" } : Jvm.MethodName) prog_23_method_75_code (3 : Nat) (Option.some Jvm.ClassFile.FieldType.int)) ∈ lw_all := lw_g (lw_at lw_m9 69 rfl) rfl
theorem q2126 : (Jvm.Cond.instanceMethod ({ cls := "PepperTablesModel", name := "idle", desc := "()I" } : Jvm.MethodName)) ∈ lw_all := lw_g (lw_at lw_m9 71 rfl) rfl
theorem q2127 : (Jvm.Cond.selects "PepperTablesModel" ({ cls := "PepperTablesModel", name := "idle", desc := "()I" } : Jvm.MethodName) ({ cls := "PepperTablesModel", name := "idle", desc := "()I" } : Jvm.MethodName)) ∈ lw_all := lw_g (lw_at lw_m9 72 rfl) rfl
theorem q2128 : (Jvm.Cond.code ({ cls := "PepperTablesModel", name := "idle", desc := "()I" } : Jvm.MethodName) prog_23_method_76_code (3 : Nat) (Option.some Jvm.ClassFile.FieldType.int)) ∈ lw_all := lw_g (lw_at lw_m9 73 rfl) rfl
theorem q2130 : (Jvm.Cond.instanceMethod ({ cls := "PepperTablesModel", name := "storm", desc := "()I" } : Jvm.MethodName)) ∈ lw_all := lw_g (lw_at lw_m9 75 rfl) rfl
theorem q2131 : (Jvm.Cond.selects "PepperTablesModel" ({ cls := "PepperTablesModel", name := "storm", desc := "()I" } : Jvm.MethodName) ({ cls := "PepperTablesModel", name := "storm", desc := "()I" } : Jvm.MethodName)) ∈ lw_all := lw_g (lw_at lw_m9 76 rfl) rfl
theorem q2132 : (Jvm.Cond.code ({ cls := "PepperTablesModel", name := "storm", desc := "()I" } : Jvm.MethodName) prog_23_method_77_code (1 : Nat) (Option.some Jvm.ClassFile.FieldType.int)) ∈ lw_all := lw_g (lw_at lw_m9 77 rfl) rfl
theorem q2133 : (Jvm.Cond.methodLink "PepperTablesModel" (428 : Nat) ({ cls := "PepperTablesModel", name := "allSacks", desc := "()I" } : Jvm.MethodName)) ∈ lw_all := lw_g (lw_at lw_m9 78 rfl) rfl
theorem q2134 : (Jvm.Cond.privateMethod ({ cls := "PepperTablesModel", name := "allSacks", desc := "()I" } : Jvm.MethodName)) ∈ lw_tbl := lw_at lw_m9 79 rfl
theorem q2135 : (Jvm.Cond.instanceMethod ({ cls := "PepperTablesModel", name := "allSacks", desc := "()I" } : Jvm.MethodName)) ∈ lw_all := lw_g (lw_at lw_m9 80 rfl) rfl
theorem q2136 : (Jvm.Cond.code ({ cls := "PepperTablesModel", name := "allSacks", desc := "()I" } : Jvm.MethodName) prog_23_method_66_code (1 : Nat) (Option.some Jvm.ClassFile.FieldType.int)) ∈ lw_all := lw_g (lw_at lw_m9 81 rfl) rfl
theorem q2137 : (Jvm.Cond.methodLink "PepperTablesModel" (431 : Nat) ({ cls := "PepperTablesModel", name := "saidBy", desc := "(I)I" } : Jvm.MethodName)) ∈ lw_all := lw_g (lw_at lw_m9 82 rfl) rfl
theorem q2138 : (Jvm.Cond.privateMethod ({ cls := "PepperTablesModel", name := "saidBy", desc := "(I)I" } : Jvm.MethodName)) ∈ lw_tbl := lw_at lw_m9 83 rfl
theorem q2139 : (Jvm.Cond.instanceMethod ({ cls := "PepperTablesModel", name := "saidBy", desc := "(I)I" } : Jvm.MethodName)) ∈ lw_all := lw_g (lw_at lw_m9 84 rfl) rfl
theorem q2140 : (Jvm.Cond.code ({ cls := "PepperTablesModel", name := "saidBy", desc := "(I)I" } : Jvm.MethodName) prog_23_method_65_code (4 : Nat) (Option.some Jvm.ClassFile.FieldType.int)) ∈ lw_all := lw_g (lw_at lw_m9 85 rfl) rfl
theorem q2142 : (Jvm.Cond.instanceMethod ({ cls := "PepperTablesModel", name := "scandal", desc := "()I" } : Jvm.MethodName)) ∈ lw_all := lw_g (lw_at lw_m9 87 rfl) rfl
theorem q2143 : (Jvm.Cond.selects "PepperTablesModel" ({ cls := "PepperTablesModel", name := "scandal", desc := "()I" } : Jvm.MethodName) ({ cls := "PepperTablesModel", name := "scandal", desc := "()I" } : Jvm.MethodName)) ∈ lw_all := lw_g (lw_at lw_m9 88 rfl) rfl
theorem q2144 : (Jvm.Cond.code ({ cls := "PepperTablesModel", name := "scandal", desc := "()I" } : Jvm.MethodName) prog_23_method_78_code (1 : Nat) (Option.some Jvm.ClassFile.FieldType.int)) ∈ lw_all := lw_g (lw_at lw_m9 89 rfl) rfl
theorem q2146 : (Jvm.Cond.instanceMethod ({ cls := "PepperTablesModel", name := "near", desc := "()I" } : Jvm.MethodName)) ∈ lw_all := lw_g (lw_at lw_m9 91 rfl) rfl
theorem q2147 : (Jvm.Cond.selects "PepperTablesModel" ({ cls := "PepperTablesModel", name := "near", desc := "()I" } : Jvm.MethodName) ({ cls := "PepperTablesModel", name := "near", desc := "()I" } : Jvm.MethodName)) ∈ lw_all := lw_g (lw_at lw_m9 92 rfl) rfl
theorem q2148 : (Jvm.Cond.code ({ cls := "PepperTablesModel", name := "near", desc := "()I" } : Jvm.MethodName) prog_23_method_79_code (3 : Nat) (Option.some Jvm.ClassFile.FieldType.int)) ∈ lw_all := lw_g (lw_at lw_m9 93 rfl) rfl
theorem q2150 : (Jvm.Cond.instanceMethod ({ cls := "PepperTablesModel", name := "next", desc := "()I" } : Jvm.MethodName)) ∈ lw_all := lw_g (lw_at lw_m9 95 rfl) rfl
theorem q2151 : (Jvm.Cond.selects "PepperTablesModel" ({ cls := "PepperTablesModel", name := "next", desc := "()I" } : Jvm.MethodName) ({ cls := "PepperTablesModel", name := "next", desc := "()I" } : Jvm.MethodName)) ∈ lw_all := lw_g (lw_at lw_m9 96 rfl) rfl
theorem q2152 : (Jvm.Cond.code ({ cls := "PepperTablesModel", name := "next", desc := "()I" } : Jvm.MethodName) prog_23_method_80_code (1 : Nat) (Option.some Jvm.ClassFile.FieldType.int)) ∈ lw_all := lw_g (lw_at lw_m9 97 rfl) rfl
theorem q2153 : (Jvm.Cond.methodLink "PepperTablesModel" (434 : Nat) ({ cls := "PepperTablesModel", name := "sneezed", desc := "()I" } : Jvm.MethodName)) ∈ lw_all := lw_g (lw_at lw_m9 98 rfl) rfl
theorem q2154 : (Jvm.Cond.privateMethod ({ cls := "PepperTablesModel", name := "sneezed", desc := "()I" } : Jvm.MethodName)) ∈ lw_tbl := lw_at lw_m9 99 rfl
theorem q2155 : (Jvm.Cond.instanceMethod ({ cls := "PepperTablesModel", name := "sneezed", desc := "()I" } : Jvm.MethodName)) ∈ lw_all := lw_g (lw_at lw_m9 100 rfl) rfl
theorem q2156 : (Jvm.Cond.code ({ cls := "PepperTablesModel", name := "sneezed", desc := "()I" } : Jvm.MethodName) prog_23_method_67_code (3 : Nat) (Option.some Jvm.ClassFile.FieldType.int)) ∈ lw_all := lw_g (lw_at lw_m9 101 rfl) rfl
theorem q2158 : (Jvm.Cond.instanceMethod ({ cls := "PepperTablesModel", name := "pairs", desc := "()I" } : Jvm.MethodName)) ∈ lw_all := lw_g (lw_at lw_m9 103 rfl) rfl
theorem q2159 : (Jvm.Cond.selects "PepperTablesModel" ({ cls := "PepperTablesModel", name := "pairs", desc := "()I" } : Jvm.MethodName) ({ cls := "PepperTablesModel", name := "pairs", desc := "()I" } : Jvm.MethodName)) ∈ lw_all := lw_g (lw_at lw_m9 104 rfl) rfl
theorem q2160 : (Jvm.Cond.code ({ cls := "PepperTablesModel", name := "pairs", desc := "()I" } : Jvm.MethodName) prog_23_method_81_code (4 : Nat) (Option.some Jvm.ClassFile.FieldType.int)) ∈ lw_all := lw_g (lw_at lw_m9 105 rfl) rfl
theorem q2162 : (Jvm.Cond.instanceMethod ({ cls := "PepperTablesModel", name := "law", desc := "(II)I" } : Jvm.MethodName)) ∈ lw_all := lw_g (lw_at lw_m9 107 rfl) rfl
theorem q2163 : (Jvm.Cond.selects "PepperTablesModel" ({ cls := "PepperTablesModel", name := "law", desc := "(II)I" } : Jvm.MethodName) ({ cls := "PepperTablesModel", name := "law", desc := "(II)I" } : Jvm.MethodName)) ∈ lw_all := lw_g (lw_at lw_m9 108 rfl) rfl
theorem q2164 : (Jvm.Cond.code ({ cls := "PepperTablesModel", name := "law", desc := "(II)I" } : Jvm.MethodName) prog_23_method_82_code (5 : Nat) (Option.some Jvm.ClassFile.FieldType.int)) ∈ lw_all := lw_g (lw_at lw_m9 109 rfl) rfl
theorem q2166 : (Jvm.Cond.instanceMethod ({ cls := "PepperTablesModel", name := "sit", desc := "(I)I" } : Jvm.MethodName)) ∈ lw_all := lw_g (lw_at lw_m9 111 rfl) rfl
theorem q2167 : (Jvm.Cond.selects "PepperTablesModel" ({ cls := "PepperTablesModel", name := "sit", desc := "(I)I" } : Jvm.MethodName) ({ cls := "PepperTablesModel", name := "sit", desc := "(I)I" } : Jvm.MethodName)) ∈ lw_all := lw_g (lw_at lw_m9 112 rfl) rfl
theorem q2168 : (Jvm.Cond.code ({ cls := "PepperTablesModel", name := "sit", desc := "(I)I" } : Jvm.MethodName) prog_23_method_85_code (2 : Nat) (Option.some Jvm.ClassFile.FieldType.int)) ∈ lw_all := lw_g (lw_at lw_m9 113 rfl) rfl
theorem q2169 : (Jvm.Cond.methodLink "PepperTablesModel" (437 : Nat) ({ cls := "PepperTablesModel", name := "keepAct", desc := "()V" } : Jvm.MethodName)) ∈ lw_all := lw_g (lw_at lw_m9 114 rfl) rfl
theorem q2170 : (Jvm.Cond.privateMethod ({ cls := "PepperTablesModel", name := "keepAct", desc := "()V" } : Jvm.MethodName)) ∈ lw_tbl := lw_at lw_m9 115 rfl
theorem q2171 : (Jvm.Cond.instanceMethod ({ cls := "PepperTablesModel", name := "keepAct", desc := "()V" } : Jvm.MethodName)) ∈ lw_all := lw_g (lw_at lw_m9 116 rfl) rfl
theorem q2172 : (Jvm.Cond.code ({ cls := "PepperTablesModel", name := "keepAct", desc := "()V" } : Jvm.MethodName) prog_23_method_83_code (2 : Nat) (Option.none : Option Jvm.ClassFile.FieldType)) ∈ lw_all := lw_g (lw_at lw_m9 117 rfl) rfl
theorem q2174 : (Jvm.Cond.instanceMethod ({ cls := "PepperTablesModel", name := "rise", desc := "(I)I" } : Jvm.MethodName)) ∈ lw_all := lw_g (lw_at lw_m9 119 rfl) rfl
theorem q2175 : (Jvm.Cond.selects "PepperTablesModel" ({ cls := "PepperTablesModel", name := "rise", desc := "(I)I" } : Jvm.MethodName) ({ cls := "PepperTablesModel", name := "rise", desc := "(I)I" } : Jvm.MethodName)) ∈ lw_all := lw_g (lw_at lw_m9 120 rfl) rfl
theorem q2176 : (Jvm.Cond.code ({ cls := "PepperTablesModel", name := "rise", desc := "(I)I" } : Jvm.MethodName) prog_23_method_86_code (2 : Nat) (Option.some Jvm.ClassFile.FieldType.int)) ∈ lw_all := lw_g (lw_at lw_m9 121 rfl) rfl
theorem q2178 : (Jvm.Cond.instanceMethod ({ cls := "PepperTablesModel", name := "grind", desc := "(I)I" } : Jvm.MethodName)) ∈ lw_all := lw_g (lw_at lw_m9 123 rfl) rfl
theorem q2179 : (Jvm.Cond.selects "PepperTablesModel" ({ cls := "PepperTablesModel", name := "grind", desc := "(I)I" } : Jvm.MethodName) ({ cls := "PepperTablesModel", name := "grind", desc := "(I)I" } : Jvm.MethodName)) ∈ lw_all := lw_g (lw_at lw_m9 124 rfl) rfl
theorem q2180 : (Jvm.Cond.code ({ cls := "PepperTablesModel", name := "grind", desc := "(I)I" } : Jvm.MethodName) prog_23_method_87_code (2 : Nat) (Option.some Jvm.ClassFile.FieldType.int)) ∈ lw_all := lw_g (lw_at lw_m9 125 rfl) rfl
theorem q2181 : (Jvm.Cond.methodLink "PepperTablesModel" (440 : Nat) ({ cls := "PepperTablesModel", name := "goGrind", desc := "(I)I" } : Jvm.MethodName)) ∈ lw_all := lw_g (lw_at lw_m9 126 rfl) rfl
theorem q2182 : (Jvm.Cond.privateMethod ({ cls := "PepperTablesModel", name := "goGrind", desc := "(I)I" } : Jvm.MethodName)) ∈ lw_tbl := lw_at lw_m9 127 rfl
theorem q2183 : (Jvm.Cond.instanceMethod ({ cls := "PepperTablesModel", name := "goGrind", desc := "(I)I" } : Jvm.MethodName)) ∈ lw_all := lw_g (lw_at lw_m9 128 rfl) rfl
theorem q2184 : (Jvm.Cond.code ({ cls := "PepperTablesModel", name := "goGrind", desc := "(I)I" } : Jvm.MethodName) prog_23_method_64_code (3 : Nat) (Option.some Jvm.ClassFile.FieldType.int)) ∈ lw_all := lw_g (lw_at lw_m9 129 rfl) rfl
theorem q2186 : (Jvm.Cond.instanceMethod ({ cls := "PepperTablesModel", name := "pour", desc := "(II)I" } : Jvm.MethodName)) ∈ lw_all := lw_g (lw_at lw_m9 131 rfl) rfl
theorem q2187 : (Jvm.Cond.selects "PepperTablesModel" ({ cls := "PepperTablesModel", name := "pour", desc := "(II)I" } : Jvm.MethodName) ({ cls := "PepperTablesModel", name := "pour", desc := "(II)I" } : Jvm.MethodName)) ∈ lw_all := lw_g (lw_at lw_m9 132 rfl) rfl
theorem q2188 : (Jvm.Cond.code ({ cls := "PepperTablesModel", name := "pour", desc := "(II)I" } : Jvm.MethodName) prog_23_method_88_code (4 : Nat) (Option.some Jvm.ClassFile.FieldType.int)) ∈ lw_all := lw_g (lw_at lw_m9 133 rfl) rfl
theorem q2190 : (Jvm.Cond.instanceMethod ({ cls := "PepperTablesModel", name := "course", desc := "()I" } : Jvm.MethodName)) ∈ lw_all := lw_g (lw_at lw_m9 135 rfl) rfl
theorem q2191 : (Jvm.Cond.selects "PepperTablesModel" ({ cls := "PepperTablesModel", name := "course", desc := "()I" } : Jvm.MethodName) ({ cls := "PepperTablesModel", name := "course", desc := "()I" } : Jvm.MethodName)) ∈ lw_all := lw_g (lw_at lw_m9 136 rfl) rfl
theorem q2192 : (Jvm.Cond.code ({ cls := "PepperTablesModel", name := "course", desc := "()I" } : Jvm.MethodName) prog_23_method_89_code (2 : Nat) (Option.some Jvm.ClassFile.FieldType.int)) ∈ lw_all := lw_g (lw_at lw_m9 137 rfl) rfl
theorem q2194 : (Jvm.Cond.instanceMethod ({ cls := "PepperTablesModel", name := "undo", desc := "()Z" } : Jvm.MethodName)) ∈ lw_all := lw_g (lw_at lw_m9 139 rfl) rfl
theorem q2195 : (Jvm.Cond.selects "PepperTablesModel" ({ cls := "PepperTablesModel", name := "undo", desc := "()Z" } : Jvm.MethodName) ({ cls := "PepperTablesModel", name := "undo", desc := "()Z" } : Jvm.MethodName)) ∈ lw_all := lw_g (lw_at lw_m9 140 rfl) rfl
theorem q2196 : (Jvm.Cond.code ({ cls := "PepperTablesModel", name := "undo", desc := "()Z" } : Jvm.MethodName) prog_23_method_90_code (1 : Nat) (Option.some Jvm.ClassFile.FieldType.boolean)) ∈ lw_all := lw_g (lw_at lw_m9 141 rfl) rfl
theorem q2197 : (Jvm.Cond.methodLink "PepperTablesModel" (443 : Nat) ({ cls := "PepperTablesModel", name := "swapAll", desc := "()V" } : Jvm.MethodName)) ∈ lw_all := lw_g (lw_at lw_m9 142 rfl) rfl
theorem q2198 : (Jvm.Cond.privateMethod ({ cls := "PepperTablesModel", name := "swapAll", desc := "()V" } : Jvm.MethodName)) ∈ lw_tbl := lw_at lw_m9 143 rfl
theorem q2199 : (Jvm.Cond.instanceMethod ({ cls := "PepperTablesModel", name := "swapAll", desc := "()V" } : Jvm.MethodName)) ∈ lw_all := lw_g (lw_at lw_m9 144 rfl) rfl
theorem q2200 : (Jvm.Cond.code ({ cls := "PepperTablesModel", name := "swapAll", desc := "()V" } : Jvm.MethodName) prog_23_method_84_code (3 : Nat) (Option.none : Option Jvm.ClassFile.FieldType)) ∈ lw_all := lw_g (lw_at lw_m9 145 rfl) rfl
theorem q2202 : (Jvm.Cond.instanceMethod ({ cls := "PepperTablesModel", name := "redo", desc := "()Z" } : Jvm.MethodName)) ∈ lw_all := lw_g (lw_at lw_m9 147 rfl) rfl
theorem q2203 : (Jvm.Cond.selects "PepperTablesModel" ({ cls := "PepperTablesModel", name := "redo", desc := "()Z" } : Jvm.MethodName) ({ cls := "PepperTablesModel", name := "redo", desc := "()Z" } : Jvm.MethodName)) ∈ lw_all := lw_g (lw_at lw_m9 148 rfl) rfl
theorem q2204 : (Jvm.Cond.code ({ cls := "PepperTablesModel", name := "redo", desc := "()Z" } : Jvm.MethodName) prog_23_method_91_code (1 : Nat) (Option.some Jvm.ClassFile.FieldType.boolean)) ∈ lw_all := lw_g (lw_at lw_m9 149 rfl) rfl
theorem q2206 : (Jvm.Cond.instanceMethod ({ cls := "PepperTablesModel", name := "lies", desc := "(I)I" } : Jvm.MethodName)) ∈ lw_all := lw_g (lw_at lw_m9 151 rfl) rfl
theorem q2207 : (Jvm.Cond.selects "PepperTablesModel" ({ cls := "PepperTablesModel", name := "lies", desc := "(I)I" } : Jvm.MethodName) ({ cls := "PepperTablesModel", name := "lies", desc := "(I)I" } : Jvm.MethodName)) ∈ lw_all := lw_g (lw_at lw_m9 152 rfl) rfl
theorem q2208 : (Jvm.Cond.code ({ cls := "PepperTablesModel", name := "lies", desc := "(I)I" } : Jvm.MethodName) prog_23_method_92_code (2 : Nat) (Option.some Jvm.ClassFile.FieldType.int)) ∈ lw_all := lw_g (lw_at lw_m9 153 rfl) rfl
theorem q2210 : (Jvm.Cond.instanceMethod ({ cls := "PepperTablesModel", name := "table", desc := "(III)I" } : Jvm.MethodName)) ∈ lw_all := lw_g (lw_at lw_m9 155 rfl) rfl
theorem q2211 : (Jvm.Cond.selects "PepperTablesModel" ({ cls := "PepperTablesModel", name := "table", desc := "(III)I" } : Jvm.MethodName) ({ cls := "PepperTablesModel", name := "table", desc := "(III)I" } : Jvm.MethodName)) ∈ lw_all := lw_g (lw_at lw_m9 156 rfl) rfl
theorem q2212 : (Jvm.Cond.code ({ cls := "PepperTablesModel", name := "table", desc := "(III)I" } : Jvm.MethodName) prog_23_method_97_code (6 : Nat) (Option.some Jvm.ClassFile.FieldType.int)) ∈ lw_all := lw_g (lw_at lw_m9 157 rfl) rfl
theorem q2213 : (Jvm.Cond.methodLink "PepperTablesModel" (446 : Nat) ({ cls := "PepperTablesModel", name := "wouldWith", desc := "(II)I" } : Jvm.MethodName)) ∈ lw_all := lw_g (lw_at lw_m9 158 rfl) rfl
theorem q2214 : (Jvm.Cond.privateMethod ({ cls := "PepperTablesModel", name := "wouldWith", desc := "(II)I" } : Jvm.MethodName)) ∈ lw_tbl := lw_at lw_m9 159 rfl
theorem q2215 : (Jvm.Cond.instanceMethod ({ cls := "PepperTablesModel", name := "wouldWith", desc := "(II)I" } : Jvm.MethodName)) ∈ lw_all := lw_g (lw_at lw_m9 160 rfl) rfl
theorem q2216 : (Jvm.Cond.code ({ cls := "PepperTablesModel", name := "wouldWith", desc := "(II)I" } : Jvm.MethodName) prog_23_method_95_code (5 : Nat) (Option.some Jvm.ClassFile.FieldType.int)) ∈ lw_all := lw_g (lw_at lw_m9 161 rfl) rfl
theorem q2218 : (Jvm.Cond.instanceMethod ({ cls := "PepperTablesModel", name := "mute", desc := "()I" } : Jvm.MethodName)) ∈ lw_all := lw_g (lw_at lw_m9 163 rfl) rfl
theorem q2219 : (Jvm.Cond.selects "PepperTablesModel" ({ cls := "PepperTablesModel", name := "mute", desc := "()I" } : Jvm.MethodName) ({ cls := "PepperTablesModel", name := "mute", desc := "()I" } : Jvm.MethodName)) ∈ lw_all := lw_g (lw_at lw_m9 164 rfl) rfl
theorem q2220 : (Jvm.Cond.code ({ cls := "PepperTablesModel", name := "mute", desc := "()I" } : Jvm.MethodName) prog_23_method_98_code (3 : Nat) (Option.some Jvm.ClassFile.FieldType.int)) ∈ lw_all := lw_g (lw_at lw_m9 165 rfl) rfl
theorem q2221 : (Jvm.Cond.methodLink "PepperTablesModel" (449 : Nat) ({ cls := "PepperTablesModel", name := "saidWith", desc := "(I)I" } : Jvm.MethodName)) ∈ lw_all := lw_g (lw_at lw_m9 166 rfl) rfl
theorem q2222 : (Jvm.Cond.privateMethod ({ cls := "PepperTablesModel", name := "saidWith", desc := "(I)I" } : Jvm.MethodName)) ∈ lw_tbl := lw_at lw_m9 167 rfl
theorem q2223 : (Jvm.Cond.instanceMethod ({ cls := "PepperTablesModel", name := "saidWith", desc := "(I)I" } : Jvm.MethodName)) ∈ lw_all := lw_g (lw_at lw_m9 168 rfl) rfl
theorem q2224 : (Jvm.Cond.code ({ cls := "PepperTablesModel", name := "saidWith", desc := "(I)I" } : Jvm.MethodName) prog_23_method_96_code (4 : Nat) (Option.some Jvm.ClassFile.FieldType.int)) ∈ lw_all := lw_g (lw_at lw_m9 169 rfl) rfl
theorem q2226 : (Jvm.Cond.instanceMethod ({ cls := "PepperTablesModel", name := "send", desc := "(II)I" } : Jvm.MethodName)) ∈ lw_all := lw_g (lw_at lw_m9 171 rfl) rfl
theorem q2227 : (Jvm.Cond.selects "PepperTablesModel" ({ cls := "PepperTablesModel", name := "send", desc := "(II)I" } : Jvm.MethodName) ({ cls := "PepperTablesModel", name := "send", desc := "(II)I" } : Jvm.MethodName)) ∈ lw_all := lw_g (lw_at lw_m9 172 rfl) rfl
theorem q2228 : (Jvm.Cond.code ({ cls := "PepperTablesModel", name := "send", desc := "(II)I" } : Jvm.MethodName) prog_23_method_99_code (5 : Nat) (Option.some Jvm.ClassFile.FieldType.int)) ∈ lw_all := lw_g (lw_at lw_m9 173 rfl) rfl
theorem q2230 : (Jvm.Cond.instanceMethod ({ cls := "PepperTablesModel", name := "spark", desc := "(I)I" } : Jvm.MethodName)) ∈ lw_all := lw_g (lw_at lw_m9 175 rfl) rfl
theorem q2231 : (Jvm.Cond.selects "PepperTablesModel" ({ cls := "PepperTablesModel", name := "spark", desc := "(I)I" } : Jvm.MethodName) ({ cls := "PepperTablesModel", name := "spark", desc := "(I)I" } : Jvm.MethodName)) ∈ lw_all := lw_g (lw_at lw_m9 176 rfl) rfl
theorem q2232 : (Jvm.Cond.code ({ cls := "PepperTablesModel", name := "spark", desc := "(I)I" } : Jvm.MethodName) prog_23_method_100_code (5 : Nat) (Option.some Jvm.ClassFile.FieldType.int)) ∈ lw_all := lw_g (lw_at lw_m9 177 rfl) rfl
theorem q2234 : (Jvm.Cond.instanceMethod ({ cls := "PepperTablesModel", name := "spine", desc := "(I)I" } : Jvm.MethodName)) ∈ lw_all := lw_g (lw_at lw_m9 179 rfl) rfl
theorem q2235 : (Jvm.Cond.selects "PepperTablesModel" ({ cls := "PepperTablesModel", name := "spine", desc := "(I)I" } : Jvm.MethodName) ({ cls := "PepperTablesModel", name := "spine", desc := "(I)I" } : Jvm.MethodName)) ∈ lw_all := lw_g (lw_at lw_m9 180 rfl) rfl
theorem q2236 : (Jvm.Cond.code ({ cls := "PepperTablesModel", name := "spine", desc := "(I)I" } : Jvm.MethodName) prog_23_method_101_code (4 : Nat) (Option.some Jvm.ClassFile.FieldType.int)) ∈ lw_all := lw_g (lw_at lw_m9 181 rfl) rfl
theorem q2238 : (Jvm.Cond.instanceMethod ({ cls := "PepperTablesModel", name := "gain", desc := "(I)I" } : Jvm.MethodName)) ∈ lw_all := lw_g (lw_at lw_m9 183 rfl) rfl
theorem q2239 : (Jvm.Cond.selects "PepperTablesModel" ({ cls := "PepperTablesModel", name := "gain", desc := "(I)I" } : Jvm.MethodName) ({ cls := "PepperTablesModel", name := "gain", desc := "(I)I" } : Jvm.MethodName)) ∈ lw_all := lw_g (lw_at lw_m9 184 rfl) rfl
theorem q2240 : (Jvm.Cond.code ({ cls := "PepperTablesModel", name := "gain", desc := "(I)I" } : Jvm.MethodName) prog_23_method_102_code (2 : Nat) (Option.some Jvm.ClassFile.FieldType.int)) ∈ lw_all := lw_g (lw_at lw_m9 185 rfl) rfl
theorem q2242 : (Jvm.Cond.instanceMethod ({ cls := "PepperTablesModel", name := "invite", desc := "(I)I" } : Jvm.MethodName)) ∈ lw_all := lw_g (lw_at lw_m9 187 rfl) rfl
theorem q2243 : (Jvm.Cond.selects "PepperTablesModel" ({ cls := "PepperTablesModel", name := "invite", desc := "(I)I" } : Jvm.MethodName) ({ cls := "PepperTablesModel", name := "invite", desc := "(I)I" } : Jvm.MethodName)) ∈ lw_all := lw_g (lw_at lw_m9 188 rfl) rfl
theorem q2244 : (Jvm.Cond.code ({ cls := "PepperTablesModel", name := "invite", desc := "(I)I" } : Jvm.MethodName) prog_23_method_103_code (6 : Nat) (Option.some Jvm.ClassFile.FieldType.int)) ∈ lw_all := lw_g (lw_at lw_m9 189 rfl) rfl
theorem q2246 : (Jvm.Cond.instanceMethod ({ cls := "PepperTablesModel", name := "feast", desc := "(II)I" } : Jvm.MethodName)) ∈ lw_all := lw_g (lw_at lw_m9 191 rfl) rfl
theorem q2247 : (Jvm.Cond.selects "PepperTablesModel" ({ cls := "PepperTablesModel", name := "feast", desc := "(II)I" } : Jvm.MethodName) ({ cls := "PepperTablesModel", name := "feast", desc := "(II)I" } : Jvm.MethodName)) ∈ lw_all := lw_g (lw_at lw_m9 192 rfl) rfl
theorem q2248 : (Jvm.Cond.code ({ cls := "PepperTablesModel", name := "feast", desc := "(II)I" } : Jvm.MethodName) prog_23_method_105_code (5 : Nat) (Option.some Jvm.ClassFile.FieldType.int)) ∈ lw_all := lw_g (lw_at lw_m9 193 rfl) rfl
theorem q2249 : (Jvm.Cond.methodLink "PepperTablesModel" (452 : Nat) ({ cls := "PepperTablesModel", name := "worthTo", desc := "(II)I" } : Jvm.MethodName)) ∈ lw_all := lw_g (lw_at lw_m9 194 rfl) rfl
theorem q2250 : (Jvm.Cond.privateMethod ({ cls := "PepperTablesModel", name := "worthTo", desc := "(II)I" } : Jvm.MethodName)) ∈ lw_tbl := lw_at lw_m9 195 rfl
theorem q2251 : (Jvm.Cond.instanceMethod ({ cls := "PepperTablesModel", name := "worthTo", desc := "(II)I" } : Jvm.MethodName)) ∈ lw_all := lw_g (lw_at lw_m9 196 rfl) rfl
theorem q2252 : (Jvm.Cond.code ({ cls := "PepperTablesModel", name := "worthTo", desc := "(II)I" } : Jvm.MethodName) prog_23_method_104_code (3 : Nat) (Option.some Jvm.ClassFile.FieldType.int)) ∈ lw_all := lw_g (lw_at lw_m9 197 rfl) rfl
theorem q2254 : (Jvm.Cond.instanceMethod ({ cls := "PepperTablesModel", name := "round", desc := "(II)I" } : Jvm.MethodName)) ∈ lw_all := lw_g (lw_at lw_m9 199 rfl) rfl
theorem q2255 : (Jvm.Cond.selects "PepperTablesModel" ({ cls := "PepperTablesModel", name := "round", desc := "(II)I" } : Jvm.MethodName) ({ cls := "PepperTablesModel", name := "round", desc := "(II)I" } : Jvm.MethodName)) ∈ lw_all := lw_g (lw_at lw_m9 200 rfl) rfl
theorem q2256 : (Jvm.Cond.code ({ cls := "PepperTablesModel", name := "round", desc := "(II)I" } : Jvm.MethodName) prog_23_method_107_code (8 : Nat) (Option.some Jvm.ClassFile.FieldType.int)) ∈ lw_all := lw_g (lw_at lw_m9 201 rfl) rfl
theorem q2257 : (Jvm.Cond.methodLink "PepperTablesModel" (455 : Nat) ({ cls := "PepperTablesModel", name := "power", desc := "(II)I" } : Jvm.MethodName)) ∈ lw_all := lw_g (lw_at lw_m9 202 rfl) rfl
theorem q2258 : (Jvm.Cond.static ({ cls := "PepperTablesModel", name := "power", desc := "(II)I" } : Jvm.MethodName)) ∈ lw_all := lw_g (lw_at lw_m9 203 rfl) rfl
theorem q2259 : (Jvm.Cond.code ({ cls := "PepperTablesModel", name := "power", desc := "(II)I" } : Jvm.MethodName) prog_23_method_43_code (4 : Nat) (Option.some Jvm.ClassFile.FieldType.int)) ∈ lw_all := lw_g (lw_at lw_m9 204 rfl) rfl
theorem q2260 : (Jvm.Cond.methodLink "PepperTablesModel" (458 : Nat) ({ cls := "PepperTablesModel", name := "keepNow", desc := "()V" } : Jvm.MethodName)) ∈ lw_all := lw_g (lw_at lw_m9 205 rfl) rfl
theorem q2261 : (Jvm.Cond.privateMethod ({ cls := "PepperTablesModel", name := "keepNow", desc := "()V" } : Jvm.MethodName)) ∈ lw_tbl := lw_at lw_m9 206 rfl
theorem q2262 : (Jvm.Cond.instanceMethod ({ cls := "PepperTablesModel", name := "keepNow", desc := "()V" } : Jvm.MethodName)) ∈ lw_all := lw_g (lw_at lw_m9 207 rfl) rfl
theorem q2263 : (Jvm.Cond.code ({ cls := "PepperTablesModel", name := "keepNow", desc := "()V" } : Jvm.MethodName) prog_23_method_93_code (2 : Nat) (Option.none : Option Jvm.ClassFile.FieldType)) ∈ lw_all := lw_g (lw_at lw_m9 208 rfl) rfl
theorem q2264 : (Jvm.Cond.methodLink "PepperTablesModel" (461 : Nat) ({ cls := "PepperTablesModel", name := "inRow", desc := "(III)I" } : Jvm.MethodName)) ∈ lw_all := lw_g (lw_at lw_m9 209 rfl) rfl
theorem q2265 : (Jvm.Cond.privateMethod ({ cls := "PepperTablesModel", name := "inRow", desc := "(III)I" } : Jvm.MethodName)) ∈ lw_tbl := lw_at lw_m9 210 rfl
theorem q2266 : (Jvm.Cond.instanceMethod ({ cls := "PepperTablesModel", name := "inRow", desc := "(III)I" } : Jvm.MethodName)) ∈ lw_all := lw_g (lw_at lw_m9 211 rfl) rfl
theorem q2267 : (Jvm.Cond.code ({ cls := "PepperTablesModel", name := "inRow", desc := "(III)I" } : Jvm.MethodName) prog_23_method_106_code (4 : Nat) (Option.some Jvm.ClassFile.FieldType.int)) ∈ lw_all := lw_g (lw_at lw_m9 212 rfl) rfl
theorem q2268 : (Jvm.Cond.methodLink "PepperTablesModel" (464 : Nat) ({ cls := "PepperTablesModel", name := "bringBack", desc := "()V" } : Jvm.MethodName)) ∈ lw_all := lw_g (lw_at lw_m9 213 rfl) rfl
theorem q2269 : (Jvm.Cond.privateMethod ({ cls := "PepperTablesModel", name := "bringBack", desc := "()V" } : Jvm.MethodName)) ∈ lw_tbl := lw_at lw_m9 214 rfl
theorem q2270 : (Jvm.Cond.instanceMethod ({ cls := "PepperTablesModel", name := "bringBack", desc := "()V" } : Jvm.MethodName)) ∈ lw_all := lw_g (lw_at lw_m9 215 rfl) rfl
theorem q2271 : (Jvm.Cond.code ({ cls := "PepperTablesModel", name := "bringBack", desc := "()V" } : Jvm.MethodName) prog_23_method_94_code (2 : Nat) (Option.none : Option Jvm.ClassFile.FieldType)) ∈ lw_all := lw_g (lw_at lw_m9 216 rfl) rfl
theorem q2273 : (Jvm.Cond.instanceMethod ({ cls := "PepperTablesModel", name := "fewest", desc := "(I)I" } : Jvm.MethodName)) ∈ lw_all := lw_g (lw_at lw_m9 218 rfl) rfl
theorem q2274 : (Jvm.Cond.selects "PepperTablesModel" ({ cls := "PepperTablesModel", name := "fewest", desc := "(I)I" } : Jvm.MethodName) ({ cls := "PepperTablesModel", name := "fewest", desc := "(I)I" } : Jvm.MethodName)) ∈ lw_all := lw_g (lw_at lw_m9 219 rfl) rfl
theorem q2275 : (Jvm.Cond.code ({ cls := "PepperTablesModel", name := "fewest", desc := "(I)I" } : Jvm.MethodName) prog_23_method_108_code (5 : Nat) (Option.some Jvm.ClassFile.FieldType.int)) ∈ lw_all := lw_g (lw_at lw_m9 220 rfl) rfl
theorem q2277 : (Jvm.Cond.instanceMethod ({ cls := "PepperTablesModel", name := "hide", desc := "(II)I" } : Jvm.MethodName)) ∈ lw_all := lw_g (lw_at lw_m9 222 rfl) rfl
theorem q2278 : (Jvm.Cond.selects "PepperTablesModel" ({ cls := "PepperTablesModel", name := "hide", desc := "(II)I" } : Jvm.MethodName) ({ cls := "PepperTablesModel", name := "hide", desc := "(II)I" } : Jvm.MethodName)) ∈ lw_all := lw_g (lw_at lw_m9 223 rfl) rfl
theorem q2279 : (Jvm.Cond.code ({ cls := "PepperTablesModel", name := "hide", desc := "(II)I" } : Jvm.MethodName) prog_23_method_109_code (8 : Nat) (Option.some Jvm.ClassFile.FieldType.int)) ∈ lw_all := lw_g (lw_at lw_m9 224 rfl) rfl
theorem q2281 : (Jvm.Cond.instanceMethod ({ cls := "PepperTablesModel", name := "blend", desc := "(II)I" } : Jvm.MethodName)) ∈ lw_all := lw_g (lw_at lw_m9 226 rfl) rfl
theorem q2282 : (Jvm.Cond.selects "PepperTablesModel" ({ cls := "PepperTablesModel", name := "blend", desc := "(II)I" } : Jvm.MethodName) ({ cls := "PepperTablesModel", name := "blend", desc := "(II)I" } : Jvm.MethodName)) ∈ lw_all := lw_g (lw_at lw_m9 227 rfl) rfl
theorem q2283 : (Jvm.Cond.code ({ cls := "PepperTablesModel", name := "blend", desc := "(II)I" } : Jvm.MethodName) prog_23_method_110_code (4 : Nat) (Option.some Jvm.ClassFile.FieldType.int)) ∈ lw_all := lw_g (lw_at lw_m9 228 rfl) rfl
theorem q2285 : (Jvm.Cond.instanceMethod ({ cls := "PepperTablesModel", name := "exchange", desc := "(I)I" } : Jvm.MethodName)) ∈ lw_all := lw_g (lw_at lw_m9 230 rfl) rfl
theorem q2286 : (Jvm.Cond.selects "PepperTablesModel" ({ cls := "PepperTablesModel", name := "exchange", desc := "(I)I" } : Jvm.MethodName) ({ cls := "PepperTablesModel", name := "exchange", desc := "(I)I" } : Jvm.MethodName)) ∈ lw_all := lw_g (lw_at lw_m9 231 rfl) rfl
theorem q2287 : (Jvm.Cond.code ({ cls := "PepperTablesModel", name := "exchange", desc := "(I)I" } : Jvm.MethodName) prog_23_method_112_code (8 : Nat) (Option.some Jvm.ClassFile.FieldType.int)) ∈ lw_all := lw_g (lw_at lw_m9 232 rfl) rfl
theorem q2288 : (Jvm.Cond.methodLink "PepperTablesModel" (467 : Nat) ({ cls := "PepperTablesModel", name := "canChange", desc := "(II)Z" } : Jvm.MethodName)) ∈ lw_all := lw_g (lw_at lw_m9 233 rfl) rfl
theorem q2289 : (Jvm.Cond.privateMethod ({ cls := "PepperTablesModel", name := "canChange", desc := "(II)Z" } : Jvm.MethodName)) ∈ lw_tbl := lw_at lw_m9 234 rfl
theorem q2290 : (Jvm.Cond.instanceMethod ({ cls := "PepperTablesModel", name := "canChange", desc := "(II)Z" } : Jvm.MethodName)) ∈ lw_all := lw_g (lw_at lw_m9 235 rfl) rfl
theorem q2291 : (Jvm.Cond.code ({ cls := "PepperTablesModel", name := "canChange", desc := "(II)Z" } : Jvm.MethodName) prog_23_method_111_code (3 : Nat) (Option.some Jvm.ClassFile.FieldType.boolean)) ∈ lw_all := lw_g (lw_at lw_m9 236 rfl) rfl
theorem q2293 : (Jvm.Cond.instanceMethod ({ cls := "PepperTablesModel", name := "after", desc := "(I)I" } : Jvm.MethodName)) ∈ lw_all := lw_g (lw_at lw_m9 238 rfl) rfl
theorem q2294 : (Jvm.Cond.selects "PepperTablesModel" ({ cls := "PepperTablesModel", name := "after", desc := "(I)I" } : Jvm.MethodName) ({ cls := "PepperTablesModel", name := "after", desc := "(I)I" } : Jvm.MethodName)) ∈ lw_all := lw_g (lw_at lw_m9 239 rfl) rfl
theorem q2295 : (Jvm.Cond.code ({ cls := "PepperTablesModel", name := "after", desc := "(I)I" } : Jvm.MethodName) prog_23_method_113_code (4 : Nat) (Option.some Jvm.ClassFile.FieldType.int)) ∈ lw_all := lw_g (lw_at lw_m10 0 rfl) rfl
theorem q2297 : (Jvm.Cond.instanceMethod ({ cls := "PepperTablesModel", name := "shyest", desc := "(I)I" } : Jvm.MethodName)) ∈ lw_all := lw_g (lw_at lw_m10 2 rfl) rfl
theorem q2298 : (Jvm.Cond.selects "PepperTablesModel" ({ cls := "PepperTablesModel", name := "shyest", desc := "(I)I" } : Jvm.MethodName) ({ cls := "PepperTablesModel", name := "shyest", desc := "(I)I" } : Jvm.MethodName)) ∈ lw_all := lw_g (lw_at lw_m10 3 rfl) rfl
theorem q2299 : (Jvm.Cond.code ({ cls := "PepperTablesModel", name := "shyest", desc := "(I)I" } : Jvm.MethodName) prog_23_method_114_code (4 : Nat) (Option.some Jvm.ClassFile.FieldType.int)) ∈ lw_all := lw_g (lw_at lw_m10 4 rfl) rfl
theorem q2301 : (Jvm.Cond.instanceMethod ({ cls := "PepperTablesModel", name := "line", desc := "()I" } : Jvm.MethodName)) ∈ lw_all := lw_g (lw_at lw_m10 6 rfl) rfl
theorem q2302 : (Jvm.Cond.selects "PepperTablesModel" ({ cls := "PepperTablesModel", name := "line", desc := "()I" } : Jvm.MethodName) ({ cls := "PepperTablesModel", name := "line", desc := "()I" } : Jvm.MethodName)) ∈ lw_all := lw_g (lw_at lw_m10 7 rfl) rfl
theorem q2303 : (Jvm.Cond.code ({ cls := "PepperTablesModel", name := "line", desc := "()I" } : Jvm.MethodName) prog_23_method_118_code (4 : Nat) (Option.some Jvm.ClassFile.FieldType.int)) ∈ lw_all := lw_g (lw_at lw_m10 8 rfl) rfl
theorem q2304 : (Jvm.Cond.methodLink "PepperTablesModel" (476 : Nat) ({ cls := "PepperTablesModel", name := "isLine", desc := "(II)Z" } : Jvm.MethodName)) ∈ lw_all := lw_g (lw_at lw_m10 9 rfl) rfl
theorem q2305 : (Jvm.Cond.privateMethod ({ cls := "PepperTablesModel", name := "isLine", desc := "(II)Z" } : Jvm.MethodName)) ∈ lw_tbl := lw_at lw_m10 10 rfl
theorem q2306 : (Jvm.Cond.instanceMethod ({ cls := "PepperTablesModel", name := "isLine", desc := "(II)Z" } : Jvm.MethodName)) ∈ lw_all := lw_g (lw_at lw_m10 11 rfl) rfl
theorem q2307 : (Jvm.Cond.code ({ cls := "PepperTablesModel", name := "isLine", desc := "(II)Z" } : Jvm.MethodName) prog_23_method_117_code (6 : Nat) (Option.some Jvm.ClassFile.FieldType.boolean)) ∈ lw_all := lw_g (lw_at lw_m10 12 rfl) rfl
theorem q2308 : (Jvm.Cond.methodLink "PepperTablesModel" (470 : Nat) ({ cls := "PepperTablesModel", name := "inOrder", desc := "(III)I" } : Jvm.MethodName)) ∈ lw_all := lw_g (lw_at lw_m10 13 rfl) rfl
theorem q2309 : (Jvm.Cond.privateMethod ({ cls := "PepperTablesModel", name := "inOrder", desc := "(III)I" } : Jvm.MethodName)) ∈ lw_tbl := lw_at lw_m10 14 rfl
theorem q2310 : (Jvm.Cond.instanceMethod ({ cls := "PepperTablesModel", name := "inOrder", desc := "(III)I" } : Jvm.MethodName)) ∈ lw_all := lw_g (lw_at lw_m10 15 rfl) rfl
theorem q2311 : (Jvm.Cond.code ({ cls := "PepperTablesModel", name := "inOrder", desc := "(III)I" } : Jvm.MethodName) prog_23_method_116_code (4 : Nat) (Option.some Jvm.ClassFile.FieldType.int)) ∈ lw_all := lw_g (lw_at lw_m10 16 rfl) rfl
theorem q2312 : (Jvm.Cond.methodLink "PepperTablesModel" (473 : Nat) ({ cls := "PepperTablesModel", name := "doesKeep", desc := "(II)Z" } : Jvm.MethodName)) ∈ lw_all := lw_g (lw_at lw_m10 17 rfl) rfl
theorem q2313 : (Jvm.Cond.privateMethod ({ cls := "PepperTablesModel", name := "doesKeep", desc := "(II)Z" } : Jvm.MethodName)) ∈ lw_tbl := lw_at lw_m10 18 rfl
theorem q2314 : (Jvm.Cond.instanceMethod ({ cls := "PepperTablesModel", name := "doesKeep", desc := "(II)Z" } : Jvm.MethodName)) ∈ lw_all := lw_g (lw_at lw_m10 19 rfl) rfl
theorem q2315 : (Jvm.Cond.code ({ cls := "PepperTablesModel", name := "doesKeep", desc := "(II)Z" } : Jvm.MethodName) prog_23_method_115_code (3 : Nat) (Option.some Jvm.ClassFile.FieldType.boolean)) ∈ lw_all := lw_g (lw_at lw_m10 20 rfl) rfl
theorem q2317 : (Jvm.Cond.instanceMethod ({ cls := "PepperTablesModel", name := "rank", desc := "()I" } : Jvm.MethodName)) ∈ lw_all := lw_g (lw_at lw_m10 22 rfl) rfl
theorem q2318 : (Jvm.Cond.selects "PepperTablesModel" ({ cls := "PepperTablesModel", name := "rank", desc := "()I" } : Jvm.MethodName) ({ cls := "PepperTablesModel", name := "rank", desc := "()I" } : Jvm.MethodName)) ∈ lw_all := lw_g (lw_at lw_m10 23 rfl) rfl
theorem q2319 : (Jvm.Cond.code ({ cls := "PepperTablesModel", name := "rank", desc := "()I" } : Jvm.MethodName) prog_23_method_119_code (3 : Nat) (Option.some Jvm.ClassFile.FieldType.int)) ∈ lw_all := lw_g (lw_at lw_m10 24 rfl) rfl
theorem q2321 : (Jvm.Cond.instanceMethod ({ cls := "PepperTablesModel", name := "rumour", desc := "(II)I" } : Jvm.MethodName)) ∈ lw_all := lw_g (lw_at lw_m10 26 rfl) rfl
theorem q2322 : (Jvm.Cond.selects "PepperTablesModel" ({ cls := "PepperTablesModel", name := "rumour", desc := "(II)I" } : Jvm.MethodName) ({ cls := "PepperTablesModel", name := "rumour", desc := "(II)I" } : Jvm.MethodName)) ∈ lw_all := lw_g (lw_at lw_m10 27 rfl) rfl
theorem q2323 : (Jvm.Cond.code ({ cls := "PepperTablesModel", name := "rumour", desc := "(II)I" } : Jvm.MethodName) prog_23_method_120_code (7 : Nat) (Option.some Jvm.ClassFile.FieldType.int)) ∈ lw_all := lw_g (lw_at lw_m10 28 rfl) rfl
theorem q2325 : (Jvm.Cond.instanceMethod ({ cls := "PepperTablesModel", name := "odds", desc := "(II)I" } : Jvm.MethodName)) ∈ lw_all := lw_g (lw_at lw_m10 30 rfl) rfl
theorem q2326 : (Jvm.Cond.selects "PepperTablesModel" ({ cls := "PepperTablesModel", name := "odds", desc := "(II)I" } : Jvm.MethodName) ({ cls := "PepperTablesModel", name := "odds", desc := "(II)I" } : Jvm.MethodName)) ∈ lw_all := lw_g (lw_at lw_m10 31 rfl) rfl
theorem q2327 : (Jvm.Cond.code ({ cls := "PepperTablesModel", name := "odds", desc := "(II)I" } : Jvm.MethodName) prog_23_method_121_code (5 : Nat) (Option.some Jvm.ClassFile.FieldType.int)) ∈ lw_all := lw_g (lw_at lw_m10 32 rfl) rfl
theorem q2328 : (Jvm.Cond.methodLink "PepperTablesModel" (479 : Nat) ({ cls := "PepperTablesModel", name := "divisor", desc := "(II)I" } : Jvm.MethodName)) ∈ lw_all := lw_g (lw_at lw_m10 33 rfl) rfl
theorem q2329 : (Jvm.Cond.static ({ cls := "PepperTablesModel", name := "divisor", desc := "(II)I" } : Jvm.MethodName)) ∈ lw_all := lw_g (lw_at lw_m10 34 rfl) rfl
theorem q2330 : (Jvm.Cond.code ({ cls := "PepperTablesModel", name := "divisor", desc := "(II)I" } : Jvm.MethodName) prog_23_method_42_code (5 : Nat) (Option.some Jvm.ClassFile.FieldType.int)) ∈ lw_all := lw_g (lw_at lw_m10 35 rfl) rfl
theorem q2332 : (Jvm.Cond.instanceMethod ({ cls := "PepperTablesModel", name := "heard", desc := "(IIZ)I" } : Jvm.MethodName)) ∈ lw_all := lw_g (lw_at lw_m10 37 rfl) rfl
theorem q2333 : (Jvm.Cond.selects "PepperTablesModel" ({ cls := "PepperTablesModel", name := "heard", desc := "(IIZ)I" } : Jvm.MethodName) ({ cls := "PepperTablesModel", name := "heard", desc := "(IIZ)I" } : Jvm.MethodName)) ∈ lw_all := lw_g (lw_at lw_m10 38 rfl) rfl
theorem q2334 : (Jvm.Cond.code ({ cls := "PepperTablesModel", name := "heard", desc := "(IIZ)I" } : Jvm.MethodName) prog_23_method_122_code (4 : Nat) (Option.some Jvm.ClassFile.FieldType.int)) ∈ lw_all := lw_g (lw_at lw_m10 39 rfl) rfl
theorem q2336 : (Jvm.Cond.instanceMethod ({ cls := "PepperTablesModel", name := "untell", desc := "(I)Z" } : Jvm.MethodName)) ∈ lw_all := lw_g (lw_at lw_m10 41 rfl) rfl
theorem q2337 : (Jvm.Cond.selects "PepperTablesModel" ({ cls := "PepperTablesModel", name := "untell", desc := "(I)Z" } : Jvm.MethodName) ({ cls := "PepperTablesModel", name := "untell", desc := "(I)Z" } : Jvm.MethodName)) ∈ lw_all := lw_g (lw_at lw_m10 42 rfl) rfl
theorem q2338 : (Jvm.Cond.code ({ cls := "PepperTablesModel", name := "untell", desc := "(I)Z" } : Jvm.MethodName) prog_23_method_123_code (2 : Nat) (Option.some Jvm.ClassFile.FieldType.boolean)) ∈ lw_all := lw_g (lw_at lw_m10 43 rfl) rfl
theorem q2340 : (Jvm.Cond.instanceMethod ({ cls := "PepperTablesModel", name := "later", desc := "(I)I" } : Jvm.MethodName)) ∈ lw_all := lw_g (lw_at lw_m10 45 rfl) rfl
theorem q2341 : (Jvm.Cond.selects "PepperTablesModel" ({ cls := "PepperTablesModel", name := "later", desc := "(I)I" } : Jvm.MethodName) ({ cls := "PepperTablesModel", name := "later", desc := "(I)I" } : Jvm.MethodName)) ∈ lw_all := lw_g (lw_at lw_m10 46 rfl) rfl
theorem q2342 : (Jvm.Cond.code ({ cls := "PepperTablesModel", name := "later", desc := "(I)I" } : Jvm.MethodName) prog_23_method_124_code (2 : Nat) (Option.some Jvm.ClassFile.FieldType.int)) ∈ lw_all := lw_g (lw_at lw_m10 47 rfl) rfl
theorem q2343 : (Jvm.Cond.constant "PepperTablesModel" (485 : Nat) (100000 : Int32)) ∈ lw_all := lw_g (lw_at lw_m10 48 rfl) rfl
theorem q2345 : (Jvm.Cond.instanceMethod ({ cls := "PepperTablesModel", name := "rows", desc := "(I)I" } : Jvm.MethodName)) ∈ lw_all := lw_g (lw_at lw_m10 50 rfl) rfl
theorem q2346 : (Jvm.Cond.selects "PepperTablesModel" ({ cls := "PepperTablesModel", name := "rows", desc := "(I)I" } : Jvm.MethodName) ({ cls := "PepperTablesModel", name := "rows", desc := "(I)I" } : Jvm.MethodName)) ∈ lw_all := lw_g (lw_at lw_m10 51 rfl) rfl
theorem q2347 : (Jvm.Cond.code ({ cls := "PepperTablesModel", name := "rows", desc := "(I)I" } : Jvm.MethodName) prog_23_method_131_code (2 : Nat) (Option.some Jvm.ClassFile.FieldType.int)) ∈ lw_all := lw_g (lw_at lw_m10 52 rfl) rfl
theorem q2348 : (Jvm.Cond.methodLink "PepperTablesModel" (504 : Nat) ({ cls := "PepperTablesModel", name := "layRows", desc := "(I)V" } : Jvm.MethodName)) ∈ lw_all := lw_g (lw_at lw_m10 53 rfl) rfl
theorem q2349 : (Jvm.Cond.privateMethod ({ cls := "PepperTablesModel", name := "layRows", desc := "(I)V" } : Jvm.MethodName)) ∈ lw_tbl := lw_at lw_m10 54 rfl
theorem q2350 : (Jvm.Cond.instanceMethod ({ cls := "PepperTablesModel", name := "layRows", desc := "(I)V" } : Jvm.MethodName)) ∈ lw_all := lw_g (lw_at lw_m10 55 rfl) rfl
theorem q2351 : (Jvm.Cond.code ({ cls := "PepperTablesModel", name := "layRows", desc := "(I)V" } : Jvm.MethodName) prog_23_method_130_code (4 : Nat) (Option.none : Option Jvm.ClassFile.FieldType)) ∈ lw_all := lw_g (lw_at lw_m10 56 rfl) rfl
theorem q2352 : (Jvm.Cond.methodLink "PepperTablesModel" (495 : Nat) ({ cls := "PepperTablesModel", name := "layMany", desc := "()V" } : Jvm.MethodName)) ∈ lw_all := lw_g (lw_at lw_m10 57 rfl) rfl
theorem q2353 : (Jvm.Cond.privateMethod ({ cls := "PepperTablesModel", name := "layMany", desc := "()V" } : Jvm.MethodName)) ∈ lw_tbl := lw_at lw_m10 58 rfl
theorem q2354 : (Jvm.Cond.instanceMethod ({ cls := "PepperTablesModel", name := "layMany", desc := "()V" } : Jvm.MethodName)) ∈ lw_all := lw_g (lw_at lw_m10 59 rfl) rfl
theorem q2355 : (Jvm.Cond.code ({ cls := "PepperTablesModel", name := "layMany", desc := "()V" } : Jvm.MethodName) prog_23_method_127_code (3 : Nat) (Option.none : Option Jvm.ClassFile.FieldType)) ∈ lw_all := lw_g (lw_at lw_m10 60 rfl) rfl
theorem q2356 : (Jvm.Cond.methodLink "PepperTablesModel" (486 : Nat) ({ cls := "PepperTablesModel", name := "hidden", desc := "()I" } : Jvm.MethodName)) ∈ lw_all := lw_g (lw_at lw_m10 61 rfl) rfl
theorem q2357 : (Jvm.Cond.privateMethod ({ cls := "PepperTablesModel", name := "hidden", desc := "()I" } : Jvm.MethodName)) ∈ lw_tbl := lw_at lw_m10 62 rfl
theorem q2358 : (Jvm.Cond.instanceMethod ({ cls := "PepperTablesModel", name := "hidden", desc := "()I" } : Jvm.MethodName)) ∈ lw_all := lw_g (lw_at lw_m10 63 rfl) rfl
theorem q2359 : (Jvm.Cond.code ({ cls := "PepperTablesModel", name := "hidden", desc := "()I" } : Jvm.MethodName) prog_23_method_125_code (1 : Nat) (Option.some Jvm.ClassFile.FieldType.int)) ∈ lw_all := lw_g (lw_at lw_m10 64 rfl) rfl
theorem q2360 : (Jvm.Cond.methodLink "PepperTablesModel" (489 : Nat) ({ cls := "PepperTablesModel", name := "sackIn", desc := "(II)I" } : Jvm.MethodName)) ∈ lw_all := lw_g (lw_at lw_m10 65 rfl) rfl
theorem q2361 : (Jvm.Cond.privateMethod ({ cls := "PepperTablesModel", name := "sackIn", desc := "(II)I" } : Jvm.MethodName)) ∈ lw_tbl := lw_at lw_m10 66 rfl
theorem q2362 : (Jvm.Cond.instanceMethod ({ cls := "PepperTablesModel", name := "sackIn", desc := "(II)I" } : Jvm.MethodName)) ∈ lw_all := lw_g (lw_at lw_m10 67 rfl) rfl
theorem q2363 : (Jvm.Cond.code ({ cls := "PepperTablesModel", name := "sackIn", desc := "(II)I" } : Jvm.MethodName) prog_23_method_126_code (3 : Nat) (Option.some Jvm.ClassFile.FieldType.int)) ∈ lw_all := lw_g (lw_at lw_m10 68 rfl) rfl
theorem q2364 : (Jvm.Cond.methodLink "PepperTablesModel" (498 : Nat) ({ cls := "PepperTablesModel", name := "allRows", desc := "()I" } : Jvm.MethodName)) ∈ lw_all := lw_g (lw_at lw_m10 69 rfl) rfl
theorem q2365 : (Jvm.Cond.privateMethod ({ cls := "PepperTablesModel", name := "allRows", desc := "()I" } : Jvm.MethodName)) ∈ lw_tbl := lw_at lw_m10 70 rfl
theorem q2366 : (Jvm.Cond.instanceMethod ({ cls := "PepperTablesModel", name := "allRows", desc := "()I" } : Jvm.MethodName)) ∈ lw_all := lw_g (lw_at lw_m10 71 rfl) rfl
theorem q2367 : (Jvm.Cond.code ({ cls := "PepperTablesModel", name := "allRows", desc := "()I" } : Jvm.MethodName) prog_23_method_129_code (1 : Nat) (Option.some Jvm.ClassFile.FieldType.int)) ∈ lw_all := lw_g (lw_at lw_m10 72 rfl) rfl
theorem q2368 : (Jvm.Cond.methodLink "PepperTablesModel" (501 : Nat) ({ cls := "PepperTablesModel", name := "doesFit", desc := "(II)Z" } : Jvm.MethodName)) ∈ lw_all := lw_g (lw_at lw_m10 73 rfl) rfl
theorem q2369 : (Jvm.Cond.privateMethod ({ cls := "PepperTablesModel", name := "doesFit", desc := "(II)Z" } : Jvm.MethodName)) ∈ lw_tbl := lw_at lw_m10 74 rfl
theorem q2370 : (Jvm.Cond.instanceMethod ({ cls := "PepperTablesModel", name := "doesFit", desc := "(II)Z" } : Jvm.MethodName)) ∈ lw_all := lw_g (lw_at lw_m10 75 rfl) rfl
theorem q2371 : (Jvm.Cond.code ({ cls := "PepperTablesModel", name := "doesFit", desc := "(II)Z" } : Jvm.MethodName) prog_23_method_128_code (5 : Nat) (Option.some Jvm.ClassFile.FieldType.boolean)) ∈ lw_all := lw_g (lw_at lw_m10 76 rfl) rfl
theorem q2373 : (Jvm.Cond.instanceMethod ({ cls := "PepperTablesModel", name := "sure", desc := "(II)I" } : Jvm.MethodName)) ∈ lw_all := lw_g (lw_at lw_m10 78 rfl) rfl
theorem q2374 : (Jvm.Cond.selects "PepperTablesModel" ({ cls := "PepperTablesModel", name := "sure", desc := "(II)I" } : Jvm.MethodName) ({ cls := "PepperTablesModel", name := "sure", desc := "(II)I" } : Jvm.MethodName)) ∈ lw_all := lw_g (lw_at lw_m10 79 rfl) rfl
theorem q2375 : (Jvm.Cond.code ({ cls := "PepperTablesModel", name := "sure", desc := "(II)I" } : Jvm.MethodName) prog_23_method_132_code (4 : Nat) (Option.some Jvm.ClassFile.FieldType.int)) ∈ lw_all := lw_g (lw_at lw_m10 80 rfl) rfl
theorem q2377 : (Jvm.Cond.instanceMethod ({ cls := "PepperTablesModel", name := "ask", desc := "(II)I" } : Jvm.MethodName)) ∈ lw_all := lw_g (lw_at lw_m10 82 rfl) rfl
theorem q2378 : (Jvm.Cond.selects "PepperTablesModel" ({ cls := "PepperTablesModel", name := "ask", desc := "(II)I" } : Jvm.MethodName) ({ cls := "PepperTablesModel", name := "ask", desc := "(II)I" } : Jvm.MethodName)) ∈ lw_all := lw_g (lw_at lw_m10 83 rfl) rfl
theorem q2379 : (Jvm.Cond.code ({ cls := "PepperTablesModel", name := "ask", desc := "(II)I" } : Jvm.MethodName) prog_23_method_134_code (5 : Nat) (Option.some Jvm.ClassFile.FieldType.int)) ∈ lw_all := lw_g (lw_at lw_m10 84 rfl) rfl
theorem q2380 : (Jvm.Cond.methodLink "PepperTablesModel" (508 : Nat) ({ cls := "PepperTablesModel", name := "mostBy", desc := "(II)I" } : Jvm.MethodName)) ∈ lw_all := lw_g (lw_at lw_m10 85 rfl) rfl
theorem q2381 : (Jvm.Cond.privateMethod ({ cls := "PepperTablesModel", name := "mostBy", desc := "(II)I" } : Jvm.MethodName)) ∈ lw_tbl := lw_at lw_m10 86 rfl
theorem q2382 : (Jvm.Cond.instanceMethod ({ cls := "PepperTablesModel", name := "mostBy", desc := "(II)I" } : Jvm.MethodName)) ∈ lw_all := lw_g (lw_at lw_m10 87 rfl) rfl
theorem q2383 : (Jvm.Cond.code ({ cls := "PepperTablesModel", name := "mostBy", desc := "(II)I" } : Jvm.MethodName) prog_23_method_133_code (6 : Nat) (Option.some Jvm.ClassFile.FieldType.int)) ∈ lw_all := lw_g (lw_at lw_m10 88 rfl) rfl
theorem q2385 : (Jvm.Cond.instanceMethod ({ cls := "PepperTablesModel", name := "image", desc := "(I)I" } : Jvm.MethodName)) ∈ lw_all := lw_g (lw_at lw_m10 90 rfl) rfl
theorem q2386 : (Jvm.Cond.selects "PepperTablesModel" ({ cls := "PepperTablesModel", name := "image", desc := "(I)I" } : Jvm.MethodName) ({ cls := "PepperTablesModel", name := "image", desc := "(I)I" } : Jvm.MethodName)) ∈ lw_all := lw_g (lw_at lw_m10 91 rfl) rfl
theorem q2387 : (Jvm.Cond.code ({ cls := "PepperTablesModel", name := "image", desc := "(I)I" } : Jvm.MethodName) prog_23_method_135_code (3 : Nat) (Option.some Jvm.ClassFile.FieldType.int)) ∈ lw_all := lw_g (lw_at lw_m10 92 rfl) rfl
theorem q2389 : (Jvm.Cond.instanceMethod ({ cls := "PepperTablesModel", name := "back", desc := "(I)I" } : Jvm.MethodName)) ∈ lw_all := lw_g (lw_at lw_m10 94 rfl) rfl
theorem q2390 : (Jvm.Cond.selects "PepperTablesModel" ({ cls := "PepperTablesModel", name := "back", desc := "(I)I" } : Jvm.MethodName) ({ cls := "PepperTablesModel", name := "back", desc := "(I)I" } : Jvm.MethodName)) ∈ lw_all := lw_g (lw_at lw_m10 95 rfl) rfl
theorem q2391 : (Jvm.Cond.code ({ cls := "PepperTablesModel", name := "back", desc := "(I)I" } : Jvm.MethodName) prog_23_method_136_code (3 : Nat) (Option.some Jvm.ClassFile.FieldType.int)) ∈ lw_all := lw_g (lw_at lw_m10 96 rfl) rfl
theorem q2393 : (Jvm.Cond.instanceMethod ({ cls := "PepperTablesModel", name := "about", desc := "(I)I" } : Jvm.MethodName)) ∈ lw_all := lw_g (lw_at lw_m10 98 rfl) rfl
theorem q2394 : (Jvm.Cond.selects "PepperTablesModel" ({ cls := "PepperTablesModel", name := "about", desc := "(I)I" } : Jvm.MethodName) ({ cls := "PepperTablesModel", name := "about", desc := "(I)I" } : Jvm.MethodName)) ∈ lw_all := lw_g (lw_at lw_m10 99 rfl) rfl
theorem q2395 : (Jvm.Cond.code ({ cls := "PepperTablesModel", name := "about", desc := "(I)I" } : Jvm.MethodName) prog_23_method_137_code (2 : Nat) (Option.some Jvm.ClassFile.FieldType.int)) ∈ lw_all := lw_g (lw_at lw_m10 100 rfl) rfl
theorem q2397 : (Jvm.Cond.instanceMethod ({ cls := "PepperTablesModel", name := "feed", desc := "(IIIII)I" } : Jvm.MethodName)) ∈ lw_all := lw_g (lw_at lw_m10 102 rfl) rfl
theorem q2398 : (Jvm.Cond.selects "PepperTablesModel" ({ cls := "PepperTablesModel", name := "feed", desc := "(IIIII)I" } : Jvm.MethodName) ({ cls := "PepperTablesModel", name := "feed", desc := "(IIIII)I" } : Jvm.MethodName)) ∈ lw_all := lw_g (lw_at lw_m10 103 rfl) rfl
theorem q2399 : (Jvm.Cond.code ({ cls := "PepperTablesModel", name := "feed", desc := "(IIIII)I" } : Jvm.MethodName) prog_23_method_138_code (8 : Nat) (Option.some Jvm.ClassFile.FieldType.int)) ∈ lw_all := lw_g (lw_at lw_m10 104 rfl) rfl
theorem q2401 : (Jvm.Cond.instanceMethod ({ cls := "PepperTablesModel", name := "end", desc := "(I)I" } : Jvm.MethodName)) ∈ lw_all := lw_g (lw_at lw_m10 106 rfl) rfl
theorem q2402 : (Jvm.Cond.selects "PepperTablesModel" ({ cls := "PepperTablesModel", name := "end", desc := "(I)I" } : Jvm.MethodName) ({ cls := "PepperTablesModel", name := "end", desc := "(I)I" } : Jvm.MethodName)) ∈ lw_all := lw_g (lw_at lw_m10 107 rfl) rfl
theorem q2403 : (Jvm.Cond.code ({ cls := "PepperTablesModel", name := "end", desc := "(I)I" } : Jvm.MethodName) prog_23_method_139_code (2 : Nat) (Option.some Jvm.ClassFile.FieldType.int)) ∈ lw_all := lw_g (lw_at lw_m10 108 rfl) rfl
theorem q2417 : (Jvm.Cond.castable "PepperTablesModel" "java/lang/Object") ∈ lw_tbl := lw_at lw_m10 122 rfl
theorem in_X4 : ∀ w ∈ wsX40, w ∈ lw_all := lw_in wsX40 [1727, 1729, 1731, 1733, 1735, 1737, 1739, 1741, 1743, 1745, 1747, 1749, 1751, 1753, 1755, 1757, 1759, 1761, 1763, 1765, 1767, 1769, 1771, 1773, 1775, 1777, 1779, 1781, 1783, 1785, 1787, 1789, 1791, 1793, 1795, 1797, 1799, 1801, 1803, 1805, 1807, 1809, 1811, 1813, 1815, 1817, 1819, 1821, 1823, 1825, 1827, 1829, 1831, 1833, 1835, 1837, 1839, 1841, 1843, 1845, 1847, 1849, 1851, 1853, 1855] (by decide +kernel) (by decide +kernel)

