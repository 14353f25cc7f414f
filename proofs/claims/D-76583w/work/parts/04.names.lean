/-! FuneralDebtsModel -/
set_option maxRecDepth 100000
def RX6 : String := "FuneralDebtsModel"
def TX6 : u_T := fun k => match k with
  | 0 => ("FuneralDebtsModel", "now", "[I", true)
  | 1 => ("FuneralDebtsModel", "minds", "[I", true)
  | 2 => ("FuneralDebtsModel", "then", "[I", true)
  | 3 => ("FuneralDebtsModel", "kept", "Z", false)
  | 4 => ("FuneralDebtsModel", "text", "[I", true)
  | 5 => ("FuneralDebtsModel", "texted", "I", false)
  | 6 => ("FuneralDebtsModel", "rules", "[I", true)
  | 7 => ("FuneralDebtsModel", "sizes", "[I", true)
  | 8 => ("FuneralDebtsModel", "ruled", "I", false)
  | 9 => ("FuneralDebtsModel", "read", "[I", true)
  | 10 => ("FuneralDebtsModel", "size", "I", false)
  | 11 => ("FuneralDebtsModel", "at", "I", false)
  | 12 => ("FuneralDebtsModel", "well", "Z", false)
  | 13 => ("FuneralDebtsModel", "within", "I", false)
  | 14 => ("FuneralDebtsModel", "sum", "I", false)
  | 15 => ("FuneralDebtsModel", "fall", "I", false)
  | 16 => ("FuneralDebtsModel", "names", "[I", true)
  | 17 => ("FuneralDebtsModel", "letters", "[C", true)
  | 18 => ("FuneralDebtsModel", "begins", "[C", true)
  | 19 => ("FuneralDebtsModel", "words", "[C", true)
  | 20 => ("FuneralDebtsModel", "rates", "[I", true)
  | 21 => ("FuneralDebtsModel", "shares", "[I", true)
  | 22 => ("FuneralDebtsModel", "worthThen", "[I", true)
  | 23 => ("FuneralDebtsModel", "above", "[I", true)
  | 24 => ("FuneralDebtsModel", "bodies", "[I", true)
  | 25 => ("FuneralDebtsModel", "trace", "[I", true)
  | 26 => ("FuneralDebtsModel", "ran", "I", false)
  | 27 => ("FuneralDebtsModel", "sorts", "[I", true)
  | 28 => ("FuneralDebtsModel", "lengths", "[I", true)
  | 29 => ("FuneralDebtsModel", "items", "[J", true)
  | _ => ("FuneralDebtsModel", "moved", "[J", true)
def tyX6 : Nat → FieldType := fun k => match k with
  | 0 => .array .int
  | 1 => .array .int
  | 2 => .array .int
  | 3 => .boolean
  | 4 => .array .int
  | 5 => .int
  | 6 => .array .int
  | 7 => .array .int
  | 8 => .int
  | 9 => .array .int
  | 10 => .int
  | 11 => .int
  | 12 => .boolean
  | 13 => .int
  | 14 => .int
  | 15 => .int
  | 16 => .array .int
  | 17 => .array .char
  | 18 => .array .char
  | 19 => .array .char
  | 20 => .array .int
  | 21 => .array .int
  | 22 => .array .int
  | 23 => .array .int
  | 24 => .array .int
  | 25 => .array .int
  | 26 => .int
  | 27 => .array .int
  | 28 => .array .int
  | 29 => .array .long
  | _ => .array .long
abbrev wsX60 : List Cond := u_ws RX6 TX6 31
set_option maxRecDepth 100000 in
theorem nmX6 : ∀ a, a < 31 → ∀ b, b < 31 → a ≠ b → (TX6 a).2.1 ≠ (TX6 b).2.1 := by decide +kernel
set_option maxRecDepth 100000 in
theorem tyX6_ok : ∀ k, k < 31 → parseFieldDescriptor (TX6 k).2.2.1 = some (tyX6 k) := by decide +kernel
abbrev cX6_init : ByteArray := prog_23_method_1_code
def yX6_init : MethodName := ⟨RX6, "<init>", "()V"⟩
def dkwX6_init_19 : List UInt8 := [17, 1, 104, 188, 11, 181, 0, 74, 42, 16, 60, 188, 11, 181, 0, 78, 177]
abbrev dktX6_init_19 : List UInt8 := dkwX6_init_19 ++ []
def dkwX6_init_18 : List UInt8 := [2, 79, 89, 7, 2, 79, 89, 8, 2, 79, 181, 0, 68, 42, 16, 6, 188, 10, 181, 0, 71, 42]
abbrev dktX6_init_18 : List UInt8 := dkwX6_init_18 ++ dktX6_init_19
def dkwX6_init_17 : List UInt8 := [188, 10, 181, 0, 65, 42, 16, 6, 188, 10, 89, 3, 2, 79, 89, 4, 2, 79, 89, 5, 2, 79, 89, 6]
abbrev dktX6_init_17 : List UInt8 := dkwX6_init_17 ++ dktX6_init_18
def dkwX6_init_16 : List UInt8 := [89, 16, 18, 16, 71, 79, 89, 16, 19, 16, 70, 79, 89, 16, 20, 3, 79, 181, 0, 62, 42, 16, 20]
abbrev dktX6_init_16 : List UInt8 := dkwX6_init_16 ++ dktX6_init_17
def dkwX6_init_15 : List UInt8 := [16, 51, 79, 89, 16, 14, 3, 79, 89, 16, 15, 3, 79, 89, 16, 16, 3, 79, 89, 16, 17, 16, 60, 79]
abbrev dktX6_init_15 : List UInt8 := dkwX6_init_15 ++ dktX6_init_16
def dkwX6_init_14 : List UInt8 := [16, 9, 3, 79, 89, 16, 10, 3, 79, 89, 16, 11, 16, 40, 79, 89, 16, 12, 16, 50, 79, 89, 16, 13]
abbrev dktX6_init_14 : List UInt8 := dkwX6_init_14 ++ dktX6_init_15
def dkwX6_init_13 : List UInt8 := [16, 20, 79, 89, 8, 3, 79, 89, 16, 6, 16, 30, 79, 89, 16, 7, 3, 79, 89, 16, 8, 3, 79, 89]
abbrev dktX6_init_13 : List UInt8 := dkwX6_init_13 ++ dktX6_init_14
def dkwX6_init_12 : List UInt8 := [188, 10, 89, 3, 16, 10, 79, 89, 4, 16, 11, 79, 89, 5, 16, 12, 79, 89, 6, 3, 79, 89, 7]
abbrev dktX6_init_12 : List UInt8 := dkwX6_init_12 ++ dktX6_init_13
def dkwX6_init_11 : List UInt8 := [89, 6, 3, 79, 89, 7, 4, 79, 89, 8, 5, 79, 89, 16, 6, 6, 79, 181, 0, 59, 42, 16, 21]
abbrev dktX6_init_11 : List UInt8 := dkwX6_init_11 ++ dktX6_init_12
def dkwX6_init_10 : List UInt8 := [16, 6, 188, 10, 181, 0, 56, 42, 16, 7, 188, 10, 89, 3, 2, 79, 89, 4, 3, 79, 89, 5, 3, 79]
abbrev dktX6_init_10 : List UInt8 := dkwX6_init_10 ++ dktX6_init_11
def dkwX6_init_9 : List UInt8 := [16, 14, 3, 85, 181, 0, 47, 42, 16, 6, 188, 10, 181, 0, 50, 42, 16, 6, 188, 10, 181, 0, 53, 42]
abbrev dktX6_init_9 : List UInt8 := dkwX6_init_9 ++ dktX6_init_10
def dkwX6_init_8 : List UInt8 := [16, 10, 16, 121, 85, 89, 16, 11, 16, 97, 85, 89, 16, 12, 16, 114, 85, 89, 16, 13, 16, 100, 85, 89]
abbrev dktX6_init_8 : List UInt8 := dkwX6_init_8 ++ dktX6_init_9
def dkwX6_init_7 : List UInt8 := [16, 6, 16, 101, 85, 89, 16, 7, 16, 115, 85, 89, 16, 8, 16, 115, 85, 89, 16, 9, 3, 85, 89]
abbrev dktX6_init_7 : List UInt8 := dkwX6_init_7 ++ dktX6_init_8
def dkwX6_init_6 : List UInt8 := [16, 111, 85, 89, 5, 16, 114, 85, 89, 6, 16, 101, 85, 89, 7, 3, 85, 89, 8, 16, 108, 85, 89]
abbrev dktX6_init_6 : List UInt8 := dkwX6_init_6 ++ dktX6_init_7
def dkwX6_init_5 : List UInt8 := [16, 108, 85, 89, 5, 16, 121, 85, 181, 0, 44, 42, 16, 15, 188, 5, 89, 3, 16, 109, 85, 89, 4]
abbrev dktX6_init_5 : List UInt8 := dkwX6_init_5 ++ dktX6_init_6
def dkwX6_init_4 : List UInt8 := [89, 7, 16, 121, 85, 89, 8, 16, 100, 85, 181, 0, 40, 42, 6, 188, 5, 89, 3, 16, 109, 85, 89, 4]
abbrev dktX6_init_4 : List UInt8 := dkwX6_init_4 ++ dktX6_init_5
def dkwX6_init_3 : List UInt8 := [16, 6, 188, 5, 89, 3, 16, 112, 85, 89, 4, 16, 107, 85, 89, 5, 16, 118, 85, 89, 6, 16, 108, 85]
abbrev dktX6_init_3 : List UInt8 := dkwX6_init_3 ++ dktX6_init_4
def dkwX6_init_2 : List UInt8 := [16, 6, 188, 10, 181, 0, 31, 42, 16, 100, 188, 10, 181, 0, 34, 42, 16, 6, 188, 10, 181, 0, 37, 42]
abbrev dktX6_init_2 : List UInt8 := dkwX6_init_2 ++ dktX6_init_3
def dkwX6_init_1 : List UInt8 := [188, 10, 181, 0, 22, 42, 16, 100, 188, 10, 181, 0, 25, 42, 17, 2, 88, 188, 10, 181, 0, 28, 42]
abbrev dktX6_init_1 : List UInt8 := dkwX6_init_1 ++ dktX6_init_2
def dkwX6_init_0 : List UInt8 := [42, 183, 0, 3, 42, 184, 0, 9, 181, 0, 15, 42, 17, 0, 218, 188, 10, 181, 0, 19, 42, 16, 109]
abbrev dktX6_init_0 : List UInt8 := dkwX6_init_0 ++ dktX6_init_1
theorem dksX6_init_0 : cX6_init.data.toList.drop 0 = dktX6_init_0 := by decide +kernel
theorem dksX6_init_1 : cX6_init.data.toList.drop 23 = dktX6_init_1 := dk_seg dksX6_init_0 23 rfl rfl
theorem dksX6_init_2 : cX6_init.data.toList.drop 46 = dktX6_init_2 := dk_seg dksX6_init_1 23 rfl rfl
theorem dksX6_init_3 : cX6_init.data.toList.drop 70 = dktX6_init_3 := dk_seg dksX6_init_2 24 rfl rfl
theorem dksX6_init_4 : cX6_init.data.toList.drop 94 = dktX6_init_4 := dk_seg dksX6_init_3 24 rfl rfl
theorem dksX6_init_5 : cX6_init.data.toList.drop 118 = dktX6_init_5 := dk_seg dksX6_init_4 24 rfl rfl
theorem dksX6_init_6 : cX6_init.data.toList.drop 141 = dktX6_init_6 := dk_seg dksX6_init_5 23 rfl rfl
theorem dksX6_init_7 : cX6_init.data.toList.drop 164 = dktX6_init_7 := dk_seg dksX6_init_6 23 rfl rfl
theorem dksX6_init_8 : cX6_init.data.toList.drop 187 = dktX6_init_8 := dk_seg dksX6_init_7 23 rfl rfl
theorem dksX6_init_9 : cX6_init.data.toList.drop 211 = dktX6_init_9 := dk_seg dksX6_init_8 24 rfl rfl
theorem dksX6_init_10 : cX6_init.data.toList.drop 235 = dktX6_init_10 := dk_seg dksX6_init_9 24 rfl rfl
theorem dksX6_init_11 : cX6_init.data.toList.drop 259 = dktX6_init_11 := dk_seg dksX6_init_10 24 rfl rfl
theorem dksX6_init_12 : cX6_init.data.toList.drop 282 = dktX6_init_12 := dk_seg dksX6_init_11 23 rfl rfl
theorem dksX6_init_13 : cX6_init.data.toList.drop 305 = dktX6_init_13 := dk_seg dksX6_init_12 23 rfl rfl
theorem dksX6_init_14 : cX6_init.data.toList.drop 329 = dktX6_init_14 := dk_seg dksX6_init_13 24 rfl rfl
theorem dksX6_init_15 : cX6_init.data.toList.drop 353 = dktX6_init_15 := dk_seg dksX6_init_14 24 rfl rfl
theorem dksX6_init_16 : cX6_init.data.toList.drop 377 = dktX6_init_16 := dk_seg dksX6_init_15 24 rfl rfl
theorem dksX6_init_17 : cX6_init.data.toList.drop 400 = dktX6_init_17 := dk_seg dksX6_init_16 23 rfl rfl
theorem dksX6_init_18 : cX6_init.data.toList.drop 424 = dktX6_init_18 := dk_seg dksX6_init_17 24 rfl rfl
theorem dksX6_init_19 : cX6_init.data.toList.drop 446 = dktX6_init_19 := dk_seg dksX6_init_18 22 rfl rfl
theorem dX6_init_0 : decode cX6_init 0 = .ok (.aload_n 0, 1) := dk_42 (dk_at dksX6_init_0 0 rfl rfl)
theorem dX6_init_1 : decode cX6_init 1 = .ok (.invokespecial 3, 3) := dk_183 0 3 (dk_at dksX6_init_0 1 rfl rfl)
theorem dX6_init_4 : decode cX6_init 4 = .ok (.aload_n 0, 1) := dk_42 (dk_at dksX6_init_0 4 rfl rfl)
theorem dX6_init_5 : decode cX6_init 5 = .ok (.invokestatic 9, 3) := dk_184 0 9 (dk_at dksX6_init_0 5 rfl rfl)
theorem dX6_init_8 : decode cX6_init 8 = .ok (.putfield 15, 3) := dk_181 0 15 (dk_at dksX6_init_0 8 rfl rfl)
theorem dX6_init_11 : decode cX6_init 11 = .ok (.aload_n 0, 1) := dk_42 (dk_at dksX6_init_0 11 rfl rfl)
theorem dX6_init_12 : decode cX6_init 12 = .ok (.sipush 218, 3) := dk_17 0 218 (dk_at dksX6_init_0 12 rfl rfl)
theorem dX6_init_15 : decode cX6_init 15 = .ok (.newarray .int, 2) := dk_188_10 (dk_at dksX6_init_0 15 rfl rfl)
theorem dX6_init_17 : decode cX6_init 17 = .ok (.putfield 19, 3) := dk_181 0 19 (dk_at dksX6_init_0 17 rfl rfl)
theorem dX6_init_20 : decode cX6_init 20 = .ok (.aload_n 0, 1) := dk_42 (dk_at dksX6_init_0 20 rfl rfl)
theorem dX6_init_21 : decode cX6_init 21 = .ok (.bipush 109, 2) := dk_16 109 (dk_at dksX6_init_0 21 rfl rfl)
theorem dX6_init_23 : decode cX6_init 23 = .ok (.newarray .int, 2) := dk_188_10 (dk_at dksX6_init_1 0 rfl rfl)
theorem dX6_init_25 : decode cX6_init 25 = .ok (.putfield 22, 3) := dk_181 0 22 (dk_at dksX6_init_1 2 rfl rfl)
theorem dX6_init_28 : decode cX6_init 28 = .ok (.aload_n 0, 1) := dk_42 (dk_at dksX6_init_1 5 rfl rfl)
theorem dX6_init_29 : decode cX6_init 29 = .ok (.bipush 100, 2) := dk_16 100 (dk_at dksX6_init_1 6 rfl rfl)
theorem dX6_init_31 : decode cX6_init 31 = .ok (.newarray .int, 2) := dk_188_10 (dk_at dksX6_init_1 8 rfl rfl)
theorem dX6_init_33 : decode cX6_init 33 = .ok (.putfield 25, 3) := dk_181 0 25 (dk_at dksX6_init_1 10 rfl rfl)
theorem dX6_init_36 : decode cX6_init 36 = .ok (.aload_n 0, 1) := dk_42 (dk_at dksX6_init_1 13 rfl rfl)
theorem dX6_init_37 : decode cX6_init 37 = .ok (.sipush 600, 3) := dk_17 2 88 (dk_at dksX6_init_1 14 rfl rfl)
theorem dX6_init_40 : decode cX6_init 40 = .ok (.newarray .int, 2) := dk_188_10 (dk_at dksX6_init_1 17 rfl rfl)
theorem dX6_init_42 : decode cX6_init 42 = .ok (.putfield 28, 3) := dk_181 0 28 (dk_at dksX6_init_1 19 rfl rfl)
theorem dX6_init_45 : decode cX6_init 45 = .ok (.aload_n 0, 1) := dk_42 (dk_at dksX6_init_1 22 rfl rfl)
theorem dX6_init_46 : decode cX6_init 46 = .ok (.bipush 6, 2) := dk_16 6 (dk_at dksX6_init_2 0 rfl rfl)
theorem dX6_init_48 : decode cX6_init 48 = .ok (.newarray .int, 2) := dk_188_10 (dk_at dksX6_init_2 2 rfl rfl)
theorem dX6_init_50 : decode cX6_init 50 = .ok (.putfield 31, 3) := dk_181 0 31 (dk_at dksX6_init_2 4 rfl rfl)
theorem dX6_init_53 : decode cX6_init 53 = .ok (.aload_n 0, 1) := dk_42 (dk_at dksX6_init_2 7 rfl rfl)
theorem dX6_init_54 : decode cX6_init 54 = .ok (.bipush 100, 2) := dk_16 100 (dk_at dksX6_init_2 8 rfl rfl)
theorem dX6_init_56 : decode cX6_init 56 = .ok (.newarray .int, 2) := dk_188_10 (dk_at dksX6_init_2 10 rfl rfl)
theorem dX6_init_58 : decode cX6_init 58 = .ok (.putfield 34, 3) := dk_181 0 34 (dk_at dksX6_init_2 12 rfl rfl)
theorem dX6_init_61 : decode cX6_init 61 = .ok (.aload_n 0, 1) := dk_42 (dk_at dksX6_init_2 15 rfl rfl)
theorem dX6_init_62 : decode cX6_init 62 = .ok (.bipush 6, 2) := dk_16 6 (dk_at dksX6_init_2 16 rfl rfl)
theorem dX6_init_64 : decode cX6_init 64 = .ok (.newarray .int, 2) := dk_188_10 (dk_at dksX6_init_2 18 rfl rfl)
theorem dX6_init_66 : decode cX6_init 66 = .ok (.putfield 37, 3) := dk_181 0 37 (dk_at dksX6_init_2 20 rfl rfl)
theorem dX6_init_69 : decode cX6_init 69 = .ok (.aload_n 0, 1) := dk_42 (dk_at dksX6_init_2 23 rfl rfl)
theorem dX6_init_70 : decode cX6_init 70 = .ok (.bipush 6, 2) := dk_16 6 (dk_at dksX6_init_3 0 rfl rfl)
theorem dX6_init_72 : decode cX6_init 72 = .ok (.newarray .char, 2) := dk_188_5 (dk_at dksX6_init_3 2 rfl rfl)
theorem dX6_init_74 : decode cX6_init 74 = .ok (.dup, 1) := dk_89 (dk_at dksX6_init_3 4 rfl rfl)
theorem dX6_init_75 : decode cX6_init 75 = .ok (.iconst 0, 1) := dk_3 (dk_at dksX6_init_3 5 rfl rfl)
theorem dX6_init_76 : decode cX6_init 76 = .ok (.bipush 112, 2) := dk_16 112 (dk_at dksX6_init_3 6 rfl rfl)
theorem dX6_init_78 : decode cX6_init 78 = .ok (.castore, 1) := dk_85 (dk_at dksX6_init_3 8 rfl rfl)
theorem dX6_init_79 : decode cX6_init 79 = .ok (.dup, 1) := dk_89 (dk_at dksX6_init_3 9 rfl rfl)
theorem dX6_init_80 : decode cX6_init 80 = .ok (.iconst 1, 1) := dk_4 (dk_at dksX6_init_3 10 rfl rfl)
theorem dX6_init_81 : decode cX6_init 81 = .ok (.bipush 107, 2) := dk_16 107 (dk_at dksX6_init_3 11 rfl rfl)
theorem dX6_init_83 : decode cX6_init 83 = .ok (.castore, 1) := dk_85 (dk_at dksX6_init_3 13 rfl rfl)
theorem dX6_init_84 : decode cX6_init 84 = .ok (.dup, 1) := dk_89 (dk_at dksX6_init_3 14 rfl rfl)
theorem dX6_init_85 : decode cX6_init 85 = .ok (.iconst 2, 1) := dk_5 (dk_at dksX6_init_3 15 rfl rfl)
theorem dX6_init_86 : decode cX6_init 86 = .ok (.bipush 118, 2) := dk_16 118 (dk_at dksX6_init_3 16 rfl rfl)
theorem dX6_init_88 : decode cX6_init 88 = .ok (.castore, 1) := dk_85 (dk_at dksX6_init_3 18 rfl rfl)
theorem dX6_init_89 : decode cX6_init 89 = .ok (.dup, 1) := dk_89 (dk_at dksX6_init_3 19 rfl rfl)
theorem dX6_init_90 : decode cX6_init 90 = .ok (.iconst 3, 1) := dk_6 (dk_at dksX6_init_3 20 rfl rfl)
theorem dX6_init_91 : decode cX6_init 91 = .ok (.bipush 108, 2) := dk_16 108 (dk_at dksX6_init_3 21 rfl rfl)
theorem dX6_init_93 : decode cX6_init 93 = .ok (.castore, 1) := dk_85 (dk_at dksX6_init_3 23 rfl rfl)
theorem dX6_init_94 : decode cX6_init 94 = .ok (.dup, 1) := dk_89 (dk_at dksX6_init_4 0 rfl rfl)
theorem dX6_init_95 : decode cX6_init 95 = .ok (.iconst 4, 1) := dk_7 (dk_at dksX6_init_4 1 rfl rfl)
theorem dX6_init_96 : decode cX6_init 96 = .ok (.bipush 121, 2) := dk_16 121 (dk_at dksX6_init_4 2 rfl rfl)
theorem dX6_init_98 : decode cX6_init 98 = .ok (.castore, 1) := dk_85 (dk_at dksX6_init_4 4 rfl rfl)
theorem dX6_init_99 : decode cX6_init 99 = .ok (.dup, 1) := dk_89 (dk_at dksX6_init_4 5 rfl rfl)
theorem dX6_init_100 : decode cX6_init 100 = .ok (.iconst 5, 1) := dk_8 (dk_at dksX6_init_4 6 rfl rfl)
theorem dX6_init_101 : decode cX6_init 101 = .ok (.bipush 100, 2) := dk_16 100 (dk_at dksX6_init_4 7 rfl rfl)
theorem dX6_init_103 : decode cX6_init 103 = .ok (.castore, 1) := dk_85 (dk_at dksX6_init_4 9 rfl rfl)
theorem dX6_init_104 : decode cX6_init 104 = .ok (.putfield 40, 3) := dk_181 0 40 (dk_at dksX6_init_4 10 rfl rfl)
theorem dX6_init_107 : decode cX6_init 107 = .ok (.aload_n 0, 1) := dk_42 (dk_at dksX6_init_4 13 rfl rfl)
theorem dX6_init_108 : decode cX6_init 108 = .ok (.iconst 3, 1) := dk_6 (dk_at dksX6_init_4 14 rfl rfl)
theorem dX6_init_109 : decode cX6_init 109 = .ok (.newarray .char, 2) := dk_188_5 (dk_at dksX6_init_4 15 rfl rfl)
theorem dX6_init_111 : decode cX6_init 111 = .ok (.dup, 1) := dk_89 (dk_at dksX6_init_4 17 rfl rfl)
theorem dX6_init_112 : decode cX6_init 112 = .ok (.iconst 0, 1) := dk_3 (dk_at dksX6_init_4 18 rfl rfl)
theorem dX6_init_113 : decode cX6_init 113 = .ok (.bipush 109, 2) := dk_16 109 (dk_at dksX6_init_4 19 rfl rfl)
theorem dX6_init_115 : decode cX6_init 115 = .ok (.castore, 1) := dk_85 (dk_at dksX6_init_4 21 rfl rfl)
theorem dX6_init_116 : decode cX6_init 116 = .ok (.dup, 1) := dk_89 (dk_at dksX6_init_4 22 rfl rfl)
theorem dX6_init_117 : decode cX6_init 117 = .ok (.iconst 1, 1) := dk_4 (dk_at dksX6_init_4 23 rfl rfl)
theorem dX6_init_118 : decode cX6_init 118 = .ok (.bipush 108, 2) := dk_16 108 (dk_at dksX6_init_5 0 rfl rfl)
theorem dX6_init_120 : decode cX6_init 120 = .ok (.castore, 1) := dk_85 (dk_at dksX6_init_5 2 rfl rfl)
theorem dX6_init_121 : decode cX6_init 121 = .ok (.dup, 1) := dk_89 (dk_at dksX6_init_5 3 rfl rfl)
theorem dX6_init_122 : decode cX6_init 122 = .ok (.iconst 2, 1) := dk_5 (dk_at dksX6_init_5 4 rfl rfl)
theorem dX6_init_123 : decode cX6_init 123 = .ok (.bipush 121, 2) := dk_16 121 (dk_at dksX6_init_5 5 rfl rfl)
theorem dX6_init_125 : decode cX6_init 125 = .ok (.castore, 1) := dk_85 (dk_at dksX6_init_5 7 rfl rfl)
theorem dX6_init_126 : decode cX6_init 126 = .ok (.putfield 44, 3) := dk_181 0 44 (dk_at dksX6_init_5 8 rfl rfl)
theorem dX6_init_129 : decode cX6_init 129 = .ok (.aload_n 0, 1) := dk_42 (dk_at dksX6_init_5 11 rfl rfl)
theorem dX6_init_130 : decode cX6_init 130 = .ok (.bipush 15, 2) := dk_16 15 (dk_at dksX6_init_5 12 rfl rfl)
theorem dX6_init_132 : decode cX6_init 132 = .ok (.newarray .char, 2) := dk_188_5 (dk_at dksX6_init_5 14 rfl rfl)
theorem dX6_init_134 : decode cX6_init 134 = .ok (.dup, 1) := dk_89 (dk_at dksX6_init_5 16 rfl rfl)
theorem dX6_init_135 : decode cX6_init 135 = .ok (.iconst 0, 1) := dk_3 (dk_at dksX6_init_5 17 rfl rfl)
theorem dX6_init_136 : decode cX6_init 136 = .ok (.bipush 109, 2) := dk_16 109 (dk_at dksX6_init_5 18 rfl rfl)
theorem dX6_init_138 : decode cX6_init 138 = .ok (.castore, 1) := dk_85 (dk_at dksX6_init_5 20 rfl rfl)
theorem dX6_init_139 : decode cX6_init 139 = .ok (.dup, 1) := dk_89 (dk_at dksX6_init_5 21 rfl rfl)
theorem dX6_init_140 : decode cX6_init 140 = .ok (.iconst 1, 1) := dk_4 (dk_at dksX6_init_5 22 rfl rfl)
theorem dX6_init_141 : decode cX6_init 141 = .ok (.bipush 111, 2) := dk_16 111 (dk_at dksX6_init_6 0 rfl rfl)
theorem dX6_init_143 : decode cX6_init 143 = .ok (.castore, 1) := dk_85 (dk_at dksX6_init_6 2 rfl rfl)
theorem dX6_init_144 : decode cX6_init 144 = .ok (.dup, 1) := dk_89 (dk_at dksX6_init_6 3 rfl rfl)
theorem dX6_init_145 : decode cX6_init 145 = .ok (.iconst 2, 1) := dk_5 (dk_at dksX6_init_6 4 rfl rfl)
theorem dX6_init_146 : decode cX6_init 146 = .ok (.bipush 114, 2) := dk_16 114 (dk_at dksX6_init_6 5 rfl rfl)
theorem dX6_init_148 : decode cX6_init 148 = .ok (.castore, 1) := dk_85 (dk_at dksX6_init_6 7 rfl rfl)
theorem dX6_init_149 : decode cX6_init 149 = .ok (.dup, 1) := dk_89 (dk_at dksX6_init_6 8 rfl rfl)
theorem dX6_init_150 : decode cX6_init 150 = .ok (.iconst 3, 1) := dk_6 (dk_at dksX6_init_6 9 rfl rfl)
theorem dX6_init_151 : decode cX6_init 151 = .ok (.bipush 101, 2) := dk_16 101 (dk_at dksX6_init_6 10 rfl rfl)
theorem dX6_init_153 : decode cX6_init 153 = .ok (.castore, 1) := dk_85 (dk_at dksX6_init_6 12 rfl rfl)
theorem dX6_init_154 : decode cX6_init 154 = .ok (.dup, 1) := dk_89 (dk_at dksX6_init_6 13 rfl rfl)
theorem dX6_init_155 : decode cX6_init 155 = .ok (.iconst 4, 1) := dk_7 (dk_at dksX6_init_6 14 rfl rfl)
theorem dX6_init_156 : decode cX6_init 156 = .ok (.iconst 0, 1) := dk_3 (dk_at dksX6_init_6 15 rfl rfl)
theorem dX6_init_157 : decode cX6_init 157 = .ok (.castore, 1) := dk_85 (dk_at dksX6_init_6 16 rfl rfl)
theorem dX6_init_158 : decode cX6_init 158 = .ok (.dup, 1) := dk_89 (dk_at dksX6_init_6 17 rfl rfl)
theorem dX6_init_159 : decode cX6_init 159 = .ok (.iconst 5, 1) := dk_8 (dk_at dksX6_init_6 18 rfl rfl)
theorem dX6_init_160 : decode cX6_init 160 = .ok (.bipush 108, 2) := dk_16 108 (dk_at dksX6_init_6 19 rfl rfl)
theorem dX6_init_162 : decode cX6_init 162 = .ok (.castore, 1) := dk_85 (dk_at dksX6_init_6 21 rfl rfl)
theorem dX6_init_163 : decode cX6_init 163 = .ok (.dup, 1) := dk_89 (dk_at dksX6_init_6 22 rfl rfl)
theorem dX6_init_164 : decode cX6_init 164 = .ok (.bipush 6, 2) := dk_16 6 (dk_at dksX6_init_7 0 rfl rfl)
theorem dX6_init_166 : decode cX6_init 166 = .ok (.bipush 101, 2) := dk_16 101 (dk_at dksX6_init_7 2 rfl rfl)
theorem dX6_init_168 : decode cX6_init 168 = .ok (.castore, 1) := dk_85 (dk_at dksX6_init_7 4 rfl rfl)
theorem dX6_init_169 : decode cX6_init 169 = .ok (.dup, 1) := dk_89 (dk_at dksX6_init_7 5 rfl rfl)
theorem dX6_init_170 : decode cX6_init 170 = .ok (.bipush 7, 2) := dk_16 7 (dk_at dksX6_init_7 6 rfl rfl)
theorem dX6_init_172 : decode cX6_init 172 = .ok (.bipush 115, 2) := dk_16 115 (dk_at dksX6_init_7 8 rfl rfl)
theorem dX6_init_174 : decode cX6_init 174 = .ok (.castore, 1) := dk_85 (dk_at dksX6_init_7 10 rfl rfl)
theorem dX6_init_175 : decode cX6_init 175 = .ok (.dup, 1) := dk_89 (dk_at dksX6_init_7 11 rfl rfl)
theorem dX6_init_176 : decode cX6_init 176 = .ok (.bipush 8, 2) := dk_16 8 (dk_at dksX6_init_7 12 rfl rfl)
theorem dX6_init_178 : decode cX6_init 178 = .ok (.bipush 115, 2) := dk_16 115 (dk_at dksX6_init_7 14 rfl rfl)
theorem dX6_init_180 : decode cX6_init 180 = .ok (.castore, 1) := dk_85 (dk_at dksX6_init_7 16 rfl rfl)
theorem dX6_init_181 : decode cX6_init 181 = .ok (.dup, 1) := dk_89 (dk_at dksX6_init_7 17 rfl rfl)
theorem dX6_init_182 : decode cX6_init 182 = .ok (.bipush 9, 2) := dk_16 9 (dk_at dksX6_init_7 18 rfl rfl)
theorem dX6_init_184 : decode cX6_init 184 = .ok (.iconst 0, 1) := dk_3 (dk_at dksX6_init_7 20 rfl rfl)
theorem dX6_init_185 : decode cX6_init 185 = .ok (.castore, 1) := dk_85 (dk_at dksX6_init_7 21 rfl rfl)
theorem dX6_init_186 : decode cX6_init 186 = .ok (.dup, 1) := dk_89 (dk_at dksX6_init_7 22 rfl rfl)
theorem dX6_init_187 : decode cX6_init 187 = .ok (.bipush 10, 2) := dk_16 10 (dk_at dksX6_init_8 0 rfl rfl)
theorem dX6_init_189 : decode cX6_init 189 = .ok (.bipush 121, 2) := dk_16 121 (dk_at dksX6_init_8 2 rfl rfl)
theorem dX6_init_191 : decode cX6_init 191 = .ok (.castore, 1) := dk_85 (dk_at dksX6_init_8 4 rfl rfl)
theorem dX6_init_192 : decode cX6_init 192 = .ok (.dup, 1) := dk_89 (dk_at dksX6_init_8 5 rfl rfl)
theorem dX6_init_193 : decode cX6_init 193 = .ok (.bipush 11, 2) := dk_16 11 (dk_at dksX6_init_8 6 rfl rfl)
theorem dX6_init_195 : decode cX6_init 195 = .ok (.bipush 97, 2) := dk_16 97 (dk_at dksX6_init_8 8 rfl rfl)
theorem dX6_init_197 : decode cX6_init 197 = .ok (.castore, 1) := dk_85 (dk_at dksX6_init_8 10 rfl rfl)
theorem dX6_init_198 : decode cX6_init 198 = .ok (.dup, 1) := dk_89 (dk_at dksX6_init_8 11 rfl rfl)
theorem dX6_init_199 : decode cX6_init 199 = .ok (.bipush 12, 2) := dk_16 12 (dk_at dksX6_init_8 12 rfl rfl)
theorem dX6_init_201 : decode cX6_init 201 = .ok (.bipush 114, 2) := dk_16 114 (dk_at dksX6_init_8 14 rfl rfl)
theorem dX6_init_203 : decode cX6_init 203 = .ok (.castore, 1) := dk_85 (dk_at dksX6_init_8 16 rfl rfl)
theorem dX6_init_204 : decode cX6_init 204 = .ok (.dup, 1) := dk_89 (dk_at dksX6_init_8 17 rfl rfl)
theorem dX6_init_205 : decode cX6_init 205 = .ok (.bipush 13, 2) := dk_16 13 (dk_at dksX6_init_8 18 rfl rfl)
theorem dX6_init_207 : decode cX6_init 207 = .ok (.bipush 100, 2) := dk_16 100 (dk_at dksX6_init_8 20 rfl rfl)
theorem dX6_init_209 : decode cX6_init 209 = .ok (.castore, 1) := dk_85 (dk_at dksX6_init_8 22 rfl rfl)
theorem dX6_init_210 : decode cX6_init 210 = .ok (.dup, 1) := dk_89 (dk_at dksX6_init_8 23 rfl rfl)
theorem dX6_init_211 : decode cX6_init 211 = .ok (.bipush 14, 2) := dk_16 14 (dk_at dksX6_init_9 0 rfl rfl)
theorem dX6_init_213 : decode cX6_init 213 = .ok (.iconst 0, 1) := dk_3 (dk_at dksX6_init_9 2 rfl rfl)
theorem dX6_init_214 : decode cX6_init 214 = .ok (.castore, 1) := dk_85 (dk_at dksX6_init_9 3 rfl rfl)
theorem dX6_init_215 : decode cX6_init 215 = .ok (.putfield 47, 3) := dk_181 0 47 (dk_at dksX6_init_9 4 rfl rfl)
theorem dX6_init_218 : decode cX6_init 218 = .ok (.aload_n 0, 1) := dk_42 (dk_at dksX6_init_9 7 rfl rfl)
theorem dX6_init_219 : decode cX6_init 219 = .ok (.bipush 6, 2) := dk_16 6 (dk_at dksX6_init_9 8 rfl rfl)
theorem dX6_init_221 : decode cX6_init 221 = .ok (.newarray .int, 2) := dk_188_10 (dk_at dksX6_init_9 10 rfl rfl)
theorem dX6_init_223 : decode cX6_init 223 = .ok (.putfield 50, 3) := dk_181 0 50 (dk_at dksX6_init_9 12 rfl rfl)
theorem dX6_init_226 : decode cX6_init 226 = .ok (.aload_n 0, 1) := dk_42 (dk_at dksX6_init_9 15 rfl rfl)
theorem dX6_init_227 : decode cX6_init 227 = .ok (.bipush 6, 2) := dk_16 6 (dk_at dksX6_init_9 16 rfl rfl)
theorem dX6_init_229 : decode cX6_init 229 = .ok (.newarray .int, 2) := dk_188_10 (dk_at dksX6_init_9 18 rfl rfl)
theorem dX6_init_231 : decode cX6_init 231 = .ok (.putfield 53, 3) := dk_181 0 53 (dk_at dksX6_init_9 20 rfl rfl)
theorem dX6_init_234 : decode cX6_init 234 = .ok (.aload_n 0, 1) := dk_42 (dk_at dksX6_init_9 23 rfl rfl)
theorem dX6_init_235 : decode cX6_init 235 = .ok (.bipush 6, 2) := dk_16 6 (dk_at dksX6_init_10 0 rfl rfl)
theorem dX6_init_237 : decode cX6_init 237 = .ok (.newarray .int, 2) := dk_188_10 (dk_at dksX6_init_10 2 rfl rfl)
theorem dX6_init_239 : decode cX6_init 239 = .ok (.putfield 56, 3) := dk_181 0 56 (dk_at dksX6_init_10 4 rfl rfl)
theorem dX6_init_242 : decode cX6_init 242 = .ok (.aload_n 0, 1) := dk_42 (dk_at dksX6_init_10 7 rfl rfl)
theorem dX6_init_243 : decode cX6_init 243 = .ok (.bipush 7, 2) := dk_16 7 (dk_at dksX6_init_10 8 rfl rfl)
theorem dX6_init_245 : decode cX6_init 245 = .ok (.newarray .int, 2) := dk_188_10 (dk_at dksX6_init_10 10 rfl rfl)
theorem dX6_init_247 : decode cX6_init 247 = .ok (.dup, 1) := dk_89 (dk_at dksX6_init_10 12 rfl rfl)
theorem dX6_init_248 : decode cX6_init 248 = .ok (.iconst 0, 1) := dk_3 (dk_at dksX6_init_10 13 rfl rfl)
theorem dX6_init_249 : decode cX6_init 249 = .ok (.iconst (-1), 1) := dk_2 (dk_at dksX6_init_10 14 rfl rfl)
theorem dX6_init_250 : decode cX6_init 250 = .ok (.iastore, 1) := dk_79 (dk_at dksX6_init_10 15 rfl rfl)
theorem dX6_init_251 : decode cX6_init 251 = .ok (.dup, 1) := dk_89 (dk_at dksX6_init_10 16 rfl rfl)
theorem dX6_init_252 : decode cX6_init 252 = .ok (.iconst 1, 1) := dk_4 (dk_at dksX6_init_10 17 rfl rfl)
theorem dX6_init_253 : decode cX6_init 253 = .ok (.iconst 0, 1) := dk_3 (dk_at dksX6_init_10 18 rfl rfl)
theorem dX6_init_254 : decode cX6_init 254 = .ok (.iastore, 1) := dk_79 (dk_at dksX6_init_10 19 rfl rfl)
theorem dX6_init_255 : decode cX6_init 255 = .ok (.dup, 1) := dk_89 (dk_at dksX6_init_10 20 rfl rfl)
theorem dX6_init_256 : decode cX6_init 256 = .ok (.iconst 2, 1) := dk_5 (dk_at dksX6_init_10 21 rfl rfl)
theorem dX6_init_257 : decode cX6_init 257 = .ok (.iconst 0, 1) := dk_3 (dk_at dksX6_init_10 22 rfl rfl)
theorem dX6_init_258 : decode cX6_init 258 = .ok (.iastore, 1) := dk_79 (dk_at dksX6_init_10 23 rfl rfl)
theorem dX6_init_259 : decode cX6_init 259 = .ok (.dup, 1) := dk_89 (dk_at dksX6_init_11 0 rfl rfl)
theorem dX6_init_260 : decode cX6_init 260 = .ok (.iconst 3, 1) := dk_6 (dk_at dksX6_init_11 1 rfl rfl)
theorem dX6_init_261 : decode cX6_init 261 = .ok (.iconst 0, 1) := dk_3 (dk_at dksX6_init_11 2 rfl rfl)
theorem dX6_init_262 : decode cX6_init 262 = .ok (.iastore, 1) := dk_79 (dk_at dksX6_init_11 3 rfl rfl)
theorem dX6_init_263 : decode cX6_init 263 = .ok (.dup, 1) := dk_89 (dk_at dksX6_init_11 4 rfl rfl)
theorem dX6_init_264 : decode cX6_init 264 = .ok (.iconst 4, 1) := dk_7 (dk_at dksX6_init_11 5 rfl rfl)
theorem dX6_init_265 : decode cX6_init 265 = .ok (.iconst 1, 1) := dk_4 (dk_at dksX6_init_11 6 rfl rfl)
theorem dX6_init_266 : decode cX6_init 266 = .ok (.iastore, 1) := dk_79 (dk_at dksX6_init_11 7 rfl rfl)
theorem dX6_init_267 : decode cX6_init 267 = .ok (.dup, 1) := dk_89 (dk_at dksX6_init_11 8 rfl rfl)
theorem dX6_init_268 : decode cX6_init 268 = .ok (.iconst 5, 1) := dk_8 (dk_at dksX6_init_11 9 rfl rfl)
theorem dX6_init_269 : decode cX6_init 269 = .ok (.iconst 2, 1) := dk_5 (dk_at dksX6_init_11 10 rfl rfl)
theorem dX6_init_270 : decode cX6_init 270 = .ok (.iastore, 1) := dk_79 (dk_at dksX6_init_11 11 rfl rfl)
theorem dX6_init_271 : decode cX6_init 271 = .ok (.dup, 1) := dk_89 (dk_at dksX6_init_11 12 rfl rfl)
theorem dX6_init_272 : decode cX6_init 272 = .ok (.bipush 6, 2) := dk_16 6 (dk_at dksX6_init_11 13 rfl rfl)
theorem dX6_init_274 : decode cX6_init 274 = .ok (.iconst 3, 1) := dk_6 (dk_at dksX6_init_11 15 rfl rfl)
theorem dX6_init_275 : decode cX6_init 275 = .ok (.iastore, 1) := dk_79 (dk_at dksX6_init_11 16 rfl rfl)
theorem dX6_init_276 : decode cX6_init 276 = .ok (.putfield 59, 3) := dk_181 0 59 (dk_at dksX6_init_11 17 rfl rfl)
theorem dX6_init_279 : decode cX6_init 279 = .ok (.aload_n 0, 1) := dk_42 (dk_at dksX6_init_11 20 rfl rfl)
theorem dX6_init_280 : decode cX6_init 280 = .ok (.bipush 21, 2) := dk_16 21 (dk_at dksX6_init_11 21 rfl rfl)
theorem dX6_init_282 : decode cX6_init 282 = .ok (.newarray .int, 2) := dk_188_10 (dk_at dksX6_init_12 0 rfl rfl)
theorem dX6_init_284 : decode cX6_init 284 = .ok (.dup, 1) := dk_89 (dk_at dksX6_init_12 2 rfl rfl)
theorem dX6_init_285 : decode cX6_init 285 = .ok (.iconst 0, 1) := dk_3 (dk_at dksX6_init_12 3 rfl rfl)
theorem dX6_init_286 : decode cX6_init 286 = .ok (.bipush 10, 2) := dk_16 10 (dk_at dksX6_init_12 4 rfl rfl)
theorem dX6_init_288 : decode cX6_init 288 = .ok (.iastore, 1) := dk_79 (dk_at dksX6_init_12 6 rfl rfl)
theorem dX6_init_289 : decode cX6_init 289 = .ok (.dup, 1) := dk_89 (dk_at dksX6_init_12 7 rfl rfl)
theorem dX6_init_290 : decode cX6_init 290 = .ok (.iconst 1, 1) := dk_4 (dk_at dksX6_init_12 8 rfl rfl)
theorem dX6_init_291 : decode cX6_init 291 = .ok (.bipush 11, 2) := dk_16 11 (dk_at dksX6_init_12 9 rfl rfl)
theorem dX6_init_293 : decode cX6_init 293 = .ok (.iastore, 1) := dk_79 (dk_at dksX6_init_12 11 rfl rfl)
theorem dX6_init_294 : decode cX6_init 294 = .ok (.dup, 1) := dk_89 (dk_at dksX6_init_12 12 rfl rfl)
theorem dX6_init_295 : decode cX6_init 295 = .ok (.iconst 2, 1) := dk_5 (dk_at dksX6_init_12 13 rfl rfl)
theorem dX6_init_296 : decode cX6_init 296 = .ok (.bipush 12, 2) := dk_16 12 (dk_at dksX6_init_12 14 rfl rfl)
theorem dX6_init_298 : decode cX6_init 298 = .ok (.iastore, 1) := dk_79 (dk_at dksX6_init_12 16 rfl rfl)
theorem dX6_init_299 : decode cX6_init 299 = .ok (.dup, 1) := dk_89 (dk_at dksX6_init_12 17 rfl rfl)
theorem dX6_init_300 : decode cX6_init 300 = .ok (.iconst 3, 1) := dk_6 (dk_at dksX6_init_12 18 rfl rfl)
theorem dX6_init_301 : decode cX6_init 301 = .ok (.iconst 0, 1) := dk_3 (dk_at dksX6_init_12 19 rfl rfl)
theorem dX6_init_302 : decode cX6_init 302 = .ok (.iastore, 1) := dk_79 (dk_at dksX6_init_12 20 rfl rfl)
theorem dX6_init_303 : decode cX6_init 303 = .ok (.dup, 1) := dk_89 (dk_at dksX6_init_12 21 rfl rfl)
theorem dX6_init_304 : decode cX6_init 304 = .ok (.iconst 4, 1) := dk_7 (dk_at dksX6_init_12 22 rfl rfl)
theorem dX6_init_305 : decode cX6_init 305 = .ok (.bipush 20, 2) := dk_16 20 (dk_at dksX6_init_13 0 rfl rfl)
theorem dX6_init_307 : decode cX6_init 307 = .ok (.iastore, 1) := dk_79 (dk_at dksX6_init_13 2 rfl rfl)
theorem dX6_init_308 : decode cX6_init 308 = .ok (.dup, 1) := dk_89 (dk_at dksX6_init_13 3 rfl rfl)
theorem dX6_init_309 : decode cX6_init 309 = .ok (.iconst 5, 1) := dk_8 (dk_at dksX6_init_13 4 rfl rfl)
theorem dX6_init_310 : decode cX6_init 310 = .ok (.iconst 0, 1) := dk_3 (dk_at dksX6_init_13 5 rfl rfl)
theorem dX6_init_311 : decode cX6_init 311 = .ok (.iastore, 1) := dk_79 (dk_at dksX6_init_13 6 rfl rfl)
theorem dX6_init_312 : decode cX6_init 312 = .ok (.dup, 1) := dk_89 (dk_at dksX6_init_13 7 rfl rfl)
theorem dX6_init_313 : decode cX6_init 313 = .ok (.bipush 6, 2) := dk_16 6 (dk_at dksX6_init_13 8 rfl rfl)
theorem dX6_init_315 : decode cX6_init 315 = .ok (.bipush 30, 2) := dk_16 30 (dk_at dksX6_init_13 10 rfl rfl)
theorem dX6_init_317 : decode cX6_init 317 = .ok (.iastore, 1) := dk_79 (dk_at dksX6_init_13 12 rfl rfl)
theorem dX6_init_318 : decode cX6_init 318 = .ok (.dup, 1) := dk_89 (dk_at dksX6_init_13 13 rfl rfl)
theorem dX6_init_319 : decode cX6_init 319 = .ok (.bipush 7, 2) := dk_16 7 (dk_at dksX6_init_13 14 rfl rfl)
theorem dX6_init_321 : decode cX6_init 321 = .ok (.iconst 0, 1) := dk_3 (dk_at dksX6_init_13 16 rfl rfl)
theorem dX6_init_322 : decode cX6_init 322 = .ok (.iastore, 1) := dk_79 (dk_at dksX6_init_13 17 rfl rfl)
theorem dX6_init_323 : decode cX6_init 323 = .ok (.dup, 1) := dk_89 (dk_at dksX6_init_13 18 rfl rfl)
theorem dX6_init_324 : decode cX6_init 324 = .ok (.bipush 8, 2) := dk_16 8 (dk_at dksX6_init_13 19 rfl rfl)
theorem dX6_init_326 : decode cX6_init 326 = .ok (.iconst 0, 1) := dk_3 (dk_at dksX6_init_13 21 rfl rfl)
theorem dX6_init_327 : decode cX6_init 327 = .ok (.iastore, 1) := dk_79 (dk_at dksX6_init_13 22 rfl rfl)
theorem dX6_init_328 : decode cX6_init 328 = .ok (.dup, 1) := dk_89 (dk_at dksX6_init_13 23 rfl rfl)
theorem dX6_init_329 : decode cX6_init 329 = .ok (.bipush 9, 2) := dk_16 9 (dk_at dksX6_init_14 0 rfl rfl)
theorem dX6_init_331 : decode cX6_init 331 = .ok (.iconst 0, 1) := dk_3 (dk_at dksX6_init_14 2 rfl rfl)
theorem dX6_init_332 : decode cX6_init 332 = .ok (.iastore, 1) := dk_79 (dk_at dksX6_init_14 3 rfl rfl)
theorem dX6_init_333 : decode cX6_init 333 = .ok (.dup, 1) := dk_89 (dk_at dksX6_init_14 4 rfl rfl)
theorem dX6_init_334 : decode cX6_init 334 = .ok (.bipush 10, 2) := dk_16 10 (dk_at dksX6_init_14 5 rfl rfl)
theorem dX6_init_336 : decode cX6_init 336 = .ok (.iconst 0, 1) := dk_3 (dk_at dksX6_init_14 7 rfl rfl)
theorem dX6_init_337 : decode cX6_init 337 = .ok (.iastore, 1) := dk_79 (dk_at dksX6_init_14 8 rfl rfl)
theorem dX6_init_338 : decode cX6_init 338 = .ok (.dup, 1) := dk_89 (dk_at dksX6_init_14 9 rfl rfl)
theorem dX6_init_339 : decode cX6_init 339 = .ok (.bipush 11, 2) := dk_16 11 (dk_at dksX6_init_14 10 rfl rfl)
theorem dX6_init_341 : decode cX6_init 341 = .ok (.bipush 40, 2) := dk_16 40 (dk_at dksX6_init_14 12 rfl rfl)
theorem dX6_init_343 : decode cX6_init 343 = .ok (.iastore, 1) := dk_79 (dk_at dksX6_init_14 14 rfl rfl)
theorem dX6_init_344 : decode cX6_init 344 = .ok (.dup, 1) := dk_89 (dk_at dksX6_init_14 15 rfl rfl)
theorem dX6_init_345 : decode cX6_init 345 = .ok (.bipush 12, 2) := dk_16 12 (dk_at dksX6_init_14 16 rfl rfl)
theorem dX6_init_347 : decode cX6_init 347 = .ok (.bipush 50, 2) := dk_16 50 (dk_at dksX6_init_14 18 rfl rfl)
theorem dX6_init_349 : decode cX6_init 349 = .ok (.iastore, 1) := dk_79 (dk_at dksX6_init_14 20 rfl rfl)
theorem dX6_init_350 : decode cX6_init 350 = .ok (.dup, 1) := dk_89 (dk_at dksX6_init_14 21 rfl rfl)
theorem dX6_init_351 : decode cX6_init 351 = .ok (.bipush 13, 2) := dk_16 13 (dk_at dksX6_init_14 22 rfl rfl)
theorem dX6_init_353 : decode cX6_init 353 = .ok (.bipush 51, 2) := dk_16 51 (dk_at dksX6_init_15 0 rfl rfl)
theorem dX6_init_355 : decode cX6_init 355 = .ok (.iastore, 1) := dk_79 (dk_at dksX6_init_15 2 rfl rfl)
theorem dX6_init_356 : decode cX6_init 356 = .ok (.dup, 1) := dk_89 (dk_at dksX6_init_15 3 rfl rfl)
theorem dX6_init_357 : decode cX6_init 357 = .ok (.bipush 14, 2) := dk_16 14 (dk_at dksX6_init_15 4 rfl rfl)
theorem dX6_init_359 : decode cX6_init 359 = .ok (.iconst 0, 1) := dk_3 (dk_at dksX6_init_15 6 rfl rfl)
theorem dX6_init_360 : decode cX6_init 360 = .ok (.iastore, 1) := dk_79 (dk_at dksX6_init_15 7 rfl rfl)
theorem dX6_init_361 : decode cX6_init 361 = .ok (.dup, 1) := dk_89 (dk_at dksX6_init_15 8 rfl rfl)
theorem dX6_init_362 : decode cX6_init 362 = .ok (.bipush 15, 2) := dk_16 15 (dk_at dksX6_init_15 9 rfl rfl)
theorem dX6_init_364 : decode cX6_init 364 = .ok (.iconst 0, 1) := dk_3 (dk_at dksX6_init_15 11 rfl rfl)
theorem dX6_init_365 : decode cX6_init 365 = .ok (.iastore, 1) := dk_79 (dk_at dksX6_init_15 12 rfl rfl)
theorem dX6_init_366 : decode cX6_init 366 = .ok (.dup, 1) := dk_89 (dk_at dksX6_init_15 13 rfl rfl)
theorem dX6_init_367 : decode cX6_init 367 = .ok (.bipush 16, 2) := dk_16 16 (dk_at dksX6_init_15 14 rfl rfl)
theorem dX6_init_369 : decode cX6_init 369 = .ok (.iconst 0, 1) := dk_3 (dk_at dksX6_init_15 16 rfl rfl)
theorem dX6_init_370 : decode cX6_init 370 = .ok (.iastore, 1) := dk_79 (dk_at dksX6_init_15 17 rfl rfl)
theorem dX6_init_371 : decode cX6_init 371 = .ok (.dup, 1) := dk_89 (dk_at dksX6_init_15 18 rfl rfl)
theorem dX6_init_372 : decode cX6_init 372 = .ok (.bipush 17, 2) := dk_16 17 (dk_at dksX6_init_15 19 rfl rfl)
theorem dX6_init_374 : decode cX6_init 374 = .ok (.bipush 60, 2) := dk_16 60 (dk_at dksX6_init_15 21 rfl rfl)
theorem dX6_init_376 : decode cX6_init 376 = .ok (.iastore, 1) := dk_79 (dk_at dksX6_init_15 23 rfl rfl)
theorem dX6_init_377 : decode cX6_init 377 = .ok (.dup, 1) := dk_89 (dk_at dksX6_init_16 0 rfl rfl)
theorem dX6_init_378 : decode cX6_init 378 = .ok (.bipush 18, 2) := dk_16 18 (dk_at dksX6_init_16 1 rfl rfl)
theorem dX6_init_380 : decode cX6_init 380 = .ok (.bipush 71, 2) := dk_16 71 (dk_at dksX6_init_16 3 rfl rfl)
theorem dX6_init_382 : decode cX6_init 382 = .ok (.iastore, 1) := dk_79 (dk_at dksX6_init_16 5 rfl rfl)
theorem dX6_init_383 : decode cX6_init 383 = .ok (.dup, 1) := dk_89 (dk_at dksX6_init_16 6 rfl rfl)
theorem dX6_init_384 : decode cX6_init 384 = .ok (.bipush 19, 2) := dk_16 19 (dk_at dksX6_init_16 7 rfl rfl)
theorem dX6_init_386 : decode cX6_init 386 = .ok (.bipush 70, 2) := dk_16 70 (dk_at dksX6_init_16 9 rfl rfl)
theorem dX6_init_388 : decode cX6_init 388 = .ok (.iastore, 1) := dk_79 (dk_at dksX6_init_16 11 rfl rfl)
theorem dX6_init_389 : decode cX6_init 389 = .ok (.dup, 1) := dk_89 (dk_at dksX6_init_16 12 rfl rfl)
theorem dX6_init_390 : decode cX6_init 390 = .ok (.bipush 20, 2) := dk_16 20 (dk_at dksX6_init_16 13 rfl rfl)
theorem dX6_init_392 : decode cX6_init 392 = .ok (.iconst 0, 1) := dk_3 (dk_at dksX6_init_16 15 rfl rfl)
theorem dX6_init_393 : decode cX6_init 393 = .ok (.iastore, 1) := dk_79 (dk_at dksX6_init_16 16 rfl rfl)
theorem dX6_init_394 : decode cX6_init 394 = .ok (.putfield 62, 3) := dk_181 0 62 (dk_at dksX6_init_16 17 rfl rfl)
theorem dX6_init_397 : decode cX6_init 397 = .ok (.aload_n 0, 1) := dk_42 (dk_at dksX6_init_16 20 rfl rfl)
theorem dX6_init_398 : decode cX6_init 398 = .ok (.bipush 20, 2) := dk_16 20 (dk_at dksX6_init_16 21 rfl rfl)
theorem dX6_init_400 : decode cX6_init 400 = .ok (.newarray .int, 2) := dk_188_10 (dk_at dksX6_init_17 0 rfl rfl)
theorem dX6_init_402 : decode cX6_init 402 = .ok (.putfield 65, 3) := dk_181 0 65 (dk_at dksX6_init_17 2 rfl rfl)
theorem dX6_init_405 : decode cX6_init 405 = .ok (.aload_n 0, 1) := dk_42 (dk_at dksX6_init_17 5 rfl rfl)
theorem dX6_init_406 : decode cX6_init 406 = .ok (.bipush 6, 2) := dk_16 6 (dk_at dksX6_init_17 6 rfl rfl)
theorem dX6_init_408 : decode cX6_init 408 = .ok (.newarray .int, 2) := dk_188_10 (dk_at dksX6_init_17 8 rfl rfl)
theorem dX6_init_410 : decode cX6_init 410 = .ok (.dup, 1) := dk_89 (dk_at dksX6_init_17 10 rfl rfl)
theorem dX6_init_411 : decode cX6_init 411 = .ok (.iconst 0, 1) := dk_3 (dk_at dksX6_init_17 11 rfl rfl)
theorem dX6_init_412 : decode cX6_init 412 = .ok (.iconst (-1), 1) := dk_2 (dk_at dksX6_init_17 12 rfl rfl)
theorem dX6_init_413 : decode cX6_init 413 = .ok (.iastore, 1) := dk_79 (dk_at dksX6_init_17 13 rfl rfl)
theorem dX6_init_414 : decode cX6_init 414 = .ok (.dup, 1) := dk_89 (dk_at dksX6_init_17 14 rfl rfl)
theorem dX6_init_415 : decode cX6_init 415 = .ok (.iconst 1, 1) := dk_4 (dk_at dksX6_init_17 15 rfl rfl)
theorem dX6_init_416 : decode cX6_init 416 = .ok (.iconst (-1), 1) := dk_2 (dk_at dksX6_init_17 16 rfl rfl)
theorem dX6_init_417 : decode cX6_init 417 = .ok (.iastore, 1) := dk_79 (dk_at dksX6_init_17 17 rfl rfl)
theorem dX6_init_418 : decode cX6_init 418 = .ok (.dup, 1) := dk_89 (dk_at dksX6_init_17 18 rfl rfl)
theorem dX6_init_419 : decode cX6_init 419 = .ok (.iconst 2, 1) := dk_5 (dk_at dksX6_init_17 19 rfl rfl)
theorem dX6_init_420 : decode cX6_init 420 = .ok (.iconst (-1), 1) := dk_2 (dk_at dksX6_init_17 20 rfl rfl)
theorem dX6_init_421 : decode cX6_init 421 = .ok (.iastore, 1) := dk_79 (dk_at dksX6_init_17 21 rfl rfl)
theorem dX6_init_422 : decode cX6_init 422 = .ok (.dup, 1) := dk_89 (dk_at dksX6_init_17 22 rfl rfl)
theorem dX6_init_423 : decode cX6_init 423 = .ok (.iconst 3, 1) := dk_6 (dk_at dksX6_init_17 23 rfl rfl)
theorem dX6_init_424 : decode cX6_init 424 = .ok (.iconst (-1), 1) := dk_2 (dk_at dksX6_init_18 0 rfl rfl)
theorem dX6_init_425 : decode cX6_init 425 = .ok (.iastore, 1) := dk_79 (dk_at dksX6_init_18 1 rfl rfl)
theorem dX6_init_426 : decode cX6_init 426 = .ok (.dup, 1) := dk_89 (dk_at dksX6_init_18 2 rfl rfl)
theorem dX6_init_427 : decode cX6_init 427 = .ok (.iconst 4, 1) := dk_7 (dk_at dksX6_init_18 3 rfl rfl)
theorem dX6_init_428 : decode cX6_init 428 = .ok (.iconst (-1), 1) := dk_2 (dk_at dksX6_init_18 4 rfl rfl)
theorem dX6_init_429 : decode cX6_init 429 = .ok (.iastore, 1) := dk_79 (dk_at dksX6_init_18 5 rfl rfl)
theorem dX6_init_430 : decode cX6_init 430 = .ok (.dup, 1) := dk_89 (dk_at dksX6_init_18 6 rfl rfl)
theorem dX6_init_431 : decode cX6_init 431 = .ok (.iconst 5, 1) := dk_8 (dk_at dksX6_init_18 7 rfl rfl)
theorem dX6_init_432 : decode cX6_init 432 = .ok (.iconst (-1), 1) := dk_2 (dk_at dksX6_init_18 8 rfl rfl)
theorem dX6_init_433 : decode cX6_init 433 = .ok (.iastore, 1) := dk_79 (dk_at dksX6_init_18 9 rfl rfl)
theorem dX6_init_434 : decode cX6_init 434 = .ok (.putfield 68, 3) := dk_181 0 68 (dk_at dksX6_init_18 10 rfl rfl)
theorem dX6_init_437 : decode cX6_init 437 = .ok (.aload_n 0, 1) := dk_42 (dk_at dksX6_init_18 13 rfl rfl)
theorem dX6_init_438 : decode cX6_init 438 = .ok (.bipush 6, 2) := dk_16 6 (dk_at dksX6_init_18 14 rfl rfl)
theorem dX6_init_440 : decode cX6_init 440 = .ok (.newarray .int, 2) := dk_188_10 (dk_at dksX6_init_18 16 rfl rfl)
theorem dX6_init_442 : decode cX6_init 442 = .ok (.putfield 71, 3) := dk_181 0 71 (dk_at dksX6_init_18 18 rfl rfl)
theorem dX6_init_445 : decode cX6_init 445 = .ok (.aload_n 0, 1) := dk_42 (dk_at dksX6_init_18 21 rfl rfl)
theorem dX6_init_446 : decode cX6_init 446 = .ok (.sipush 360, 3) := dk_17 1 104 (dk_at dksX6_init_19 0 rfl rfl)
theorem dX6_init_449 : decode cX6_init 449 = .ok (.newarray .long, 2) := dk_188_11 (dk_at dksX6_init_19 3 rfl rfl)
theorem dX6_init_451 : decode cX6_init 451 = .ok (.putfield 74, 3) := dk_181 0 74 (dk_at dksX6_init_19 5 rfl rfl)
theorem dX6_init_454 : decode cX6_init 454 = .ok (.aload_n 0, 1) := dk_42 (dk_at dksX6_init_19 8 rfl rfl)
theorem dX6_init_455 : decode cX6_init 455 = .ok (.bipush 60, 2) := dk_16 60 (dk_at dksX6_init_19 9 rfl rfl)
theorem dX6_init_457 : decode cX6_init 457 = .ok (.newarray .long, 2) := dk_188_11 (dk_at dksX6_init_19 11 rfl rfl)
theorem dX6_init_459 : decode cX6_init 459 = .ok (.putfield 78, 3) := dk_181 0 78 (dk_at dksX6_init_19 13 rfl rfl)
theorem dX6_init_462 : decode cX6_init 462 = .ok (.return_, 1) := dk_177 (dk_at dksX6_init_19 16 rfl rfl)
abbrev cX6_fresh : ByteArray := prog_23_method_3_code
def yX6_fresh : MethodName := ⟨RX6, "fresh", "()[I"⟩
def dkwX6_fresh_0 : List UInt8 := [16, 109, 188, 10, 75, 42, 16, 61, 16, 100, 79, 42, 176]
abbrev dktX6_fresh_0 : List UInt8 := dkwX6_fresh_0 ++ []
theorem dksX6_fresh_0 : cX6_fresh.data.toList.drop 0 = dktX6_fresh_0 := by decide +kernel
theorem dX6_fresh_0 : decode cX6_fresh 0 = .ok (.bipush 109, 2) := dk_16 109 (dk_at dksX6_fresh_0 0 rfl rfl)
theorem dX6_fresh_2 : decode cX6_fresh 2 = .ok (.newarray .int, 2) := dk_188_10 (dk_at dksX6_fresh_0 2 rfl rfl)
theorem dX6_fresh_4 : decode cX6_fresh 4 = .ok (.astore_n 0, 1) := dk_75 (dk_at dksX6_fresh_0 4 rfl rfl)
theorem dX6_fresh_5 : decode cX6_fresh 5 = .ok (.aload_n 0, 1) := dk_42 (dk_at dksX6_fresh_0 5 rfl rfl)
theorem dX6_fresh_6 : decode cX6_fresh 6 = .ok (.bipush 61, 2) := dk_16 61 (dk_at dksX6_fresh_0 6 rfl rfl)
theorem dX6_fresh_8 : decode cX6_fresh 8 = .ok (.bipush 100, 2) := dk_16 100 (dk_at dksX6_fresh_0 8 rfl rfl)
theorem dX6_fresh_10 : decode cX6_fresh 10 = .ok (.iastore, 1) := dk_79 (dk_at dksX6_fresh_0 10 rfl rfl)
theorem dX6_fresh_11 : decode cX6_fresh 11 = .ok (.aload_n 0, 1) := dk_42 (dk_at dksX6_fresh_0 11 rfl rfl)
theorem dX6_fresh_12 : decode cX6_fresh 12 = .ok (.areturn, 1) := dk_176 (dk_at dksX6_fresh_0 12 rfl rfl)
abbrev cX6_image : ByteArray := prog_23_method_6_code
def yX6_image : MethodName := ⟨RX6, "image", "()I"⟩
def dkwX6_image_1 : List UInt8 := [79, 132, 1, 1, 167, 255, 235, 42, 180, 0, 15, 16, 60, 46, 172]
abbrev dktX6_image_1 : List UInt8 := dkwX6_image_1 ++ []
def dkwX6_image_0 : List UInt8 := [42, 4, 181, 0, 81, 3, 60, 27, 16, 109, 162, 0, 21, 42, 180, 0, 22, 27, 42, 180, 0, 15, 27, 46]
abbrev dktX6_image_0 : List UInt8 := dkwX6_image_0 ++ dktX6_image_1
theorem dksX6_image_0 : cX6_image.data.toList.drop 0 = dktX6_image_0 := by decide +kernel
theorem dksX6_image_1 : cX6_image.data.toList.drop 24 = dktX6_image_1 := dk_seg dksX6_image_0 24 rfl rfl
theorem dX6_image_0 : decode cX6_image 0 = .ok (.aload_n 0, 1) := dk_42 (dk_at dksX6_image_0 0 rfl rfl)
theorem dX6_image_1 : decode cX6_image 1 = .ok (.iconst 1, 1) := dk_4 (dk_at dksX6_image_0 1 rfl rfl)
theorem dX6_image_2 : decode cX6_image 2 = .ok (.putfield 81, 3) := dk_181 0 81 (dk_at dksX6_image_0 2 rfl rfl)
theorem dX6_image_5 : decode cX6_image 5 = .ok (.iconst 0, 1) := dk_3 (dk_at dksX6_image_0 5 rfl rfl)
theorem dX6_image_6 : decode cX6_image 6 = .ok (.istore_n 1, 1) := dk_60 (dk_at dksX6_image_0 6 rfl rfl)
theorem dX6_image_7 : decode cX6_image 7 = .ok (.iload_n 1, 1) := dk_27 (dk_at dksX6_image_0 7 rfl rfl)
theorem dX6_image_8 : decode cX6_image 8 = .ok (.bipush 109, 2) := dk_16 109 (dk_at dksX6_image_0 8 rfl rfl)
theorem dX6_image_10 : decode cX6_image 10 = .ok (.if_icmp .ge 21, 3) := dk_162 0 21 (dk_at dksX6_image_0 10 rfl rfl)
theorem dX6_image_13 : decode cX6_image 13 = .ok (.aload_n 0, 1) := dk_42 (dk_at dksX6_image_0 13 rfl rfl)
theorem dX6_image_14 : decode cX6_image 14 = .ok (.getfield 22, 3) := dk_180 0 22 (dk_at dksX6_image_0 14 rfl rfl)
theorem dX6_image_17 : decode cX6_image 17 = .ok (.iload_n 1, 1) := dk_27 (dk_at dksX6_image_0 17 rfl rfl)
theorem dX6_image_18 : decode cX6_image 18 = .ok (.aload_n 0, 1) := dk_42 (dk_at dksX6_image_0 18 rfl rfl)
theorem dX6_image_19 : decode cX6_image 19 = .ok (.getfield 15, 3) := dk_180 0 15 (dk_at dksX6_image_0 19 rfl rfl)
theorem dX6_image_22 : decode cX6_image 22 = .ok (.iload_n 1, 1) := dk_27 (dk_at dksX6_image_0 22 rfl rfl)
theorem dX6_image_23 : decode cX6_image 23 = .ok (.iaload, 1) := dk_46 (dk_at dksX6_image_0 23 rfl rfl)
theorem dX6_image_24 : decode cX6_image 24 = .ok (.iastore, 1) := dk_79 (dk_at dksX6_image_1 0 rfl rfl)
theorem dX6_image_25 : decode cX6_image 25 = .ok (.iinc 1 1, 3) := dk_132 1 1 (dk_at dksX6_image_1 1 rfl rfl)
theorem dX6_image_28 : decode cX6_image 28 = .ok (.goto (-21), 3) := dk_167 255 235 (dk_at dksX6_image_1 4 rfl rfl)
theorem dX6_image_31 : decode cX6_image 31 = .ok (.aload_n 0, 1) := dk_42 (dk_at dksX6_image_1 7 rfl rfl)
theorem dX6_image_32 : decode cX6_image 32 = .ok (.getfield 15, 3) := dk_180 0 15 (dk_at dksX6_image_1 8 rfl rfl)
theorem dX6_image_35 : decode cX6_image 35 = .ok (.bipush 60, 2) := dk_16 60 (dk_at dksX6_image_1 11 rfl rfl)
theorem dX6_image_37 : decode cX6_image 37 = .ok (.iaload, 1) := dk_46 (dk_at dksX6_image_1 13 rfl rfl)
theorem dX6_image_38 : decode cX6_image 38 = .ok (.ireturn, 1) := dk_172 (dk_at dksX6_image_1 14 rfl rfl)
abbrev cX6_undo : ByteArray := prog_23_method_7_code
def yX6_undo : MethodName := ⟨RX6, "undo", "()I"⟩
def dkwX6_undo_1 : List UInt8 := [180, 0, 22, 27, 46, 79, 132, 1, 1, 167, 255, 235, 42, 180, 0, 15, 16, 60, 46, 172]
abbrev dktX6_undo_1 : List UInt8 := dkwX6_undo_1 ++ []
def dkwX6_undo_0 : List UInt8 := [42, 180, 0, 81, 154, 0, 6, 16, 253, 172, 3, 60, 27, 16, 109, 162, 0, 21, 42, 180, 0, 15, 27, 42]
abbrev dktX6_undo_0 : List UInt8 := dkwX6_undo_0 ++ dktX6_undo_1
theorem dksX6_undo_0 : cX6_undo.data.toList.drop 0 = dktX6_undo_0 := by decide +kernel
theorem dksX6_undo_1 : cX6_undo.data.toList.drop 24 = dktX6_undo_1 := dk_seg dksX6_undo_0 24 rfl rfl
theorem dX6_undo_0 : decode cX6_undo 0 = .ok (.aload_n 0, 1) := dk_42 (dk_at dksX6_undo_0 0 rfl rfl)
theorem dX6_undo_1 : decode cX6_undo 1 = .ok (.getfield 81, 3) := dk_180 0 81 (dk_at dksX6_undo_0 1 rfl rfl)
theorem dX6_undo_4 : decode cX6_undo 4 = .ok (.ifCond .ne 6, 3) := dk_154 0 6 (dk_at dksX6_undo_0 4 rfl rfl)
theorem dX6_undo_7 : decode cX6_undo 7 = .ok (.bipush (-3), 2) := dk_16 253 (dk_at dksX6_undo_0 7 rfl rfl)
theorem dX6_undo_9 : decode cX6_undo 9 = .ok (.ireturn, 1) := dk_172 (dk_at dksX6_undo_0 9 rfl rfl)
theorem dX6_undo_10 : decode cX6_undo 10 = .ok (.iconst 0, 1) := dk_3 (dk_at dksX6_undo_0 10 rfl rfl)
theorem dX6_undo_11 : decode cX6_undo 11 = .ok (.istore_n 1, 1) := dk_60 (dk_at dksX6_undo_0 11 rfl rfl)
theorem dX6_undo_12 : decode cX6_undo 12 = .ok (.iload_n 1, 1) := dk_27 (dk_at dksX6_undo_0 12 rfl rfl)
theorem dX6_undo_13 : decode cX6_undo 13 = .ok (.bipush 109, 2) := dk_16 109 (dk_at dksX6_undo_0 13 rfl rfl)
theorem dX6_undo_15 : decode cX6_undo 15 = .ok (.if_icmp .ge 21, 3) := dk_162 0 21 (dk_at dksX6_undo_0 15 rfl rfl)
theorem dX6_undo_18 : decode cX6_undo 18 = .ok (.aload_n 0, 1) := dk_42 (dk_at dksX6_undo_0 18 rfl rfl)
theorem dX6_undo_19 : decode cX6_undo 19 = .ok (.getfield 15, 3) := dk_180 0 15 (dk_at dksX6_undo_0 19 rfl rfl)
theorem dX6_undo_22 : decode cX6_undo 22 = .ok (.iload_n 1, 1) := dk_27 (dk_at dksX6_undo_0 22 rfl rfl)
theorem dX6_undo_23 : decode cX6_undo 23 = .ok (.aload_n 0, 1) := dk_42 (dk_at dksX6_undo_0 23 rfl rfl)
theorem dX6_undo_24 : decode cX6_undo 24 = .ok (.getfield 22, 3) := dk_180 0 22 (dk_at dksX6_undo_1 0 rfl rfl)
theorem dX6_undo_27 : decode cX6_undo 27 = .ok (.iload_n 1, 1) := dk_27 (dk_at dksX6_undo_1 3 rfl rfl)
theorem dX6_undo_28 : decode cX6_undo 28 = .ok (.iaload, 1) := dk_46 (dk_at dksX6_undo_1 4 rfl rfl)
theorem dX6_undo_29 : decode cX6_undo 29 = .ok (.iastore, 1) := dk_79 (dk_at dksX6_undo_1 5 rfl rfl)
theorem dX6_undo_30 : decode cX6_undo 30 = .ok (.iinc 1 1, 3) := dk_132 1 1 (dk_at dksX6_undo_1 6 rfl rfl)
theorem dX6_undo_33 : decode cX6_undo 33 = .ok (.goto (-21), 3) := dk_167 255 235 (dk_at dksX6_undo_1 9 rfl rfl)
theorem dX6_undo_36 : decode cX6_undo 36 = .ok (.aload_n 0, 1) := dk_42 (dk_at dksX6_undo_1 12 rfl rfl)
theorem dX6_undo_37 : decode cX6_undo 37 = .ok (.getfield 15, 3) := dk_180 0 15 (dk_at dksX6_undo_1 13 rfl rfl)
theorem dX6_undo_40 : decode cX6_undo 40 = .ok (.bipush 60, 2) := dk_16 60 (dk_at dksX6_undo_1 16 rfl rfl)
theorem dX6_undo_42 : decode cX6_undo 42 = .ok (.iaload, 1) := dk_46 (dk_at dksX6_undo_1 18 rfl rfl)
theorem dX6_undo_43 : decode cX6_undo 43 = .ok (.ireturn, 1) := dk_172 (dk_at dksX6_undo_1 19 rfl rfl)
abbrev cX6_mourner : ByteArray := prog_23_method_13_code
def yX6_mourner : MethodName := ⟨RX6, "mourner", "(IIII)I"⟩
def dkwX6_mourner_5 : List UInt8 := [21, 5, 6, 21, 4, 182, 0, 97, 87, 42, 180, 0, 15, 16, 60, 92, 46, 4, 96, 79, 21, 5, 172]
abbrev dktX6_mourner_5 : List UInt8 := dkwX6_mourner_5 ++ []
def dkwX6_mourner_4 : List UInt8 := [182, 0, 97, 87, 42, 21, 5, 4, 28, 182, 0, 97, 87, 42, 21, 5, 5, 29, 182, 0, 97, 87, 42]
abbrev dktX6_mourner_4 : List UInt8 := dkwX6_mourner_4 ++ dktX6_mourner_5
def dkwX6_mourner_3 : List UInt8 := [162, 0, 19, 42, 21, 5, 21, 6, 3, 182, 0, 97, 87, 132, 6, 1, 167, 255, 236, 42, 21, 5, 3, 27]
abbrev dktX6_mourner_3 : List UInt8 := dkwX6_mourner_3 ++ dktX6_mourner_4
def dkwX6_mourner_2 : List UInt8 := [16, 60, 46, 54, 5, 21, 5, 16, 6, 160, 0, 6, 16, 252, 172, 3, 54, 6, 21, 6, 16, 10]
abbrev dktX6_mourner_2 : List UInt8 := dkwX6_mourner_2 ++ dktX6_mourner_3
def dkwX6_mourner_1 : List UInt8 := [184, 0, 85, 153, 0, 13, 29, 3, 16, 20, 184, 0, 85, 154, 0, 6, 16, 254, 172, 42, 180, 0, 15]
abbrev dktX6_mourner_1 : List UInt8 := dkwX6_mourner_1 ++ dktX6_mourner_2
def dkwX6_mourner_0 : List UInt8 := [27, 3, 16, 6, 184, 0, 85, 153, 0, 11, 21, 4, 184, 0, 93, 154, 0, 5, 2, 172, 28, 3, 16, 9]
abbrev dktX6_mourner_0 : List UInt8 := dkwX6_mourner_0 ++ dktX6_mourner_1
theorem dksX6_mourner_0 : cX6_mourner.data.toList.drop 0 = dktX6_mourner_0 := by decide +kernel
theorem dksX6_mourner_1 : cX6_mourner.data.toList.drop 24 = dktX6_mourner_1 := dk_seg dksX6_mourner_0 24 rfl rfl
theorem dksX6_mourner_2 : cX6_mourner.data.toList.drop 47 = dktX6_mourner_2 := dk_seg dksX6_mourner_1 23 rfl rfl
theorem dksX6_mourner_3 : cX6_mourner.data.toList.drop 69 = dktX6_mourner_3 := dk_seg dksX6_mourner_2 22 rfl rfl
theorem dksX6_mourner_4 : cX6_mourner.data.toList.drop 93 = dktX6_mourner_4 := dk_seg dksX6_mourner_3 24 rfl rfl
theorem dksX6_mourner_5 : cX6_mourner.data.toList.drop 116 = dktX6_mourner_5 := dk_seg dksX6_mourner_4 23 rfl rfl
theorem dX6_mourner_0 : decode cX6_mourner 0 = .ok (.iload_n 1, 1) := dk_27 (dk_at dksX6_mourner_0 0 rfl rfl)
theorem dX6_mourner_1 : decode cX6_mourner 1 = .ok (.iconst 0, 1) := dk_3 (dk_at dksX6_mourner_0 1 rfl rfl)
theorem dX6_mourner_2 : decode cX6_mourner 2 = .ok (.bipush 6, 2) := dk_16 6 (dk_at dksX6_mourner_0 2 rfl rfl)
theorem dX6_mourner_4 : decode cX6_mourner 4 = .ok (.invokestatic 85, 3) := dk_184 0 85 (dk_at dksX6_mourner_0 4 rfl rfl)
theorem dX6_mourner_7 : decode cX6_mourner 7 = .ok (.ifCond .eq 11, 3) := dk_153 0 11 (dk_at dksX6_mourner_0 7 rfl rfl)
theorem dX6_mourner_10 : decode cX6_mourner 10 = .ok (.iload 4, 2) := dk_21 4 (dk_at dksX6_mourner_0 10 rfl rfl)
theorem dX6_mourner_12 : decode cX6_mourner 12 = .ok (.invokestatic 93, 3) := dk_184 0 93 (dk_at dksX6_mourner_0 12 rfl rfl)
theorem dX6_mourner_15 : decode cX6_mourner 15 = .ok (.ifCond .ne 5, 3) := dk_154 0 5 (dk_at dksX6_mourner_0 15 rfl rfl)
theorem dX6_mourner_18 : decode cX6_mourner 18 = .ok (.iconst (-1), 1) := dk_2 (dk_at dksX6_mourner_0 18 rfl rfl)
theorem dX6_mourner_19 : decode cX6_mourner 19 = .ok (.ireturn, 1) := dk_172 (dk_at dksX6_mourner_0 19 rfl rfl)
theorem dX6_mourner_20 : decode cX6_mourner 20 = .ok (.iload_n 2, 1) := dk_28 (dk_at dksX6_mourner_0 20 rfl rfl)
theorem dX6_mourner_21 : decode cX6_mourner 21 = .ok (.iconst 0, 1) := dk_3 (dk_at dksX6_mourner_0 21 rfl rfl)
theorem dX6_mourner_22 : decode cX6_mourner 22 = .ok (.bipush 9, 2) := dk_16 9 (dk_at dksX6_mourner_0 22 rfl rfl)
theorem dX6_mourner_24 : decode cX6_mourner 24 = .ok (.invokestatic 85, 3) := dk_184 0 85 (dk_at dksX6_mourner_1 0 rfl rfl)
theorem dX6_mourner_27 : decode cX6_mourner 27 = .ok (.ifCond .eq 13, 3) := dk_153 0 13 (dk_at dksX6_mourner_1 3 rfl rfl)
theorem dX6_mourner_30 : decode cX6_mourner 30 = .ok (.iload_n 3, 1) := dk_29 (dk_at dksX6_mourner_1 6 rfl rfl)
theorem dX6_mourner_31 : decode cX6_mourner 31 = .ok (.iconst 0, 1) := dk_3 (dk_at dksX6_mourner_1 7 rfl rfl)
theorem dX6_mourner_32 : decode cX6_mourner 32 = .ok (.bipush 20, 2) := dk_16 20 (dk_at dksX6_mourner_1 8 rfl rfl)
theorem dX6_mourner_34 : decode cX6_mourner 34 = .ok (.invokestatic 85, 3) := dk_184 0 85 (dk_at dksX6_mourner_1 10 rfl rfl)
theorem dX6_mourner_37 : decode cX6_mourner 37 = .ok (.ifCond .ne 6, 3) := dk_154 0 6 (dk_at dksX6_mourner_1 13 rfl rfl)
theorem dX6_mourner_40 : decode cX6_mourner 40 = .ok (.bipush (-2), 2) := dk_16 254 (dk_at dksX6_mourner_1 16 rfl rfl)
theorem dX6_mourner_42 : decode cX6_mourner 42 = .ok (.ireturn, 1) := dk_172 (dk_at dksX6_mourner_1 18 rfl rfl)
theorem dX6_mourner_43 : decode cX6_mourner 43 = .ok (.aload_n 0, 1) := dk_42 (dk_at dksX6_mourner_1 19 rfl rfl)
theorem dX6_mourner_44 : decode cX6_mourner 44 = .ok (.getfield 15, 3) := dk_180 0 15 (dk_at dksX6_mourner_1 20 rfl rfl)
theorem dX6_mourner_47 : decode cX6_mourner 47 = .ok (.bipush 60, 2) := dk_16 60 (dk_at dksX6_mourner_2 0 rfl rfl)
theorem dX6_mourner_49 : decode cX6_mourner 49 = .ok (.iaload, 1) := dk_46 (dk_at dksX6_mourner_2 2 rfl rfl)
theorem dX6_mourner_50 : decode cX6_mourner 50 = .ok (.istore 5, 2) := dk_54 5 (dk_at dksX6_mourner_2 3 rfl rfl)
theorem dX6_mourner_52 : decode cX6_mourner 52 = .ok (.iload 5, 2) := dk_21 5 (dk_at dksX6_mourner_2 5 rfl rfl)
theorem dX6_mourner_54 : decode cX6_mourner 54 = .ok (.bipush 6, 2) := dk_16 6 (dk_at dksX6_mourner_2 7 rfl rfl)
theorem dX6_mourner_56 : decode cX6_mourner 56 = .ok (.if_icmp .ne 6, 3) := dk_160 0 6 (dk_at dksX6_mourner_2 9 rfl rfl)
theorem dX6_mourner_59 : decode cX6_mourner 59 = .ok (.bipush (-4), 2) := dk_16 252 (dk_at dksX6_mourner_2 12 rfl rfl)
theorem dX6_mourner_61 : decode cX6_mourner 61 = .ok (.ireturn, 1) := dk_172 (dk_at dksX6_mourner_2 14 rfl rfl)
theorem dX6_mourner_62 : decode cX6_mourner 62 = .ok (.iconst 0, 1) := dk_3 (dk_at dksX6_mourner_2 15 rfl rfl)
theorem dX6_mourner_63 : decode cX6_mourner 63 = .ok (.istore 6, 2) := dk_54 6 (dk_at dksX6_mourner_2 16 rfl rfl)
theorem dX6_mourner_65 : decode cX6_mourner 65 = .ok (.iload 6, 2) := dk_21 6 (dk_at dksX6_mourner_2 18 rfl rfl)
theorem dX6_mourner_67 : decode cX6_mourner 67 = .ok (.bipush 10, 2) := dk_16 10 (dk_at dksX6_mourner_2 20 rfl rfl)
theorem dX6_mourner_69 : decode cX6_mourner 69 = .ok (.if_icmp .ge 19, 3) := dk_162 0 19 (dk_at dksX6_mourner_3 0 rfl rfl)
theorem dX6_mourner_72 : decode cX6_mourner 72 = .ok (.aload_n 0, 1) := dk_42 (dk_at dksX6_mourner_3 3 rfl rfl)
theorem dX6_mourner_73 : decode cX6_mourner 73 = .ok (.iload 5, 2) := dk_21 5 (dk_at dksX6_mourner_3 4 rfl rfl)
theorem dX6_mourner_75 : decode cX6_mourner 75 = .ok (.iload 6, 2) := dk_21 6 (dk_at dksX6_mourner_3 6 rfl rfl)
theorem dX6_mourner_77 : decode cX6_mourner 77 = .ok (.iconst 0, 1) := dk_3 (dk_at dksX6_mourner_3 8 rfl rfl)
theorem dX6_mourner_78 : decode cX6_mourner 78 = .ok (.invokevirtual 97, 3) := dk_182 0 97 (dk_at dksX6_mourner_3 9 rfl rfl)
theorem dX6_mourner_81 : decode cX6_mourner 81 = .ok (.pop, 1) := dk_87 (dk_at dksX6_mourner_3 12 rfl rfl)
theorem dX6_mourner_82 : decode cX6_mourner 82 = .ok (.iinc 6 1, 3) := dk_132 6 1 (dk_at dksX6_mourner_3 13 rfl rfl)
theorem dX6_mourner_85 : decode cX6_mourner 85 = .ok (.goto (-20), 3) := dk_167 255 236 (dk_at dksX6_mourner_3 16 rfl rfl)
theorem dX6_mourner_88 : decode cX6_mourner 88 = .ok (.aload_n 0, 1) := dk_42 (dk_at dksX6_mourner_3 19 rfl rfl)
theorem dX6_mourner_89 : decode cX6_mourner 89 = .ok (.iload 5, 2) := dk_21 5 (dk_at dksX6_mourner_3 20 rfl rfl)
theorem dX6_mourner_91 : decode cX6_mourner 91 = .ok (.iconst 0, 1) := dk_3 (dk_at dksX6_mourner_3 22 rfl rfl)
theorem dX6_mourner_92 : decode cX6_mourner 92 = .ok (.iload_n 1, 1) := dk_27 (dk_at dksX6_mourner_3 23 rfl rfl)
theorem dX6_mourner_93 : decode cX6_mourner 93 = .ok (.invokevirtual 97, 3) := dk_182 0 97 (dk_at dksX6_mourner_4 0 rfl rfl)
theorem dX6_mourner_96 : decode cX6_mourner 96 = .ok (.pop, 1) := dk_87 (dk_at dksX6_mourner_4 3 rfl rfl)
theorem dX6_mourner_97 : decode cX6_mourner 97 = .ok (.aload_n 0, 1) := dk_42 (dk_at dksX6_mourner_4 4 rfl rfl)
theorem dX6_mourner_98 : decode cX6_mourner 98 = .ok (.iload 5, 2) := dk_21 5 (dk_at dksX6_mourner_4 5 rfl rfl)
theorem dX6_mourner_100 : decode cX6_mourner 100 = .ok (.iconst 1, 1) := dk_4 (dk_at dksX6_mourner_4 7 rfl rfl)
theorem dX6_mourner_101 : decode cX6_mourner 101 = .ok (.iload_n 2, 1) := dk_28 (dk_at dksX6_mourner_4 8 rfl rfl)
theorem dX6_mourner_102 : decode cX6_mourner 102 = .ok (.invokevirtual 97, 3) := dk_182 0 97 (dk_at dksX6_mourner_4 9 rfl rfl)
theorem dX6_mourner_105 : decode cX6_mourner 105 = .ok (.pop, 1) := dk_87 (dk_at dksX6_mourner_4 12 rfl rfl)
theorem dX6_mourner_106 : decode cX6_mourner 106 = .ok (.aload_n 0, 1) := dk_42 (dk_at dksX6_mourner_4 13 rfl rfl)
theorem dX6_mourner_107 : decode cX6_mourner 107 = .ok (.iload 5, 2) := dk_21 5 (dk_at dksX6_mourner_4 14 rfl rfl)
theorem dX6_mourner_109 : decode cX6_mourner 109 = .ok (.iconst 2, 1) := dk_5 (dk_at dksX6_mourner_4 16 rfl rfl)
theorem dX6_mourner_110 : decode cX6_mourner 110 = .ok (.iload_n 3, 1) := dk_29 (dk_at dksX6_mourner_4 17 rfl rfl)
theorem dX6_mourner_111 : decode cX6_mourner 111 = .ok (.invokevirtual 97, 3) := dk_182 0 97 (dk_at dksX6_mourner_4 18 rfl rfl)
theorem dX6_mourner_114 : decode cX6_mourner 114 = .ok (.pop, 1) := dk_87 (dk_at dksX6_mourner_4 21 rfl rfl)
theorem dX6_mourner_115 : decode cX6_mourner 115 = .ok (.aload_n 0, 1) := dk_42 (dk_at dksX6_mourner_4 22 rfl rfl)
theorem dX6_mourner_116 : decode cX6_mourner 116 = .ok (.iload 5, 2) := dk_21 5 (dk_at dksX6_mourner_5 0 rfl rfl)
theorem dX6_mourner_118 : decode cX6_mourner 118 = .ok (.iconst 3, 1) := dk_6 (dk_at dksX6_mourner_5 2 rfl rfl)
theorem dX6_mourner_119 : decode cX6_mourner 119 = .ok (.iload 4, 2) := dk_21 4 (dk_at dksX6_mourner_5 3 rfl rfl)
theorem dX6_mourner_121 : decode cX6_mourner 121 = .ok (.invokevirtual 97, 3) := dk_182 0 97 (dk_at dksX6_mourner_5 5 rfl rfl)
theorem dX6_mourner_124 : decode cX6_mourner 124 = .ok (.pop, 1) := dk_87 (dk_at dksX6_mourner_5 8 rfl rfl)
theorem dX6_mourner_125 : decode cX6_mourner 125 = .ok (.aload_n 0, 1) := dk_42 (dk_at dksX6_mourner_5 9 rfl rfl)
theorem dX6_mourner_126 : decode cX6_mourner 126 = .ok (.getfield 15, 3) := dk_180 0 15 (dk_at dksX6_mourner_5 10 rfl rfl)
theorem dX6_mourner_129 : decode cX6_mourner 129 = .ok (.bipush 60, 2) := dk_16 60 (dk_at dksX6_mourner_5 13 rfl rfl)
theorem dX6_mourner_131 : decode cX6_mourner 131 = .ok (.dup2, 1) := dk_92 (dk_at dksX6_mourner_5 15 rfl rfl)
theorem dX6_mourner_132 : decode cX6_mourner 132 = .ok (.iaload, 1) := dk_46 (dk_at dksX6_mourner_5 16 rfl rfl)
theorem dX6_mourner_133 : decode cX6_mourner 133 = .ok (.iconst 1, 1) := dk_4 (dk_at dksX6_mourner_5 17 rfl rfl)
theorem dX6_mourner_134 : decode cX6_mourner 134 = .ok (.iadd, 1) := dk_96 (dk_at dksX6_mourner_5 18 rfl rfl)
theorem dX6_mourner_135 : decode cX6_mourner 135 = .ok (.iastore, 1) := dk_79 (dk_at dksX6_mourner_5 19 rfl rfl)
theorem dX6_mourner_136 : decode cX6_mourner 136 = .ok (.iload 5, 2) := dk_21 5 (dk_at dksX6_mourner_5 20 rfl rfl)
theorem dX6_mourner_138 : decode cX6_mourner 138 = .ok (.ireturn, 1) := dk_172 (dk_at dksX6_mourner_5 22 rfl rfl)
abbrev cX6_isIn : ByteArray := prog_23_method_2_code
def yX6_isIn : MethodName := ⟨RX6, "isIn", "(III)Z"⟩
def dkwX6_isIn_0 : List UInt8 := [26, 27, 161, 0, 12, 26, 28, 163, 0, 7, 4, 167, 0, 4, 3, 172]
abbrev dktX6_isIn_0 : List UInt8 := dkwX6_isIn_0 ++ []
theorem dksX6_isIn_0 : cX6_isIn.data.toList.drop 0 = dktX6_isIn_0 := by decide +kernel
theorem dX6_isIn_0 : decode cX6_isIn 0 = .ok (.iload_n 0, 1) := dk_26 (dk_at dksX6_isIn_0 0 rfl rfl)
theorem dX6_isIn_1 : decode cX6_isIn 1 = .ok (.iload_n 1, 1) := dk_27 (dk_at dksX6_isIn_0 1 rfl rfl)
theorem dX6_isIn_2 : decode cX6_isIn 2 = .ok (.if_icmp .lt 12, 3) := dk_161 0 12 (dk_at dksX6_isIn_0 2 rfl rfl)
theorem dX6_isIn_5 : decode cX6_isIn 5 = .ok (.iload_n 0, 1) := dk_26 (dk_at dksX6_isIn_0 5 rfl rfl)
theorem dX6_isIn_6 : decode cX6_isIn 6 = .ok (.iload_n 2, 1) := dk_28 (dk_at dksX6_isIn_0 6 rfl rfl)
theorem dX6_isIn_7 : decode cX6_isIn 7 = .ok (.if_icmp .gt 7, 3) := dk_163 0 7 (dk_at dksX6_isIn_0 7 rfl rfl)
theorem dX6_isIn_10 : decode cX6_isIn 10 = .ok (.iconst 1, 1) := dk_4 (dk_at dksX6_isIn_0 10 rfl rfl)
theorem dX6_isIn_11 : decode cX6_isIn 11 = .ok (.goto 4, 3) := dk_167 0 4 (dk_at dksX6_isIn_0 11 rfl rfl)
theorem dX6_isIn_14 : decode cX6_isIn 14 = .ok (.iconst 0, 1) := dk_3 (dk_at dksX6_isIn_0 14 rfl rfl)
theorem dX6_isIn_15 : decode cX6_isIn 15 = .ok (.ireturn, 1) := dk_172 (dk_at dksX6_isIn_0 15 rfl rfl)
abbrev cX6_isYard : ByteArray := prog_23_method_9_code
def yX6_isYard : MethodName := ⟨RX6, "isYard", "(I)Z"⟩
def dkwX6_isYard_0 : List UInt8 := [26, 3, 16, 9, 184, 0, 85, 172]
abbrev dktX6_isYard_0 : List UInt8 := dkwX6_isYard_0 ++ []
theorem dksX6_isYard_0 : cX6_isYard.data.toList.drop 0 = dktX6_isYard_0 := by decide +kernel
theorem dX6_isYard_0 : decode cX6_isYard 0 = .ok (.iload_n 0, 1) := dk_26 (dk_at dksX6_isYard_0 0 rfl rfl)
theorem dX6_isYard_1 : decode cX6_isYard 1 = .ok (.iconst 0, 1) := dk_3 (dk_at dksX6_isYard_0 1 rfl rfl)
theorem dX6_isYard_2 : decode cX6_isYard 2 = .ok (.bipush 9, 2) := dk_16 9 (dk_at dksX6_isYard_0 2 rfl rfl)
theorem dX6_isYard_4 : decode cX6_isYard 4 = .ok (.invokestatic 85, 3) := dk_184 0 85 (dk_at dksX6_isYard_0 4 rfl rfl)
theorem dX6_isYard_7 : decode cX6_isYard 7 = .ok (.ireturn, 1) := dk_172 (dk_at dksX6_isYard_0 7 rfl rfl)
abbrev cX6_change : ByteArray := prog_23_method_11_code
def yX6_change : MethodName := ⟨RX6, "change", "(III)I"⟩
def dkwX6_change_0 : List UInt8 := [42, 27, 28, 182, 0, 89, 54, 4, 42, 180, 0, 15, 16, 10, 27, 104, 28, 96, 29, 79, 21, 4, 172]
abbrev dktX6_change_0 : List UInt8 := dkwX6_change_0 ++ []
theorem dksX6_change_0 : cX6_change.data.toList.drop 0 = dktX6_change_0 := by decide +kernel
theorem dX6_change_0 : decode cX6_change 0 = .ok (.aload_n 0, 1) := dk_42 (dk_at dksX6_change_0 0 rfl rfl)
theorem dX6_change_1 : decode cX6_change 1 = .ok (.iload_n 1, 1) := dk_27 (dk_at dksX6_change_0 1 rfl rfl)
theorem dX6_change_2 : decode cX6_change 2 = .ok (.iload_n 2, 1) := dk_28 (dk_at dksX6_change_0 2 rfl rfl)
theorem dX6_change_3 : decode cX6_change 3 = .ok (.invokevirtual 89, 3) := dk_182 0 89 (dk_at dksX6_change_0 3 rfl rfl)
theorem dX6_change_6 : decode cX6_change 6 = .ok (.istore 4, 2) := dk_54 4 (dk_at dksX6_change_0 6 rfl rfl)
theorem dX6_change_8 : decode cX6_change 8 = .ok (.aload_n 0, 1) := dk_42 (dk_at dksX6_change_0 8 rfl rfl)
theorem dX6_change_9 : decode cX6_change 9 = .ok (.getfield 15, 3) := dk_180 0 15 (dk_at dksX6_change_0 9 rfl rfl)
theorem dX6_change_12 : decode cX6_change 12 = .ok (.bipush 10, 2) := dk_16 10 (dk_at dksX6_change_0 12 rfl rfl)
theorem dX6_change_14 : decode cX6_change 14 = .ok (.iload_n 1, 1) := dk_27 (dk_at dksX6_change_0 14 rfl rfl)
theorem dX6_change_15 : decode cX6_change 15 = .ok (.imul, 1) := dk_104 (dk_at dksX6_change_0 15 rfl rfl)
theorem dX6_change_16 : decode cX6_change 16 = .ok (.iload_n 2, 1) := dk_28 (dk_at dksX6_change_0 16 rfl rfl)
theorem dX6_change_17 : decode cX6_change 17 = .ok (.iadd, 1) := dk_96 (dk_at dksX6_change_0 17 rfl rfl)
theorem dX6_change_18 : decode cX6_change 18 = .ok (.iload_n 3, 1) := dk_29 (dk_at dksX6_change_0 18 rfl rfl)
theorem dX6_change_19 : decode cX6_change 19 = .ok (.iastore, 1) := dk_79 (dk_at dksX6_change_0 19 rfl rfl)
theorem dX6_change_20 : decode cX6_change 20 = .ok (.iload 4, 2) := dk_21 4 (dk_at dksX6_change_0 20 rfl rfl)
theorem dX6_change_22 : decode cX6_change 22 = .ok (.ireturn, 1) := dk_172 (dk_at dksX6_change_0 22 rfl rfl)
abbrev cX6_one : ByteArray := prog_23_method_10_code
def yX6_one : MethodName := ⟨RX6, "one", "(II)I"⟩
def dkwX6_one_0 : List UInt8 := [42, 180, 0, 15, 16, 10, 27, 104, 28, 96, 46, 172]
abbrev dktX6_one_0 : List UInt8 := dkwX6_one_0 ++ []
theorem dksX6_one_0 : cX6_one.data.toList.drop 0 = dktX6_one_0 := by decide +kernel
theorem dX6_one_0 : decode cX6_one 0 = .ok (.aload_n 0, 1) := dk_42 (dk_at dksX6_one_0 0 rfl rfl)
theorem dX6_one_1 : decode cX6_one 1 = .ok (.getfield 15, 3) := dk_180 0 15 (dk_at dksX6_one_0 1 rfl rfl)
theorem dX6_one_4 : decode cX6_one 4 = .ok (.bipush 10, 2) := dk_16 10 (dk_at dksX6_one_0 4 rfl rfl)
theorem dX6_one_6 : decode cX6_one 6 = .ok (.iload_n 1, 1) := dk_27 (dk_at dksX6_one_0 6 rfl rfl)
theorem dX6_one_7 : decode cX6_one 7 = .ok (.imul, 1) := dk_104 (dk_at dksX6_one_0 7 rfl rfl)
theorem dX6_one_8 : decode cX6_one 8 = .ok (.iload_n 2, 1) := dk_28 (dk_at dksX6_one_0 8 rfl rfl)
theorem dX6_one_9 : decode cX6_one 9 = .ok (.iadd, 1) := dk_96 (dk_at dksX6_one_0 9 rfl rfl)
theorem dX6_one_10 : decode cX6_one 10 = .ok (.iaload, 1) := dk_46 (dk_at dksX6_one_0 10 rfl rfl)
theorem dX6_one_11 : decode cX6_one 11 = .ok (.ireturn, 1) := dk_172 (dk_at dksX6_one_0 11 rfl rfl)
abbrev cX6_of : ByteArray := prog_23_method_14_code
def yX6_of : MethodName := ⟨RX6, "of", "(II)I"⟩
def dkwX6_of_4 : List UInt8 := [100, 182, 0, 114, 167, 0, 6, 17, 216, 239, 172]
abbrev dktX6_of_4 : List UInt8 := dkwX6_of_4 ++ []
def dkwX6_of_3 : List UInt8 := [16, 10, 100, 182, 0, 111, 167, 0, 28, 28, 16, 20, 100, 184, 0, 93, 153, 0, 15, 42, 27, 28, 16, 20]
abbrev dktX6_of_3 : List UInt8 := dkwX6_of_3 ++ dktX6_of_4
def dkwX6_of_2 : List UInt8 := [160, 0, 11, 42, 27, 182, 0, 107, 167, 0, 50, 28, 16, 10, 100, 184, 0, 93, 153, 0, 15, 42, 27, 28]
abbrev dktX6_of_2 : List UInt8 := dkwX6_of_2 ++ dktX6_of_3
def dkwX6_of_1 : List UInt8 := [182, 0, 89, 172, 28, 16, 6, 160, 0, 14, 42, 182, 0, 104, 42, 180, 0, 53, 27, 46, 172, 28, 16, 7]
abbrev dktX6_of_1 : List UInt8 := dkwX6_of_1 ++ dktX6_of_2
def dkwX6_of_0 : List UInt8 := [42, 27, 182, 0, 101, 154, 0, 7, 17, 216, 239, 172, 28, 3, 8, 184, 0, 85, 153, 0, 10, 42, 27, 28]
abbrev dktX6_of_0 : List UInt8 := dkwX6_of_0 ++ dktX6_of_1
theorem dksX6_of_0 : cX6_of.data.toList.drop 0 = dktX6_of_0 := by decide +kernel
theorem dksX6_of_1 : cX6_of.data.toList.drop 24 = dktX6_of_1 := dk_seg dksX6_of_0 24 rfl rfl
theorem dksX6_of_2 : cX6_of.data.toList.drop 48 = dktX6_of_2 := dk_seg dksX6_of_1 24 rfl rfl
theorem dksX6_of_3 : cX6_of.data.toList.drop 72 = dktX6_of_3 := dk_seg dksX6_of_2 24 rfl rfl
theorem dksX6_of_4 : cX6_of.data.toList.drop 96 = dktX6_of_4 := dk_seg dksX6_of_3 24 rfl rfl
theorem dX6_of_0 : decode cX6_of 0 = .ok (.aload_n 0, 1) := dk_42 (dk_at dksX6_of_0 0 rfl rfl)
theorem dX6_of_1 : decode cX6_of 1 = .ok (.iload_n 1, 1) := dk_27 (dk_at dksX6_of_0 1 rfl rfl)
theorem dX6_of_2 : decode cX6_of 2 = .ok (.invokevirtual 101, 3) := dk_182 0 101 (dk_at dksX6_of_0 2 rfl rfl)
theorem dX6_of_5 : decode cX6_of 5 = .ok (.ifCond .ne 7, 3) := dk_154 0 7 (dk_at dksX6_of_0 5 rfl rfl)
theorem dX6_of_8 : decode cX6_of 8 = .ok (.sipush (-10001), 3) := dk_17 216 239 (dk_at dksX6_of_0 8 rfl rfl)
theorem dX6_of_11 : decode cX6_of 11 = .ok (.ireturn, 1) := dk_172 (dk_at dksX6_of_0 11 rfl rfl)
theorem dX6_of_12 : decode cX6_of 12 = .ok (.iload_n 2, 1) := dk_28 (dk_at dksX6_of_0 12 rfl rfl)
theorem dX6_of_13 : decode cX6_of 13 = .ok (.iconst 0, 1) := dk_3 (dk_at dksX6_of_0 13 rfl rfl)
theorem dX6_of_14 : decode cX6_of 14 = .ok (.iconst 5, 1) := dk_8 (dk_at dksX6_of_0 14 rfl rfl)
theorem dX6_of_15 : decode cX6_of 15 = .ok (.invokestatic 85, 3) := dk_184 0 85 (dk_at dksX6_of_0 15 rfl rfl)
theorem dX6_of_18 : decode cX6_of 18 = .ok (.ifCond .eq 10, 3) := dk_153 0 10 (dk_at dksX6_of_0 18 rfl rfl)
theorem dX6_of_21 : decode cX6_of 21 = .ok (.aload_n 0, 1) := dk_42 (dk_at dksX6_of_0 21 rfl rfl)
theorem dX6_of_22 : decode cX6_of 22 = .ok (.iload_n 1, 1) := dk_27 (dk_at dksX6_of_0 22 rfl rfl)
theorem dX6_of_23 : decode cX6_of 23 = .ok (.iload_n 2, 1) := dk_28 (dk_at dksX6_of_0 23 rfl rfl)
theorem dX6_of_24 : decode cX6_of 24 = .ok (.invokevirtual 89, 3) := dk_182 0 89 (dk_at dksX6_of_1 0 rfl rfl)
theorem dX6_of_27 : decode cX6_of 27 = .ok (.ireturn, 1) := dk_172 (dk_at dksX6_of_1 3 rfl rfl)
theorem dX6_of_28 : decode cX6_of 28 = .ok (.iload_n 2, 1) := dk_28 (dk_at dksX6_of_1 4 rfl rfl)
theorem dX6_of_29 : decode cX6_of 29 = .ok (.bipush 6, 2) := dk_16 6 (dk_at dksX6_of_1 5 rfl rfl)
theorem dX6_of_31 : decode cX6_of 31 = .ok (.if_icmp .ne 14, 3) := dk_160 0 14 (dk_at dksX6_of_1 7 rfl rfl)
theorem dX6_of_34 : decode cX6_of 34 = .ok (.aload_n 0, 1) := dk_42 (dk_at dksX6_of_1 10 rfl rfl)
theorem dX6_of_35 : decode cX6_of 35 = .ok (.invokevirtual 104, 3) := dk_182 0 104 (dk_at dksX6_of_1 11 rfl rfl)
theorem dX6_of_38 : decode cX6_of 38 = .ok (.aload_n 0, 1) := dk_42 (dk_at dksX6_of_1 14 rfl rfl)
theorem dX6_of_39 : decode cX6_of 39 = .ok (.getfield 53, 3) := dk_180 0 53 (dk_at dksX6_of_1 15 rfl rfl)
theorem dX6_of_42 : decode cX6_of 42 = .ok (.iload_n 1, 1) := dk_27 (dk_at dksX6_of_1 18 rfl rfl)
theorem dX6_of_43 : decode cX6_of 43 = .ok (.iaload, 1) := dk_46 (dk_at dksX6_of_1 19 rfl rfl)
theorem dX6_of_44 : decode cX6_of 44 = .ok (.ireturn, 1) := dk_172 (dk_at dksX6_of_1 20 rfl rfl)
theorem dX6_of_45 : decode cX6_of 45 = .ok (.iload_n 2, 1) := dk_28 (dk_at dksX6_of_1 21 rfl rfl)
theorem dX6_of_46 : decode cX6_of 46 = .ok (.bipush 7, 2) := dk_16 7 (dk_at dksX6_of_1 22 rfl rfl)
theorem dX6_of_48 : decode cX6_of 48 = .ok (.if_icmp .ne 11, 3) := dk_160 0 11 (dk_at dksX6_of_2 0 rfl rfl)
theorem dX6_of_51 : decode cX6_of 51 = .ok (.aload_n 0, 1) := dk_42 (dk_at dksX6_of_2 3 rfl rfl)
theorem dX6_of_52 : decode cX6_of 52 = .ok (.iload_n 1, 1) := dk_27 (dk_at dksX6_of_2 4 rfl rfl)
theorem dX6_of_53 : decode cX6_of 53 = .ok (.invokevirtual 107, 3) := dk_182 0 107 (dk_at dksX6_of_2 5 rfl rfl)
theorem dX6_of_56 : decode cX6_of 56 = .ok (.goto 50, 3) := dk_167 0 50 (dk_at dksX6_of_2 8 rfl rfl)
theorem dX6_of_59 : decode cX6_of 59 = .ok (.iload_n 2, 1) := dk_28 (dk_at dksX6_of_2 11 rfl rfl)
theorem dX6_of_60 : decode cX6_of 60 = .ok (.bipush 10, 2) := dk_16 10 (dk_at dksX6_of_2 12 rfl rfl)
theorem dX6_of_62 : decode cX6_of 62 = .ok (.isub, 1) := dk_100 (dk_at dksX6_of_2 14 rfl rfl)
theorem dX6_of_63 : decode cX6_of 63 = .ok (.invokestatic 93, 3) := dk_184 0 93 (dk_at dksX6_of_2 15 rfl rfl)
theorem dX6_of_66 : decode cX6_of 66 = .ok (.ifCond .eq 15, 3) := dk_153 0 15 (dk_at dksX6_of_2 18 rfl rfl)
theorem dX6_of_69 : decode cX6_of 69 = .ok (.aload_n 0, 1) := dk_42 (dk_at dksX6_of_2 21 rfl rfl)
theorem dX6_of_70 : decode cX6_of 70 = .ok (.iload_n 1, 1) := dk_27 (dk_at dksX6_of_2 22 rfl rfl)
theorem dX6_of_71 : decode cX6_of 71 = .ok (.iload_n 2, 1) := dk_28 (dk_at dksX6_of_2 23 rfl rfl)
theorem dX6_of_72 : decode cX6_of 72 = .ok (.bipush 10, 2) := dk_16 10 (dk_at dksX6_of_3 0 rfl rfl)
theorem dX6_of_74 : decode cX6_of 74 = .ok (.isub, 1) := dk_100 (dk_at dksX6_of_3 2 rfl rfl)
theorem dX6_of_75 : decode cX6_of 75 = .ok (.invokevirtual 111, 3) := dk_182 0 111 (dk_at dksX6_of_3 3 rfl rfl)
theorem dX6_of_78 : decode cX6_of 78 = .ok (.goto 28, 3) := dk_167 0 28 (dk_at dksX6_of_3 6 rfl rfl)
theorem dX6_of_81 : decode cX6_of 81 = .ok (.iload_n 2, 1) := dk_28 (dk_at dksX6_of_3 9 rfl rfl)
theorem dX6_of_82 : decode cX6_of 82 = .ok (.bipush 20, 2) := dk_16 20 (dk_at dksX6_of_3 10 rfl rfl)
theorem dX6_of_84 : decode cX6_of 84 = .ok (.isub, 1) := dk_100 (dk_at dksX6_of_3 12 rfl rfl)
theorem dX6_of_85 : decode cX6_of 85 = .ok (.invokestatic 93, 3) := dk_184 0 93 (dk_at dksX6_of_3 13 rfl rfl)
theorem dX6_of_88 : decode cX6_of 88 = .ok (.ifCond .eq 15, 3) := dk_153 0 15 (dk_at dksX6_of_3 16 rfl rfl)
theorem dX6_of_91 : decode cX6_of 91 = .ok (.aload_n 0, 1) := dk_42 (dk_at dksX6_of_3 19 rfl rfl)
theorem dX6_of_92 : decode cX6_of 92 = .ok (.iload_n 1, 1) := dk_27 (dk_at dksX6_of_3 20 rfl rfl)
theorem dX6_of_93 : decode cX6_of 93 = .ok (.iload_n 2, 1) := dk_28 (dk_at dksX6_of_3 21 rfl rfl)
theorem dX6_of_94 : decode cX6_of 94 = .ok (.bipush 20, 2) := dk_16 20 (dk_at dksX6_of_3 22 rfl rfl)
theorem dX6_of_96 : decode cX6_of 96 = .ok (.isub, 1) := dk_100 (dk_at dksX6_of_4 0 rfl rfl)
theorem dX6_of_97 : decode cX6_of 97 = .ok (.invokevirtual 114, 3) := dk_182 0 114 (dk_at dksX6_of_4 1 rfl rfl)
theorem dX6_of_100 : decode cX6_of 100 = .ok (.goto 6, 3) := dk_167 0 6 (dk_at dksX6_of_4 4 rfl rfl)
theorem dX6_of_103 : decode cX6_of 103 = .ok (.sipush (-10001), 3) := dk_17 216 239 (dk_at dksX6_of_4 7 rfl rfl)
theorem dX6_of_106 : decode cX6_of 106 = .ok (.ireturn, 1) := dk_172 (dk_at dksX6_of_4 10 rfl rfl)
abbrev cX6_isOne : ByteArray := prog_23_method_8_code
def yX6_isOne : MethodName := ⟨RX6, "isOne", "(I)Z"⟩
def dkwX6_isOne_0 : List UInt8 := [27, 3, 42, 180, 0, 15, 16, 60, 46, 4, 100, 184, 0, 85, 172]
abbrev dktX6_isOne_0 : List UInt8 := dkwX6_isOne_0 ++ []
theorem dksX6_isOne_0 : cX6_isOne.data.toList.drop 0 = dktX6_isOne_0 := by decide +kernel
theorem dX6_isOne_0 : decode cX6_isOne 0 = .ok (.iload_n 1, 1) := dk_27 (dk_at dksX6_isOne_0 0 rfl rfl)
theorem dX6_isOne_1 : decode cX6_isOne 1 = .ok (.iconst 0, 1) := dk_3 (dk_at dksX6_isOne_0 1 rfl rfl)
theorem dX6_isOne_2 : decode cX6_isOne 2 = .ok (.aload_n 0, 1) := dk_42 (dk_at dksX6_isOne_0 2 rfl rfl)
theorem dX6_isOne_3 : decode cX6_isOne 3 = .ok (.getfield 15, 3) := dk_180 0 15 (dk_at dksX6_isOne_0 3 rfl rfl)
theorem dX6_isOne_6 : decode cX6_isOne 6 = .ok (.bipush 60, 2) := dk_16 60 (dk_at dksX6_isOne_0 6 rfl rfl)
theorem dX6_isOne_8 : decode cX6_isOne 8 = .ok (.iaload, 1) := dk_46 (dk_at dksX6_isOne_0 8 rfl rfl)
theorem dX6_isOne_9 : decode cX6_isOne 9 = .ok (.iconst 1, 1) := dk_4 (dk_at dksX6_isOne_0 9 rfl rfl)
theorem dX6_isOne_10 : decode cX6_isOne 10 = .ok (.isub, 1) := dk_100 (dk_at dksX6_isOne_0 10 rfl rfl)
theorem dX6_isOne_11 : decode cX6_isOne 11 = .ok (.invokestatic 85, 3) := dk_184 0 85 (dk_at dksX6_isOne_0 11 rfl rfl)
theorem dX6_isOne_14 : decode cX6_isOne 14 = .ok (.ireturn, 1) := dk_172 (dk_at dksX6_isOne_0 14 rfl rfl)
abbrev cX6_share : ByteArray := prog_23_method_33_code
def yX6_share : MethodName := ⟨RX6, "share", "()V"⟩
def dkwX6_share_8 : List UInt8 := [46, 29, 96, 79, 177]
abbrev dktX6_share_8 : List UInt8 := dkwX6_share_8 ++ []
def dkwX6_share_7 : List UInt8 := [108, 79, 29, 42, 180, 0, 53, 21, 4, 46, 100, 62, 132, 4, 1, 167, 255, 190, 42, 180, 0, 53, 28, 92]
abbrev dktX6_share_7 : List UInt8 := dkwX6_share_7 ++ dktX6_share_8
def dkwX6_share_6 : List UInt8 := [21, 4, 182, 0, 179, 153, 0, 13, 42, 180, 0, 50, 21, 4, 46, 167, 0, 4, 3, 184, 0, 182, 104, 27]
abbrev dktX6_share_6 : List UInt8 := dkwX6_share_6 ++ dktX6_share_7
def dkwX6_share_5 : List UInt8 := [180, 0, 15, 16, 60, 46, 162, 0, 60, 42, 180, 0, 53, 21, 4, 42, 180, 0, 15, 16, 61, 46, 3, 42]
abbrev dktX6_share_5 : List UInt8 := dkwX6_share_5 ++ dktX6_share_6
def dkwX6_share_4 : List UInt8 := [132, 3, 1, 167, 255, 168, 27, 158, 0, 93, 42, 180, 0, 15, 16, 61, 46, 62, 3, 54, 4, 21, 4, 42]
abbrev dktX6_share_4 : List UInt8 := dkwX6_share_4 ++ dktX6_share_5
def dkwX6_share_3 : List UInt8 := [167, 0, 4, 28, 61, 42, 180, 0, 50, 29, 21, 4, 79, 27, 3, 21, 4, 184, 0, 182, 96, 60]
abbrev dktX6_share_3 : List UInt8 := dkwX6_share_3 ++ dktX6_share_4
def dkwX6_share_2 : List UInt8 := [182, 0, 111, 54, 4, 28, 2, 159, 0, 14, 21, 4, 42, 180, 0, 50, 28, 46, 164, 0, 7, 29]
abbrev dktX6_share_2 : List UInt8 := dkwX6_share_2 ++ dktX6_share_3
def dkwX6_share_1 : List UInt8 := [42, 180, 0, 50, 29, 3, 79, 42, 29, 182, 0, 179, 153, 0, 55, 42, 29, 42, 29, 6, 182, 0, 89]
abbrev dktX6_share_1 : List UInt8 := dkwX6_share_1 ++ dktX6_share_2
def dkwX6_share_0 : List UInt8 := [3, 60, 2, 61, 3, 62, 29, 42, 180, 0, 15, 16, 60, 46, 162, 0, 83, 42, 180, 0, 53, 29, 3, 79]
abbrev dktX6_share_0 : List UInt8 := dkwX6_share_0 ++ dktX6_share_1
theorem dksX6_share_0 : cX6_share.data.toList.drop 0 = dktX6_share_0 := by decide +kernel
theorem dksX6_share_1 : cX6_share.data.toList.drop 24 = dktX6_share_1 := dk_seg dksX6_share_0 24 rfl rfl
theorem dksX6_share_2 : cX6_share.data.toList.drop 47 = dktX6_share_2 := dk_seg dksX6_share_1 23 rfl rfl
theorem dksX6_share_3 : cX6_share.data.toList.drop 69 = dktX6_share_3 := dk_seg dksX6_share_2 22 rfl rfl
theorem dksX6_share_4 : cX6_share.data.toList.drop 91 = dktX6_share_4 := dk_seg dksX6_share_3 22 rfl rfl
theorem dksX6_share_5 : cX6_share.data.toList.drop 115 = dktX6_share_5 := dk_seg dksX6_share_4 24 rfl rfl
theorem dksX6_share_6 : cX6_share.data.toList.drop 139 = dktX6_share_6 := dk_seg dksX6_share_5 24 rfl rfl
theorem dksX6_share_7 : cX6_share.data.toList.drop 163 = dktX6_share_7 := dk_seg dksX6_share_6 24 rfl rfl
theorem dksX6_share_8 : cX6_share.data.toList.drop 187 = dktX6_share_8 := dk_seg dksX6_share_7 24 rfl rfl
theorem dX6_share_0 : decode cX6_share 0 = .ok (.iconst 0, 1) := dk_3 (dk_at dksX6_share_0 0 rfl rfl)
theorem dX6_share_1 : decode cX6_share 1 = .ok (.istore_n 1, 1) := dk_60 (dk_at dksX6_share_0 1 rfl rfl)
theorem dX6_share_2 : decode cX6_share 2 = .ok (.iconst (-1), 1) := dk_2 (dk_at dksX6_share_0 2 rfl rfl)
theorem dX6_share_3 : decode cX6_share 3 = .ok (.istore_n 2, 1) := dk_61 (dk_at dksX6_share_0 3 rfl rfl)
theorem dX6_share_4 : decode cX6_share 4 = .ok (.iconst 0, 1) := dk_3 (dk_at dksX6_share_0 4 rfl rfl)
theorem dX6_share_5 : decode cX6_share 5 = .ok (.istore_n 3, 1) := dk_62 (dk_at dksX6_share_0 5 rfl rfl)
theorem dX6_share_6 : decode cX6_share 6 = .ok (.iload_n 3, 1) := dk_29 (dk_at dksX6_share_0 6 rfl rfl)
theorem dX6_share_7 : decode cX6_share 7 = .ok (.aload_n 0, 1) := dk_42 (dk_at dksX6_share_0 7 rfl rfl)
theorem dX6_share_8 : decode cX6_share 8 = .ok (.getfield 15, 3) := dk_180 0 15 (dk_at dksX6_share_0 8 rfl rfl)
theorem dX6_share_11 : decode cX6_share 11 = .ok (.bipush 60, 2) := dk_16 60 (dk_at dksX6_share_0 11 rfl rfl)
theorem dX6_share_13 : decode cX6_share 13 = .ok (.iaload, 1) := dk_46 (dk_at dksX6_share_0 13 rfl rfl)
theorem dX6_share_14 : decode cX6_share 14 = .ok (.if_icmp .ge 83, 3) := dk_162 0 83 (dk_at dksX6_share_0 14 rfl rfl)
theorem dX6_share_17 : decode cX6_share 17 = .ok (.aload_n 0, 1) := dk_42 (dk_at dksX6_share_0 17 rfl rfl)
theorem dX6_share_18 : decode cX6_share 18 = .ok (.getfield 53, 3) := dk_180 0 53 (dk_at dksX6_share_0 18 rfl rfl)
theorem dX6_share_21 : decode cX6_share 21 = .ok (.iload_n 3, 1) := dk_29 (dk_at dksX6_share_0 21 rfl rfl)
theorem dX6_share_22 : decode cX6_share 22 = .ok (.iconst 0, 1) := dk_3 (dk_at dksX6_share_0 22 rfl rfl)
theorem dX6_share_23 : decode cX6_share 23 = .ok (.iastore, 1) := dk_79 (dk_at dksX6_share_0 23 rfl rfl)
theorem dX6_share_24 : decode cX6_share 24 = .ok (.aload_n 0, 1) := dk_42 (dk_at dksX6_share_1 0 rfl rfl)
theorem dX6_share_25 : decode cX6_share 25 = .ok (.getfield 50, 3) := dk_180 0 50 (dk_at dksX6_share_1 1 rfl rfl)
theorem dX6_share_28 : decode cX6_share 28 = .ok (.iload_n 3, 1) := dk_29 (dk_at dksX6_share_1 4 rfl rfl)
theorem dX6_share_29 : decode cX6_share 29 = .ok (.iconst 0, 1) := dk_3 (dk_at dksX6_share_1 5 rfl rfl)
theorem dX6_share_30 : decode cX6_share 30 = .ok (.iastore, 1) := dk_79 (dk_at dksX6_share_1 6 rfl rfl)
theorem dX6_share_31 : decode cX6_share 31 = .ok (.aload_n 0, 1) := dk_42 (dk_at dksX6_share_1 7 rfl rfl)
theorem dX6_share_32 : decode cX6_share 32 = .ok (.iload_n 3, 1) := dk_29 (dk_at dksX6_share_1 8 rfl rfl)
theorem dX6_share_33 : decode cX6_share 33 = .ok (.invokevirtual 179, 3) := dk_182 0 179 (dk_at dksX6_share_1 9 rfl rfl)
theorem dX6_share_36 : decode cX6_share 36 = .ok (.ifCond .eq 55, 3) := dk_153 0 55 (dk_at dksX6_share_1 12 rfl rfl)
theorem dX6_share_39 : decode cX6_share 39 = .ok (.aload_n 0, 1) := dk_42 (dk_at dksX6_share_1 15 rfl rfl)
theorem dX6_share_40 : decode cX6_share 40 = .ok (.iload_n 3, 1) := dk_29 (dk_at dksX6_share_1 16 rfl rfl)
theorem dX6_share_41 : decode cX6_share 41 = .ok (.aload_n 0, 1) := dk_42 (dk_at dksX6_share_1 17 rfl rfl)
theorem dX6_share_42 : decode cX6_share 42 = .ok (.iload_n 3, 1) := dk_29 (dk_at dksX6_share_1 18 rfl rfl)
theorem dX6_share_43 : decode cX6_share 43 = .ok (.iconst 3, 1) := dk_6 (dk_at dksX6_share_1 19 rfl rfl)
theorem dX6_share_44 : decode cX6_share 44 = .ok (.invokevirtual 89, 3) := dk_182 0 89 (dk_at dksX6_share_1 20 rfl rfl)
theorem dX6_share_47 : decode cX6_share 47 = .ok (.invokevirtual 111, 3) := dk_182 0 111 (dk_at dksX6_share_2 0 rfl rfl)
theorem dX6_share_50 : decode cX6_share 50 = .ok (.istore 4, 2) := dk_54 4 (dk_at dksX6_share_2 3 rfl rfl)
theorem dX6_share_52 : decode cX6_share 52 = .ok (.iload_n 2, 1) := dk_28 (dk_at dksX6_share_2 5 rfl rfl)
theorem dX6_share_53 : decode cX6_share 53 = .ok (.iconst (-1), 1) := dk_2 (dk_at dksX6_share_2 6 rfl rfl)
theorem dX6_share_54 : decode cX6_share 54 = .ok (.if_icmp .eq 14, 3) := dk_159 0 14 (dk_at dksX6_share_2 7 rfl rfl)
theorem dX6_share_57 : decode cX6_share 57 = .ok (.iload 4, 2) := dk_21 4 (dk_at dksX6_share_2 10 rfl rfl)
theorem dX6_share_59 : decode cX6_share 59 = .ok (.aload_n 0, 1) := dk_42 (dk_at dksX6_share_2 12 rfl rfl)
theorem dX6_share_60 : decode cX6_share 60 = .ok (.getfield 50, 3) := dk_180 0 50 (dk_at dksX6_share_2 13 rfl rfl)
theorem dX6_share_63 : decode cX6_share 63 = .ok (.iload_n 2, 1) := dk_28 (dk_at dksX6_share_2 16 rfl rfl)
theorem dX6_share_64 : decode cX6_share 64 = .ok (.iaload, 1) := dk_46 (dk_at dksX6_share_2 17 rfl rfl)
theorem dX6_share_65 : decode cX6_share 65 = .ok (.if_icmp .le 7, 3) := dk_164 0 7 (dk_at dksX6_share_2 18 rfl rfl)
theorem dX6_share_68 : decode cX6_share 68 = .ok (.iload_n 3, 1) := dk_29 (dk_at dksX6_share_2 21 rfl rfl)
theorem dX6_share_69 : decode cX6_share 69 = .ok (.goto 4, 3) := dk_167 0 4 (dk_at dksX6_share_3 0 rfl rfl)
theorem dX6_share_72 : decode cX6_share 72 = .ok (.iload_n 2, 1) := dk_28 (dk_at dksX6_share_3 3 rfl rfl)
theorem dX6_share_73 : decode cX6_share 73 = .ok (.istore_n 2, 1) := dk_61 (dk_at dksX6_share_3 4 rfl rfl)
theorem dX6_share_74 : decode cX6_share 74 = .ok (.aload_n 0, 1) := dk_42 (dk_at dksX6_share_3 5 rfl rfl)
theorem dX6_share_75 : decode cX6_share 75 = .ok (.getfield 50, 3) := dk_180 0 50 (dk_at dksX6_share_3 6 rfl rfl)
theorem dX6_share_78 : decode cX6_share 78 = .ok (.iload_n 3, 1) := dk_29 (dk_at dksX6_share_3 9 rfl rfl)
theorem dX6_share_79 : decode cX6_share 79 = .ok (.iload 4, 2) := dk_21 4 (dk_at dksX6_share_3 10 rfl rfl)
theorem dX6_share_81 : decode cX6_share 81 = .ok (.iastore, 1) := dk_79 (dk_at dksX6_share_3 12 rfl rfl)
theorem dX6_share_82 : decode cX6_share 82 = .ok (.iload_n 1, 1) := dk_27 (dk_at dksX6_share_3 13 rfl rfl)
theorem dX6_share_83 : decode cX6_share 83 = .ok (.iconst 0, 1) := dk_3 (dk_at dksX6_share_3 14 rfl rfl)
theorem dX6_share_84 : decode cX6_share 84 = .ok (.iload 4, 2) := dk_21 4 (dk_at dksX6_share_3 15 rfl rfl)
theorem dX6_share_86 : decode cX6_share 86 = .ok (.invokestatic 182, 3) := dk_184 0 182 (dk_at dksX6_share_3 17 rfl rfl)
theorem dX6_share_89 : decode cX6_share 89 = .ok (.iadd, 1) := dk_96 (dk_at dksX6_share_3 20 rfl rfl)
theorem dX6_share_90 : decode cX6_share 90 = .ok (.istore_n 1, 1) := dk_60 (dk_at dksX6_share_3 21 rfl rfl)
theorem dX6_share_91 : decode cX6_share 91 = .ok (.iinc 3 1, 3) := dk_132 3 1 (dk_at dksX6_share_4 0 rfl rfl)
theorem dX6_share_94 : decode cX6_share 94 = .ok (.goto (-88), 3) := dk_167 255 168 (dk_at dksX6_share_4 3 rfl rfl)
theorem dX6_share_97 : decode cX6_share 97 = .ok (.iload_n 1, 1) := dk_27 (dk_at dksX6_share_4 6 rfl rfl)
theorem dX6_share_98 : decode cX6_share 98 = .ok (.ifCond .le 93, 3) := dk_158 0 93 (dk_at dksX6_share_4 7 rfl rfl)
theorem dX6_share_101 : decode cX6_share 101 = .ok (.aload_n 0, 1) := dk_42 (dk_at dksX6_share_4 10 rfl rfl)
theorem dX6_share_102 : decode cX6_share 102 = .ok (.getfield 15, 3) := dk_180 0 15 (dk_at dksX6_share_4 11 rfl rfl)
theorem dX6_share_105 : decode cX6_share 105 = .ok (.bipush 61, 2) := dk_16 61 (dk_at dksX6_share_4 14 rfl rfl)
theorem dX6_share_107 : decode cX6_share 107 = .ok (.iaload, 1) := dk_46 (dk_at dksX6_share_4 16 rfl rfl)
theorem dX6_share_108 : decode cX6_share 108 = .ok (.istore_n 3, 1) := dk_62 (dk_at dksX6_share_4 17 rfl rfl)
theorem dX6_share_109 : decode cX6_share 109 = .ok (.iconst 0, 1) := dk_3 (dk_at dksX6_share_4 18 rfl rfl)
theorem dX6_share_110 : decode cX6_share 110 = .ok (.istore 4, 2) := dk_54 4 (dk_at dksX6_share_4 19 rfl rfl)
theorem dX6_share_112 : decode cX6_share 112 = .ok (.iload 4, 2) := dk_21 4 (dk_at dksX6_share_4 21 rfl rfl)
theorem dX6_share_114 : decode cX6_share 114 = .ok (.aload_n 0, 1) := dk_42 (dk_at dksX6_share_4 23 rfl rfl)
theorem dX6_share_115 : decode cX6_share 115 = .ok (.getfield 15, 3) := dk_180 0 15 (dk_at dksX6_share_5 0 rfl rfl)
theorem dX6_share_118 : decode cX6_share 118 = .ok (.bipush 60, 2) := dk_16 60 (dk_at dksX6_share_5 3 rfl rfl)
theorem dX6_share_120 : decode cX6_share 120 = .ok (.iaload, 1) := dk_46 (dk_at dksX6_share_5 5 rfl rfl)
theorem dX6_share_121 : decode cX6_share 121 = .ok (.if_icmp .ge 60, 3) := dk_162 0 60 (dk_at dksX6_share_5 6 rfl rfl)
theorem dX6_share_124 : decode cX6_share 124 = .ok (.aload_n 0, 1) := dk_42 (dk_at dksX6_share_5 9 rfl rfl)
theorem dX6_share_125 : decode cX6_share 125 = .ok (.getfield 53, 3) := dk_180 0 53 (dk_at dksX6_share_5 10 rfl rfl)
theorem dX6_share_128 : decode cX6_share 128 = .ok (.iload 4, 2) := dk_21 4 (dk_at dksX6_share_5 13 rfl rfl)
theorem dX6_share_130 : decode cX6_share 130 = .ok (.aload_n 0, 1) := dk_42 (dk_at dksX6_share_5 15 rfl rfl)
theorem dX6_share_131 : decode cX6_share 131 = .ok (.getfield 15, 3) := dk_180 0 15 (dk_at dksX6_share_5 16 rfl rfl)
theorem dX6_share_134 : decode cX6_share 134 = .ok (.bipush 61, 2) := dk_16 61 (dk_at dksX6_share_5 19 rfl rfl)
theorem dX6_share_136 : decode cX6_share 136 = .ok (.iaload, 1) := dk_46 (dk_at dksX6_share_5 21 rfl rfl)
theorem dX6_share_137 : decode cX6_share 137 = .ok (.iconst 0, 1) := dk_3 (dk_at dksX6_share_5 22 rfl rfl)
theorem dX6_share_138 : decode cX6_share 138 = .ok (.aload_n 0, 1) := dk_42 (dk_at dksX6_share_5 23 rfl rfl)
theorem dX6_share_139 : decode cX6_share 139 = .ok (.iload 4, 2) := dk_21 4 (dk_at dksX6_share_6 0 rfl rfl)
theorem dX6_share_141 : decode cX6_share 141 = .ok (.invokevirtual 179, 3) := dk_182 0 179 (dk_at dksX6_share_6 2 rfl rfl)
theorem dX6_share_144 : decode cX6_share 144 = .ok (.ifCond .eq 13, 3) := dk_153 0 13 (dk_at dksX6_share_6 5 rfl rfl)
theorem dX6_share_147 : decode cX6_share 147 = .ok (.aload_n 0, 1) := dk_42 (dk_at dksX6_share_6 8 rfl rfl)
theorem dX6_share_148 : decode cX6_share 148 = .ok (.getfield 50, 3) := dk_180 0 50 (dk_at dksX6_share_6 9 rfl rfl)
theorem dX6_share_151 : decode cX6_share 151 = .ok (.iload 4, 2) := dk_21 4 (dk_at dksX6_share_6 12 rfl rfl)
theorem dX6_share_153 : decode cX6_share 153 = .ok (.iaload, 1) := dk_46 (dk_at dksX6_share_6 14 rfl rfl)
theorem dX6_share_154 : decode cX6_share 154 = .ok (.goto 4, 3) := dk_167 0 4 (dk_at dksX6_share_6 15 rfl rfl)
theorem dX6_share_157 : decode cX6_share 157 = .ok (.iconst 0, 1) := dk_3 (dk_at dksX6_share_6 18 rfl rfl)
theorem dX6_share_158 : decode cX6_share 158 = .ok (.invokestatic 182, 3) := dk_184 0 182 (dk_at dksX6_share_6 19 rfl rfl)
theorem dX6_share_161 : decode cX6_share 161 = .ok (.imul, 1) := dk_104 (dk_at dksX6_share_6 22 rfl rfl)
theorem dX6_share_162 : decode cX6_share 162 = .ok (.iload_n 1, 1) := dk_27 (dk_at dksX6_share_6 23 rfl rfl)
theorem dX6_share_163 : decode cX6_share 163 = .ok (.idiv, 1) := dk_108 (dk_at dksX6_share_7 0 rfl rfl)
theorem dX6_share_164 : decode cX6_share 164 = .ok (.iastore, 1) := dk_79 (dk_at dksX6_share_7 1 rfl rfl)
theorem dX6_share_165 : decode cX6_share 165 = .ok (.iload_n 3, 1) := dk_29 (dk_at dksX6_share_7 2 rfl rfl)
theorem dX6_share_166 : decode cX6_share 166 = .ok (.aload_n 0, 1) := dk_42 (dk_at dksX6_share_7 3 rfl rfl)
theorem dX6_share_167 : decode cX6_share 167 = .ok (.getfield 53, 3) := dk_180 0 53 (dk_at dksX6_share_7 4 rfl rfl)
theorem dX6_share_170 : decode cX6_share 170 = .ok (.iload 4, 2) := dk_21 4 (dk_at dksX6_share_7 7 rfl rfl)
theorem dX6_share_172 : decode cX6_share 172 = .ok (.iaload, 1) := dk_46 (dk_at dksX6_share_7 9 rfl rfl)
theorem dX6_share_173 : decode cX6_share 173 = .ok (.isub, 1) := dk_100 (dk_at dksX6_share_7 10 rfl rfl)
theorem dX6_share_174 : decode cX6_share 174 = .ok (.istore_n 3, 1) := dk_62 (dk_at dksX6_share_7 11 rfl rfl)
theorem dX6_share_175 : decode cX6_share 175 = .ok (.iinc 4 1, 3) := dk_132 4 1 (dk_at dksX6_share_7 12 rfl rfl)
theorem dX6_share_178 : decode cX6_share 178 = .ok (.goto (-66), 3) := dk_167 255 190 (dk_at dksX6_share_7 15 rfl rfl)
theorem dX6_share_181 : decode cX6_share 181 = .ok (.aload_n 0, 1) := dk_42 (dk_at dksX6_share_7 18 rfl rfl)
theorem dX6_share_182 : decode cX6_share 182 = .ok (.getfield 53, 3) := dk_180 0 53 (dk_at dksX6_share_7 19 rfl rfl)
theorem dX6_share_185 : decode cX6_share 185 = .ok (.iload_n 2, 1) := dk_28 (dk_at dksX6_share_7 22 rfl rfl)
theorem dX6_share_186 : decode cX6_share 186 = .ok (.dup2, 1) := dk_92 (dk_at dksX6_share_7 23 rfl rfl)
theorem dX6_share_187 : decode cX6_share 187 = .ok (.iaload, 1) := dk_46 (dk_at dksX6_share_8 0 rfl rfl)
theorem dX6_share_188 : decode cX6_share 188 = .ok (.iload_n 3, 1) := dk_29 (dk_at dksX6_share_8 1 rfl rfl)
theorem dX6_share_189 : decode cX6_share 189 = .ok (.iadd, 1) := dk_96 (dk_at dksX6_share_8 2 rfl rfl)
theorem dX6_share_190 : decode cX6_share 190 = .ok (.iastore, 1) := dk_79 (dk_at dksX6_share_8 3 rfl rfl)
theorem dX6_share_191 : decode cX6_share 191 = .ok (.return_, 1) := dk_177 (dk_at dksX6_share_8 4 rfl rfl)
abbrev cX6_isHere : ByteArray := prog_23_method_12_code
def yX6_isHere : MethodName := ⟨RX6, "isHere", "(I)Z"⟩
def dkwX6_isHere_0 : List UInt8 := [42, 27, 7, 182, 0, 89, 154, 0, 7, 4, 167, 0, 4, 3, 172]
abbrev dktX6_isHere_0 : List UInt8 := dkwX6_isHere_0 ++ []
theorem dksX6_isHere_0 : cX6_isHere.data.toList.drop 0 = dktX6_isHere_0 := by decide +kernel
theorem dX6_isHere_0 : decode cX6_isHere 0 = .ok (.aload_n 0, 1) := dk_42 (dk_at dksX6_isHere_0 0 rfl rfl)
theorem dX6_isHere_1 : decode cX6_isHere 1 = .ok (.iload_n 1, 1) := dk_27 (dk_at dksX6_isHere_0 1 rfl rfl)
theorem dX6_isHere_2 : decode cX6_isHere 2 = .ok (.iconst 4, 1) := dk_7 (dk_at dksX6_isHere_0 2 rfl rfl)
theorem dX6_isHere_3 : decode cX6_isHere 3 = .ok (.invokevirtual 89, 3) := dk_182 0 89 (dk_at dksX6_isHere_0 3 rfl rfl)
theorem dX6_isHere_6 : decode cX6_isHere 6 = .ok (.ifCond .ne 7, 3) := dk_154 0 7 (dk_at dksX6_isHere_0 6 rfl rfl)
theorem dX6_isHere_9 : decode cX6_isHere 9 = .ok (.iconst 1, 1) := dk_4 (dk_at dksX6_isHere_0 9 rfl rfl)
theorem dX6_isHere_10 : decode cX6_isHere 10 = .ok (.goto 4, 3) := dk_167 0 4 (dk_at dksX6_isHere_0 10 rfl rfl)
theorem dX6_isHere_13 : decode cX6_isHere 13 = .ok (.iconst 0, 1) := dk_3 (dk_at dksX6_isHere_0 13 rfl rfl)
theorem dX6_isHere_14 : decode cX6_isHere 14 = .ok (.ireturn, 1) := dk_172 (dk_at dksX6_isHere_0 14 rfl rfl)
abbrev cX6_rate : ByteArray := prog_23_method_32_code
def yX6_rate : MethodName := ⟨RX6, "rate", "(II)I"⟩
def dkwX6_rate_6 : List UInt8 := [182, 0, 89, 96, 172, 42, 180, 0, 163, 172]
abbrev dktX6_rate_6 : List UInt8 := dkwX6_rate_6 ++ []
def dkwX6_rate_5 : List UInt8 := [182, 0, 89, 96, 172, 42, 180, 0, 163, 5, 108, 8, 96, 172, 29, 42, 27, 16, 6, 28, 7, 112, 96]
abbrev dktX6_rate_5 : List UInt8 := dkwX6_rate_5 ++ dktX6_rate_6
def dkwX6_rate_4 : List UInt8 := [180, 0, 15, 16, 62, 46, 16, 7, 112, 154, 0, 7, 3, 167, 0, 14, 42, 180, 0, 163, 42, 27, 4]
abbrev dktX6_rate_4 : List UInt8 := dkwX6_rate_4 ++ dktX6_rate_5
def dkwX6_rate_3 : List UInt8 := [42, 180, 0, 163, 42, 27, 4, 182, 0, 89, 96, 172, 42, 180, 0, 163, 5, 108, 172, 29, 172, 42]
abbrev dktX6_rate_3 : List UInt8 := dkwX6_rate_3 ++ dktX6_rate_4
def dkwX6_rate_2 : List UInt8 := [170, 0, 0, 0, 0, 111, 0, 0, 0, 1, 0, 0, 0, 6, 0, 0, 0, 38, 0, 0, 0, 50, 0, 0, 0, 57, 0, 0, 0, 59, 0, 0, 0, 88, 0, 0, 0, 97]
abbrev dktX6_rate_2 : List UInt8 := dkwX6_rate_2 ++ dktX6_rate_3
def dkwX6_rate_1 : List UInt8 := [182, 0, 89]
abbrev dktX6_rate_1 : List UInt8 := dkwX6_rate_1 ++ dktX6_rate_2
def dkwX6_rate_0 : List UInt8 := [42, 27, 28, 182, 0, 175, 28, 8, 161, 0, 7, 4, 167, 0, 7, 42, 180, 0, 163, 62, 42, 27, 3]
abbrev dktX6_rate_0 : List UInt8 := dkwX6_rate_0 ++ dktX6_rate_1
theorem dksX6_rate_0 : cX6_rate.data.toList.drop 0 = dktX6_rate_0 := by decide +kernel
theorem dksX6_rate_1 : cX6_rate.data.toList.drop 23 = dktX6_rate_1 := dk_seg dksX6_rate_0 23 rfl rfl
theorem dksX6_rate_2 : cX6_rate.data.toList.drop 26 = dktX6_rate_2 := dk_seg dksX6_rate_1 3 rfl rfl
theorem dksX6_rate_3 : cX6_rate.data.toList.drop 64 = dktX6_rate_3 := dk_seg dksX6_rate_2 38 rfl rfl
theorem dksX6_rate_4 : cX6_rate.data.toList.drop 86 = dktX6_rate_4 := dk_seg dksX6_rate_3 22 rfl rfl
theorem dksX6_rate_5 : cX6_rate.data.toList.drop 109 = dktX6_rate_5 := dk_seg dksX6_rate_4 23 rfl rfl
theorem dksX6_rate_6 : cX6_rate.data.toList.drop 132 = dktX6_rate_6 := dk_seg dksX6_rate_5 23 rfl rfl
theorem dX6_rate_0 : decode cX6_rate 0 = .ok (.aload_n 0, 1) := dk_42 (dk_at dksX6_rate_0 0 rfl rfl)
theorem dX6_rate_1 : decode cX6_rate 1 = .ok (.iload_n 1, 1) := dk_27 (dk_at dksX6_rate_0 1 rfl rfl)
theorem dX6_rate_2 : decode cX6_rate 2 = .ok (.iload_n 2, 1) := dk_28 (dk_at dksX6_rate_0 2 rfl rfl)
theorem dX6_rate_3 : decode cX6_rate 3 = .ok (.invokevirtual 175, 3) := dk_182 0 175 (dk_at dksX6_rate_0 3 rfl rfl)
theorem dX6_rate_6 : decode cX6_rate 6 = .ok (.iload_n 2, 1) := dk_28 (dk_at dksX6_rate_0 6 rfl rfl)
theorem dX6_rate_7 : decode cX6_rate 7 = .ok (.iconst 5, 1) := dk_8 (dk_at dksX6_rate_0 7 rfl rfl)
theorem dX6_rate_8 : decode cX6_rate 8 = .ok (.if_icmp .lt 7, 3) := dk_161 0 7 (dk_at dksX6_rate_0 8 rfl rfl)
theorem dX6_rate_11 : decode cX6_rate 11 = .ok (.iconst 1, 1) := dk_4 (dk_at dksX6_rate_0 11 rfl rfl)
theorem dX6_rate_12 : decode cX6_rate 12 = .ok (.goto 7, 3) := dk_167 0 7 (dk_at dksX6_rate_0 12 rfl rfl)
theorem dX6_rate_15 : decode cX6_rate 15 = .ok (.aload_n 0, 1) := dk_42 (dk_at dksX6_rate_0 15 rfl rfl)
theorem dX6_rate_16 : decode cX6_rate 16 = .ok (.getfield 163, 3) := dk_180 0 163 (dk_at dksX6_rate_0 16 rfl rfl)
theorem dX6_rate_19 : decode cX6_rate 19 = .ok (.istore_n 3, 1) := dk_62 (dk_at dksX6_rate_0 19 rfl rfl)
theorem dX6_rate_20 : decode cX6_rate 20 = .ok (.aload_n 0, 1) := dk_42 (dk_at dksX6_rate_0 20 rfl rfl)
theorem dX6_rate_21 : decode cX6_rate 21 = .ok (.iload_n 1, 1) := dk_27 (dk_at dksX6_rate_0 21 rfl rfl)
theorem dX6_rate_22 : decode cX6_rate 22 = .ok (.iconst 0, 1) := dk_3 (dk_at dksX6_rate_0 22 rfl rfl)
theorem dX6_rate_23 : decode cX6_rate 23 = .ok (.invokevirtual 89, 3) := dk_182 0 89 (dk_at dksX6_rate_1 0 rfl rfl)
theorem dX6_rate_26 : decode cX6_rate 26 = .ok (.tableswitch 111 1 6 #[38, 50, 57, 59, 88, 97], 38) := by decide +kernel
theorem dX6_rate_64 : decode cX6_rate 64 = .ok (.aload_n 0, 1) := dk_42 (dk_at dksX6_rate_3 0 rfl rfl)
theorem dX6_rate_65 : decode cX6_rate 65 = .ok (.getfield 163, 3) := dk_180 0 163 (dk_at dksX6_rate_3 1 rfl rfl)
theorem dX6_rate_68 : decode cX6_rate 68 = .ok (.aload_n 0, 1) := dk_42 (dk_at dksX6_rate_3 4 rfl rfl)
theorem dX6_rate_69 : decode cX6_rate 69 = .ok (.iload_n 1, 1) := dk_27 (dk_at dksX6_rate_3 5 rfl rfl)
theorem dX6_rate_70 : decode cX6_rate 70 = .ok (.iconst 1, 1) := dk_4 (dk_at dksX6_rate_3 6 rfl rfl)
theorem dX6_rate_71 : decode cX6_rate 71 = .ok (.invokevirtual 89, 3) := dk_182 0 89 (dk_at dksX6_rate_3 7 rfl rfl)
theorem dX6_rate_74 : decode cX6_rate 74 = .ok (.iadd, 1) := dk_96 (dk_at dksX6_rate_3 10 rfl rfl)
theorem dX6_rate_75 : decode cX6_rate 75 = .ok (.ireturn, 1) := dk_172 (dk_at dksX6_rate_3 11 rfl rfl)
theorem dX6_rate_76 : decode cX6_rate 76 = .ok (.aload_n 0, 1) := dk_42 (dk_at dksX6_rate_3 12 rfl rfl)
theorem dX6_rate_77 : decode cX6_rate 77 = .ok (.getfield 163, 3) := dk_180 0 163 (dk_at dksX6_rate_3 13 rfl rfl)
theorem dX6_rate_80 : decode cX6_rate 80 = .ok (.iconst 2, 1) := dk_5 (dk_at dksX6_rate_3 16 rfl rfl)
theorem dX6_rate_81 : decode cX6_rate 81 = .ok (.idiv, 1) := dk_108 (dk_at dksX6_rate_3 17 rfl rfl)
theorem dX6_rate_82 : decode cX6_rate 82 = .ok (.ireturn, 1) := dk_172 (dk_at dksX6_rate_3 18 rfl rfl)
theorem dX6_rate_83 : decode cX6_rate 83 = .ok (.iload_n 3, 1) := dk_29 (dk_at dksX6_rate_3 19 rfl rfl)
theorem dX6_rate_84 : decode cX6_rate 84 = .ok (.ireturn, 1) := dk_172 (dk_at dksX6_rate_3 20 rfl rfl)
theorem dX6_rate_85 : decode cX6_rate 85 = .ok (.aload_n 0, 1) := dk_42 (dk_at dksX6_rate_3 21 rfl rfl)
theorem dX6_rate_86 : decode cX6_rate 86 = .ok (.getfield 15, 3) := dk_180 0 15 (dk_at dksX6_rate_4 0 rfl rfl)
theorem dX6_rate_89 : decode cX6_rate 89 = .ok (.bipush 62, 2) := dk_16 62 (dk_at dksX6_rate_4 3 rfl rfl)
theorem dX6_rate_91 : decode cX6_rate 91 = .ok (.iaload, 1) := dk_46 (dk_at dksX6_rate_4 5 rfl rfl)
theorem dX6_rate_92 : decode cX6_rate 92 = .ok (.bipush 7, 2) := dk_16 7 (dk_at dksX6_rate_4 6 rfl rfl)
theorem dX6_rate_94 : decode cX6_rate 94 = .ok (.irem, 1) := dk_112 (dk_at dksX6_rate_4 8 rfl rfl)
theorem dX6_rate_95 : decode cX6_rate 95 = .ok (.ifCond .ne 7, 3) := dk_154 0 7 (dk_at dksX6_rate_4 9 rfl rfl)
theorem dX6_rate_98 : decode cX6_rate 98 = .ok (.iconst 0, 1) := dk_3 (dk_at dksX6_rate_4 12 rfl rfl)
theorem dX6_rate_99 : decode cX6_rate 99 = .ok (.goto 14, 3) := dk_167 0 14 (dk_at dksX6_rate_4 13 rfl rfl)
theorem dX6_rate_102 : decode cX6_rate 102 = .ok (.aload_n 0, 1) := dk_42 (dk_at dksX6_rate_4 16 rfl rfl)
theorem dX6_rate_103 : decode cX6_rate 103 = .ok (.getfield 163, 3) := dk_180 0 163 (dk_at dksX6_rate_4 17 rfl rfl)
theorem dX6_rate_106 : decode cX6_rate 106 = .ok (.aload_n 0, 1) := dk_42 (dk_at dksX6_rate_4 20 rfl rfl)
theorem dX6_rate_107 : decode cX6_rate 107 = .ok (.iload_n 1, 1) := dk_27 (dk_at dksX6_rate_4 21 rfl rfl)
theorem dX6_rate_108 : decode cX6_rate 108 = .ok (.iconst 1, 1) := dk_4 (dk_at dksX6_rate_4 22 rfl rfl)
theorem dX6_rate_109 : decode cX6_rate 109 = .ok (.invokevirtual 89, 3) := dk_182 0 89 (dk_at dksX6_rate_5 0 rfl rfl)
theorem dX6_rate_112 : decode cX6_rate 112 = .ok (.iadd, 1) := dk_96 (dk_at dksX6_rate_5 3 rfl rfl)
theorem dX6_rate_113 : decode cX6_rate 113 = .ok (.ireturn, 1) := dk_172 (dk_at dksX6_rate_5 4 rfl rfl)
theorem dX6_rate_114 : decode cX6_rate 114 = .ok (.aload_n 0, 1) := dk_42 (dk_at dksX6_rate_5 5 rfl rfl)
theorem dX6_rate_115 : decode cX6_rate 115 = .ok (.getfield 163, 3) := dk_180 0 163 (dk_at dksX6_rate_5 6 rfl rfl)
theorem dX6_rate_118 : decode cX6_rate 118 = .ok (.iconst 2, 1) := dk_5 (dk_at dksX6_rate_5 9 rfl rfl)
theorem dX6_rate_119 : decode cX6_rate 119 = .ok (.idiv, 1) := dk_108 (dk_at dksX6_rate_5 10 rfl rfl)
theorem dX6_rate_120 : decode cX6_rate 120 = .ok (.iconst 5, 1) := dk_8 (dk_at dksX6_rate_5 11 rfl rfl)
theorem dX6_rate_121 : decode cX6_rate 121 = .ok (.iadd, 1) := dk_96 (dk_at dksX6_rate_5 12 rfl rfl)
theorem dX6_rate_122 : decode cX6_rate 122 = .ok (.ireturn, 1) := dk_172 (dk_at dksX6_rate_5 13 rfl rfl)
theorem dX6_rate_123 : decode cX6_rate 123 = .ok (.iload_n 3, 1) := dk_29 (dk_at dksX6_rate_5 14 rfl rfl)
theorem dX6_rate_124 : decode cX6_rate 124 = .ok (.aload_n 0, 1) := dk_42 (dk_at dksX6_rate_5 15 rfl rfl)
theorem dX6_rate_125 : decode cX6_rate 125 = .ok (.iload_n 1, 1) := dk_27 (dk_at dksX6_rate_5 16 rfl rfl)
theorem dX6_rate_126 : decode cX6_rate 126 = .ok (.bipush 6, 2) := dk_16 6 (dk_at dksX6_rate_5 17 rfl rfl)
theorem dX6_rate_128 : decode cX6_rate 128 = .ok (.iload_n 2, 1) := dk_28 (dk_at dksX6_rate_5 19 rfl rfl)
theorem dX6_rate_129 : decode cX6_rate 129 = .ok (.iconst 4, 1) := dk_7 (dk_at dksX6_rate_5 20 rfl rfl)
theorem dX6_rate_130 : decode cX6_rate 130 = .ok (.irem, 1) := dk_112 (dk_at dksX6_rate_5 21 rfl rfl)
theorem dX6_rate_131 : decode cX6_rate 131 = .ok (.iadd, 1) := dk_96 (dk_at dksX6_rate_5 22 rfl rfl)
theorem dX6_rate_132 : decode cX6_rate 132 = .ok (.invokevirtual 89, 3) := dk_182 0 89 (dk_at dksX6_rate_6 0 rfl rfl)
theorem dX6_rate_135 : decode cX6_rate 135 = .ok (.iadd, 1) := dk_96 (dk_at dksX6_rate_6 3 rfl rfl)
theorem dX6_rate_136 : decode cX6_rate 136 = .ok (.ireturn, 1) := dk_172 (dk_at dksX6_rate_6 4 rfl rfl)
theorem dX6_rate_137 : decode cX6_rate 137 = .ok (.aload_n 0, 1) := dk_42 (dk_at dksX6_rate_6 5 rfl rfl)
theorem dX6_rate_138 : decode cX6_rate 138 = .ok (.getfield 163, 3) := dk_180 0 163 (dk_at dksX6_rate_6 6 rfl rfl)
theorem dX6_rate_141 : decode cX6_rate 141 = .ok (.ireturn, 1) := dk_172 (dk_at dksX6_rate_6 9 rfl rfl)
abbrev cX6_readFor : ByteArray := prog_23_method_30_code
def yX6_readFor : MethodName := ⟨RX6, "readFor", "(II)V"⟩
def dkwX6_readFor_7 : List UInt8 := [181, 0, 163, 177]
abbrev dktX6_readFor_7 : List UInt8 := dkwX6_readFor_7 ++ []
def dkwX6_readFor_6 : List UInt8 := [132, 4, 1, 167, 255, 225, 42, 182, 0, 169, 87, 42, 89, 180, 0, 163, 42, 180, 0, 160, 28, 104, 100]
abbrev dktX6_readFor_6 : List UInt8 := dkwX6_readFor_6 ++ dktX6_readFor_7
def dkwX6_readFor_5 : List UInt8 := [162, 0, 28, 42, 180, 0, 34, 21, 4, 42, 180, 0, 28, 16, 100, 29, 104, 21, 4, 96, 46, 79]
abbrev dktX6_readFor_5 : List UInt8 := dkwX6_readFor_5 ++ dktX6_readFor_6
def dkwX6_readFor_4 : List UInt8 := [46, 4, 100, 62, 42, 42, 180, 0, 31, 29, 46, 181, 0, 127, 3, 54, 4, 21, 4, 42, 180, 0, 127]
abbrev dktX6_readFor_4 : List UInt8 := dkwX6_readFor_4 ++ dktX6_readFor_5
def dkwX6_readFor_3 : List UInt8 := [46, 154, 0, 17, 42, 16, 20, 181, 0, 163, 42, 5, 181, 0, 160, 167, 0, 65, 42, 180, 0, 15, 16, 63]
abbrev dktX6_readFor_3 : List UInt8 := dkwX6_readFor_3 ++ dktX6_readFor_4
def dkwX6_readFor_2 : List UInt8 := [28, 79, 42, 180, 0, 37, 8, 42, 180, 0, 15, 16, 62, 46, 16, 10, 112, 79, 42, 180, 0, 15, 16, 63]
abbrev dktX6_readFor_2 : List UInt8 := dkwX6_readFor_2 ++ dktX6_readFor_3
def dkwX6_readFor_1 : List UInt8 := [42, 27, 4, 182, 0, 89, 79, 42, 180, 0, 37, 6, 42, 27, 5, 182, 0, 89, 79, 42, 180, 0, 37, 7]
abbrev dktX6_readFor_1 : List UInt8 := dkwX6_readFor_1 ++ dktX6_readFor_2
def dkwX6_readFor_0 : List UInt8 := [42, 180, 0, 37, 3, 27, 79, 42, 180, 0, 37, 4, 42, 27, 3, 182, 0, 89, 79, 42, 180, 0, 37, 5]
abbrev dktX6_readFor_0 : List UInt8 := dkwX6_readFor_0 ++ dktX6_readFor_1
theorem dksX6_readFor_0 : cX6_readFor.data.toList.drop 0 = dktX6_readFor_0 := by decide +kernel
theorem dksX6_readFor_1 : cX6_readFor.data.toList.drop 24 = dktX6_readFor_1 := dk_seg dksX6_readFor_0 24 rfl rfl
theorem dksX6_readFor_2 : cX6_readFor.data.toList.drop 48 = dktX6_readFor_2 := dk_seg dksX6_readFor_1 24 rfl rfl
theorem dksX6_readFor_3 : cX6_readFor.data.toList.drop 72 = dktX6_readFor_3 := dk_seg dksX6_readFor_2 24 rfl rfl
theorem dksX6_readFor_4 : cX6_readFor.data.toList.drop 96 = dktX6_readFor_4 := dk_seg dksX6_readFor_3 24 rfl rfl
theorem dksX6_readFor_5 : cX6_readFor.data.toList.drop 119 = dktX6_readFor_5 := dk_seg dksX6_readFor_4 23 rfl rfl
theorem dksX6_readFor_6 : cX6_readFor.data.toList.drop 141 = dktX6_readFor_6 := dk_seg dksX6_readFor_5 22 rfl rfl
theorem dksX6_readFor_7 : cX6_readFor.data.toList.drop 164 = dktX6_readFor_7 := dk_seg dksX6_readFor_6 23 rfl rfl
theorem dX6_readFor_0 : decode cX6_readFor 0 = .ok (.aload_n 0, 1) := dk_42 (dk_at dksX6_readFor_0 0 rfl rfl)
theorem dX6_readFor_1 : decode cX6_readFor 1 = .ok (.getfield 37, 3) := dk_180 0 37 (dk_at dksX6_readFor_0 1 rfl rfl)
theorem dX6_readFor_4 : decode cX6_readFor 4 = .ok (.iconst 0, 1) := dk_3 (dk_at dksX6_readFor_0 4 rfl rfl)
theorem dX6_readFor_5 : decode cX6_readFor 5 = .ok (.iload_n 1, 1) := dk_27 (dk_at dksX6_readFor_0 5 rfl rfl)
theorem dX6_readFor_6 : decode cX6_readFor 6 = .ok (.iastore, 1) := dk_79 (dk_at dksX6_readFor_0 6 rfl rfl)
theorem dX6_readFor_7 : decode cX6_readFor 7 = .ok (.aload_n 0, 1) := dk_42 (dk_at dksX6_readFor_0 7 rfl rfl)
theorem dX6_readFor_8 : decode cX6_readFor 8 = .ok (.getfield 37, 3) := dk_180 0 37 (dk_at dksX6_readFor_0 8 rfl rfl)
theorem dX6_readFor_11 : decode cX6_readFor 11 = .ok (.iconst 1, 1) := dk_4 (dk_at dksX6_readFor_0 11 rfl rfl)
theorem dX6_readFor_12 : decode cX6_readFor 12 = .ok (.aload_n 0, 1) := dk_42 (dk_at dksX6_readFor_0 12 rfl rfl)
theorem dX6_readFor_13 : decode cX6_readFor 13 = .ok (.iload_n 1, 1) := dk_27 (dk_at dksX6_readFor_0 13 rfl rfl)
theorem dX6_readFor_14 : decode cX6_readFor 14 = .ok (.iconst 0, 1) := dk_3 (dk_at dksX6_readFor_0 14 rfl rfl)
theorem dX6_readFor_15 : decode cX6_readFor 15 = .ok (.invokevirtual 89, 3) := dk_182 0 89 (dk_at dksX6_readFor_0 15 rfl rfl)
theorem dX6_readFor_18 : decode cX6_readFor 18 = .ok (.iastore, 1) := dk_79 (dk_at dksX6_readFor_0 18 rfl rfl)
theorem dX6_readFor_19 : decode cX6_readFor 19 = .ok (.aload_n 0, 1) := dk_42 (dk_at dksX6_readFor_0 19 rfl rfl)
theorem dX6_readFor_20 : decode cX6_readFor 20 = .ok (.getfield 37, 3) := dk_180 0 37 (dk_at dksX6_readFor_0 20 rfl rfl)
theorem dX6_readFor_23 : decode cX6_readFor 23 = .ok (.iconst 2, 1) := dk_5 (dk_at dksX6_readFor_0 23 rfl rfl)
theorem dX6_readFor_24 : decode cX6_readFor 24 = .ok (.aload_n 0, 1) := dk_42 (dk_at dksX6_readFor_1 0 rfl rfl)
theorem dX6_readFor_25 : decode cX6_readFor 25 = .ok (.iload_n 1, 1) := dk_27 (dk_at dksX6_readFor_1 1 rfl rfl)
theorem dX6_readFor_26 : decode cX6_readFor 26 = .ok (.iconst 1, 1) := dk_4 (dk_at dksX6_readFor_1 2 rfl rfl)
theorem dX6_readFor_27 : decode cX6_readFor 27 = .ok (.invokevirtual 89, 3) := dk_182 0 89 (dk_at dksX6_readFor_1 3 rfl rfl)
theorem dX6_readFor_30 : decode cX6_readFor 30 = .ok (.iastore, 1) := dk_79 (dk_at dksX6_readFor_1 6 rfl rfl)
theorem dX6_readFor_31 : decode cX6_readFor 31 = .ok (.aload_n 0, 1) := dk_42 (dk_at dksX6_readFor_1 7 rfl rfl)
theorem dX6_readFor_32 : decode cX6_readFor 32 = .ok (.getfield 37, 3) := dk_180 0 37 (dk_at dksX6_readFor_1 8 rfl rfl)
theorem dX6_readFor_35 : decode cX6_readFor 35 = .ok (.iconst 3, 1) := dk_6 (dk_at dksX6_readFor_1 11 rfl rfl)
theorem dX6_readFor_36 : decode cX6_readFor 36 = .ok (.aload_n 0, 1) := dk_42 (dk_at dksX6_readFor_1 12 rfl rfl)
theorem dX6_readFor_37 : decode cX6_readFor 37 = .ok (.iload_n 1, 1) := dk_27 (dk_at dksX6_readFor_1 13 rfl rfl)
theorem dX6_readFor_38 : decode cX6_readFor 38 = .ok (.iconst 2, 1) := dk_5 (dk_at dksX6_readFor_1 14 rfl rfl)
theorem dX6_readFor_39 : decode cX6_readFor 39 = .ok (.invokevirtual 89, 3) := dk_182 0 89 (dk_at dksX6_readFor_1 15 rfl rfl)
theorem dX6_readFor_42 : decode cX6_readFor 42 = .ok (.iastore, 1) := dk_79 (dk_at dksX6_readFor_1 18 rfl rfl)
theorem dX6_readFor_43 : decode cX6_readFor 43 = .ok (.aload_n 0, 1) := dk_42 (dk_at dksX6_readFor_1 19 rfl rfl)
theorem dX6_readFor_44 : decode cX6_readFor 44 = .ok (.getfield 37, 3) := dk_180 0 37 (dk_at dksX6_readFor_1 20 rfl rfl)
theorem dX6_readFor_47 : decode cX6_readFor 47 = .ok (.iconst 4, 1) := dk_7 (dk_at dksX6_readFor_1 23 rfl rfl)
theorem dX6_readFor_48 : decode cX6_readFor 48 = .ok (.iload_n 2, 1) := dk_28 (dk_at dksX6_readFor_2 0 rfl rfl)
theorem dX6_readFor_49 : decode cX6_readFor 49 = .ok (.iastore, 1) := dk_79 (dk_at dksX6_readFor_2 1 rfl rfl)
theorem dX6_readFor_50 : decode cX6_readFor 50 = .ok (.aload_n 0, 1) := dk_42 (dk_at dksX6_readFor_2 2 rfl rfl)
theorem dX6_readFor_51 : decode cX6_readFor 51 = .ok (.getfield 37, 3) := dk_180 0 37 (dk_at dksX6_readFor_2 3 rfl rfl)
theorem dX6_readFor_54 : decode cX6_readFor 54 = .ok (.iconst 5, 1) := dk_8 (dk_at dksX6_readFor_2 6 rfl rfl)
theorem dX6_readFor_55 : decode cX6_readFor 55 = .ok (.aload_n 0, 1) := dk_42 (dk_at dksX6_readFor_2 7 rfl rfl)
theorem dX6_readFor_56 : decode cX6_readFor 56 = .ok (.getfield 15, 3) := dk_180 0 15 (dk_at dksX6_readFor_2 8 rfl rfl)
theorem dX6_readFor_59 : decode cX6_readFor 59 = .ok (.bipush 62, 2) := dk_16 62 (dk_at dksX6_readFor_2 11 rfl rfl)
theorem dX6_readFor_61 : decode cX6_readFor 61 = .ok (.iaload, 1) := dk_46 (dk_at dksX6_readFor_2 13 rfl rfl)
theorem dX6_readFor_62 : decode cX6_readFor 62 = .ok (.bipush 10, 2) := dk_16 10 (dk_at dksX6_readFor_2 14 rfl rfl)
theorem dX6_readFor_64 : decode cX6_readFor 64 = .ok (.irem, 1) := dk_112 (dk_at dksX6_readFor_2 16 rfl rfl)
theorem dX6_readFor_65 : decode cX6_readFor 65 = .ok (.iastore, 1) := dk_79 (dk_at dksX6_readFor_2 17 rfl rfl)
theorem dX6_readFor_66 : decode cX6_readFor 66 = .ok (.aload_n 0, 1) := dk_42 (dk_at dksX6_readFor_2 18 rfl rfl)
theorem dX6_readFor_67 : decode cX6_readFor 67 = .ok (.getfield 15, 3) := dk_180 0 15 (dk_at dksX6_readFor_2 19 rfl rfl)
theorem dX6_readFor_70 : decode cX6_readFor 70 = .ok (.bipush 63, 2) := dk_16 63 (dk_at dksX6_readFor_2 22 rfl rfl)
theorem dX6_readFor_72 : decode cX6_readFor 72 = .ok (.iaload, 1) := dk_46 (dk_at dksX6_readFor_3 0 rfl rfl)
theorem dX6_readFor_73 : decode cX6_readFor 73 = .ok (.ifCond .ne 17, 3) := dk_154 0 17 (dk_at dksX6_readFor_3 1 rfl rfl)
theorem dX6_readFor_76 : decode cX6_readFor 76 = .ok (.aload_n 0, 1) := dk_42 (dk_at dksX6_readFor_3 4 rfl rfl)
theorem dX6_readFor_77 : decode cX6_readFor 77 = .ok (.bipush 20, 2) := dk_16 20 (dk_at dksX6_readFor_3 5 rfl rfl)
theorem dX6_readFor_79 : decode cX6_readFor 79 = .ok (.putfield 163, 3) := dk_181 0 163 (dk_at dksX6_readFor_3 7 rfl rfl)
theorem dX6_readFor_82 : decode cX6_readFor 82 = .ok (.aload_n 0, 1) := dk_42 (dk_at dksX6_readFor_3 10 rfl rfl)
theorem dX6_readFor_83 : decode cX6_readFor 83 = .ok (.iconst 2, 1) := dk_5 (dk_at dksX6_readFor_3 11 rfl rfl)
theorem dX6_readFor_84 : decode cX6_readFor 84 = .ok (.putfield 160, 3) := dk_181 0 160 (dk_at dksX6_readFor_3 12 rfl rfl)
theorem dX6_readFor_87 : decode cX6_readFor 87 = .ok (.goto 65, 3) := dk_167 0 65 (dk_at dksX6_readFor_3 15 rfl rfl)
theorem dX6_readFor_90 : decode cX6_readFor 90 = .ok (.aload_n 0, 1) := dk_42 (dk_at dksX6_readFor_3 18 rfl rfl)
theorem dX6_readFor_91 : decode cX6_readFor 91 = .ok (.getfield 15, 3) := dk_180 0 15 (dk_at dksX6_readFor_3 19 rfl rfl)
theorem dX6_readFor_94 : decode cX6_readFor 94 = .ok (.bipush 63, 2) := dk_16 63 (dk_at dksX6_readFor_3 22 rfl rfl)
theorem dX6_readFor_96 : decode cX6_readFor 96 = .ok (.iaload, 1) := dk_46 (dk_at dksX6_readFor_4 0 rfl rfl)
theorem dX6_readFor_97 : decode cX6_readFor 97 = .ok (.iconst 1, 1) := dk_4 (dk_at dksX6_readFor_4 1 rfl rfl)
theorem dX6_readFor_98 : decode cX6_readFor 98 = .ok (.isub, 1) := dk_100 (dk_at dksX6_readFor_4 2 rfl rfl)
theorem dX6_readFor_99 : decode cX6_readFor 99 = .ok (.istore_n 3, 1) := dk_62 (dk_at dksX6_readFor_4 3 rfl rfl)
theorem dX6_readFor_100 : decode cX6_readFor 100 = .ok (.aload_n 0, 1) := dk_42 (dk_at dksX6_readFor_4 4 rfl rfl)
theorem dX6_readFor_101 : decode cX6_readFor 101 = .ok (.aload_n 0, 1) := dk_42 (dk_at dksX6_readFor_4 5 rfl rfl)
theorem dX6_readFor_102 : decode cX6_readFor 102 = .ok (.getfield 31, 3) := dk_180 0 31 (dk_at dksX6_readFor_4 6 rfl rfl)
theorem dX6_readFor_105 : decode cX6_readFor 105 = .ok (.iload_n 3, 1) := dk_29 (dk_at dksX6_readFor_4 9 rfl rfl)
theorem dX6_readFor_106 : decode cX6_readFor 106 = .ok (.iaload, 1) := dk_46 (dk_at dksX6_readFor_4 10 rfl rfl)
theorem dX6_readFor_107 : decode cX6_readFor 107 = .ok (.putfield 127, 3) := dk_181 0 127 (dk_at dksX6_readFor_4 11 rfl rfl)
theorem dX6_readFor_110 : decode cX6_readFor 110 = .ok (.iconst 0, 1) := dk_3 (dk_at dksX6_readFor_4 14 rfl rfl)
theorem dX6_readFor_111 : decode cX6_readFor 111 = .ok (.istore 4, 2) := dk_54 4 (dk_at dksX6_readFor_4 15 rfl rfl)
theorem dX6_readFor_113 : decode cX6_readFor 113 = .ok (.iload 4, 2) := dk_21 4 (dk_at dksX6_readFor_4 17 rfl rfl)
theorem dX6_readFor_115 : decode cX6_readFor 115 = .ok (.aload_n 0, 1) := dk_42 (dk_at dksX6_readFor_4 19 rfl rfl)
theorem dX6_readFor_116 : decode cX6_readFor 116 = .ok (.getfield 127, 3) := dk_180 0 127 (dk_at dksX6_readFor_4 20 rfl rfl)
theorem dX6_readFor_119 : decode cX6_readFor 119 = .ok (.if_icmp .ge 28, 3) := dk_162 0 28 (dk_at dksX6_readFor_5 0 rfl rfl)
theorem dX6_readFor_122 : decode cX6_readFor 122 = .ok (.aload_n 0, 1) := dk_42 (dk_at dksX6_readFor_5 3 rfl rfl)
theorem dX6_readFor_123 : decode cX6_readFor 123 = .ok (.getfield 34, 3) := dk_180 0 34 (dk_at dksX6_readFor_5 4 rfl rfl)
theorem dX6_readFor_126 : decode cX6_readFor 126 = .ok (.iload 4, 2) := dk_21 4 (dk_at dksX6_readFor_5 7 rfl rfl)
theorem dX6_readFor_128 : decode cX6_readFor 128 = .ok (.aload_n 0, 1) := dk_42 (dk_at dksX6_readFor_5 9 rfl rfl)
theorem dX6_readFor_129 : decode cX6_readFor 129 = .ok (.getfield 28, 3) := dk_180 0 28 (dk_at dksX6_readFor_5 10 rfl rfl)
theorem dX6_readFor_132 : decode cX6_readFor 132 = .ok (.bipush 100, 2) := dk_16 100 (dk_at dksX6_readFor_5 13 rfl rfl)
theorem dX6_readFor_134 : decode cX6_readFor 134 = .ok (.iload_n 3, 1) := dk_29 (dk_at dksX6_readFor_5 15 rfl rfl)
theorem dX6_readFor_135 : decode cX6_readFor 135 = .ok (.imul, 1) := dk_104 (dk_at dksX6_readFor_5 16 rfl rfl)
theorem dX6_readFor_136 : decode cX6_readFor 136 = .ok (.iload 4, 2) := dk_21 4 (dk_at dksX6_readFor_5 17 rfl rfl)
theorem dX6_readFor_138 : decode cX6_readFor 138 = .ok (.iadd, 1) := dk_96 (dk_at dksX6_readFor_5 19 rfl rfl)
theorem dX6_readFor_139 : decode cX6_readFor 139 = .ok (.iaload, 1) := dk_46 (dk_at dksX6_readFor_5 20 rfl rfl)
theorem dX6_readFor_140 : decode cX6_readFor 140 = .ok (.iastore, 1) := dk_79 (dk_at dksX6_readFor_5 21 rfl rfl)
theorem dX6_readFor_141 : decode cX6_readFor 141 = .ok (.iinc 4 1, 3) := dk_132 4 1 (dk_at dksX6_readFor_6 0 rfl rfl)
theorem dX6_readFor_144 : decode cX6_readFor 144 = .ok (.goto (-31), 3) := dk_167 255 225 (dk_at dksX6_readFor_6 3 rfl rfl)
theorem dX6_readFor_147 : decode cX6_readFor 147 = .ok (.aload_n 0, 1) := dk_42 (dk_at dksX6_readFor_6 6 rfl rfl)
theorem dX6_readFor_148 : decode cX6_readFor 148 = .ok (.invokevirtual 169, 3) := dk_182 0 169 (dk_at dksX6_readFor_6 7 rfl rfl)
theorem dX6_readFor_151 : decode cX6_readFor 151 = .ok (.pop, 1) := dk_87 (dk_at dksX6_readFor_6 10 rfl rfl)
theorem dX6_readFor_152 : decode cX6_readFor 152 = .ok (.aload_n 0, 1) := dk_42 (dk_at dksX6_readFor_6 11 rfl rfl)
theorem dX6_readFor_153 : decode cX6_readFor 153 = .ok (.dup, 1) := dk_89 (dk_at dksX6_readFor_6 12 rfl rfl)
theorem dX6_readFor_154 : decode cX6_readFor 154 = .ok (.getfield 163, 3) := dk_180 0 163 (dk_at dksX6_readFor_6 13 rfl rfl)
theorem dX6_readFor_157 : decode cX6_readFor 157 = .ok (.aload_n 0, 1) := dk_42 (dk_at dksX6_readFor_6 16 rfl rfl)
theorem dX6_readFor_158 : decode cX6_readFor 158 = .ok (.getfield 160, 3) := dk_180 0 160 (dk_at dksX6_readFor_6 17 rfl rfl)
theorem dX6_readFor_161 : decode cX6_readFor 161 = .ok (.iload_n 2, 1) := dk_28 (dk_at dksX6_readFor_6 20 rfl rfl)
theorem dX6_readFor_162 : decode cX6_readFor 162 = .ok (.imul, 1) := dk_104 (dk_at dksX6_readFor_6 21 rfl rfl)
theorem dX6_readFor_163 : decode cX6_readFor 163 = .ok (.isub, 1) := dk_100 (dk_at dksX6_readFor_6 22 rfl rfl)
theorem dX6_readFor_164 : decode cX6_readFor 164 = .ok (.putfield 163, 3) := dk_181 0 163 (dk_at dksX6_readFor_7 0 rfl rfl)
theorem dX6_readFor_167 : decode cX6_readFor 167 = .ok (.return_, 1) := dk_177 (dk_at dksX6_readFor_7 3 rfl rfl)
abbrev cX6_readAll : ByteArray := prog_23_method_29_code
def yX6_readAll : MethodName := ⟨RX6, "readAll", "()Z"⟩
def dkwX6_readAll_3 : List UInt8 := [180, 0, 124, 42, 180, 0, 127, 160, 0, 7, 4, 167, 0, 4, 3, 172]
abbrev dktX6_readAll_3 : List UInt8 := dkwX6_readAll_3 ++ []
def dkwX6_readAll_2 : List UInt8 := [96, 181, 0, 124, 42, 182, 0, 166, 132, 1, 1, 167, 255, 224, 42, 180, 0, 121, 153, 0, 18, 42]
abbrev dktX6_readAll_2 : List UInt8 := dkwX6_readAll_2 ++ dktX6_readAll_3
def dkwX6_readAll_1 : List UInt8 := [182, 0, 166, 27, 16, 10, 162, 0, 32, 42, 16, 59, 182, 0, 130, 153, 0, 23, 42, 89, 180, 0, 124, 4]
abbrev dktX6_readAll_1 : List UInt8 := dkwX6_readAll_1 ++ dktX6_readAll_2
def dkwX6_readAll_0 : List UInt8 := [42, 3, 181, 0, 124, 42, 4, 181, 0, 121, 42, 16, 20, 181, 0, 163, 42, 5, 181, 0, 160, 4, 60, 42]
abbrev dktX6_readAll_0 : List UInt8 := dkwX6_readAll_0 ++ dktX6_readAll_1
theorem dksX6_readAll_0 : cX6_readAll.data.toList.drop 0 = dktX6_readAll_0 := by decide +kernel
theorem dksX6_readAll_1 : cX6_readAll.data.toList.drop 24 = dktX6_readAll_1 := dk_seg dksX6_readAll_0 24 rfl rfl
theorem dksX6_readAll_2 : cX6_readAll.data.toList.drop 48 = dktX6_readAll_2 := dk_seg dksX6_readAll_1 24 rfl rfl
theorem dksX6_readAll_3 : cX6_readAll.data.toList.drop 70 = dktX6_readAll_3 := dk_seg dksX6_readAll_2 22 rfl rfl
theorem dX6_readAll_0 : decode cX6_readAll 0 = .ok (.aload_n 0, 1) := dk_42 (dk_at dksX6_readAll_0 0 rfl rfl)
theorem dX6_readAll_1 : decode cX6_readAll 1 = .ok (.iconst 0, 1) := dk_3 (dk_at dksX6_readAll_0 1 rfl rfl)
theorem dX6_readAll_2 : decode cX6_readAll 2 = .ok (.putfield 124, 3) := dk_181 0 124 (dk_at dksX6_readAll_0 2 rfl rfl)
theorem dX6_readAll_5 : decode cX6_readAll 5 = .ok (.aload_n 0, 1) := dk_42 (dk_at dksX6_readAll_0 5 rfl rfl)
theorem dX6_readAll_6 : decode cX6_readAll 6 = .ok (.iconst 1, 1) := dk_4 (dk_at dksX6_readAll_0 6 rfl rfl)
theorem dX6_readAll_7 : decode cX6_readAll 7 = .ok (.putfield 121, 3) := dk_181 0 121 (dk_at dksX6_readAll_0 7 rfl rfl)
theorem dX6_readAll_10 : decode cX6_readAll 10 = .ok (.aload_n 0, 1) := dk_42 (dk_at dksX6_readAll_0 10 rfl rfl)
theorem dX6_readAll_11 : decode cX6_readAll 11 = .ok (.bipush 20, 2) := dk_16 20 (dk_at dksX6_readAll_0 11 rfl rfl)
theorem dX6_readAll_13 : decode cX6_readAll 13 = .ok (.putfield 163, 3) := dk_181 0 163 (dk_at dksX6_readAll_0 13 rfl rfl)
theorem dX6_readAll_16 : decode cX6_readAll 16 = .ok (.aload_n 0, 1) := dk_42 (dk_at dksX6_readAll_0 16 rfl rfl)
theorem dX6_readAll_17 : decode cX6_readAll 17 = .ok (.iconst 2, 1) := dk_5 (dk_at dksX6_readAll_0 17 rfl rfl)
theorem dX6_readAll_18 : decode cX6_readAll 18 = .ok (.putfield 160, 3) := dk_181 0 160 (dk_at dksX6_readAll_0 18 rfl rfl)
theorem dX6_readAll_21 : decode cX6_readAll 21 = .ok (.iconst 1, 1) := dk_4 (dk_at dksX6_readAll_0 21 rfl rfl)
theorem dX6_readAll_22 : decode cX6_readAll 22 = .ok (.istore_n 1, 1) := dk_60 (dk_at dksX6_readAll_0 22 rfl rfl)
theorem dX6_readAll_23 : decode cX6_readAll 23 = .ok (.aload_n 0, 1) := dk_42 (dk_at dksX6_readAll_0 23 rfl rfl)
theorem dX6_readAll_24 : decode cX6_readAll 24 = .ok (.invokevirtual 166, 3) := dk_182 0 166 (dk_at dksX6_readAll_1 0 rfl rfl)
theorem dX6_readAll_27 : decode cX6_readAll 27 = .ok (.iload_n 1, 1) := dk_27 (dk_at dksX6_readAll_1 3 rfl rfl)
theorem dX6_readAll_28 : decode cX6_readAll 28 = .ok (.bipush 10, 2) := dk_16 10 (dk_at dksX6_readAll_1 4 rfl rfl)
theorem dX6_readAll_30 : decode cX6_readAll 30 = .ok (.if_icmp .ge 32, 3) := dk_162 0 32 (dk_at dksX6_readAll_1 6 rfl rfl)
theorem dX6_readAll_33 : decode cX6_readAll 33 = .ok (.aload_n 0, 1) := dk_42 (dk_at dksX6_readAll_1 9 rfl rfl)
theorem dX6_readAll_34 : decode cX6_readAll 34 = .ok (.bipush 59, 2) := dk_16 59 (dk_at dksX6_readAll_1 10 rfl rfl)
theorem dX6_readAll_36 : decode cX6_readAll 36 = .ok (.invokevirtual 130, 3) := dk_182 0 130 (dk_at dksX6_readAll_1 12 rfl rfl)
theorem dX6_readAll_39 : decode cX6_readAll 39 = .ok (.ifCond .eq 23, 3) := dk_153 0 23 (dk_at dksX6_readAll_1 15 rfl rfl)
theorem dX6_readAll_42 : decode cX6_readAll 42 = .ok (.aload_n 0, 1) := dk_42 (dk_at dksX6_readAll_1 18 rfl rfl)
theorem dX6_readAll_43 : decode cX6_readAll 43 = .ok (.dup, 1) := dk_89 (dk_at dksX6_readAll_1 19 rfl rfl)
theorem dX6_readAll_44 : decode cX6_readAll 44 = .ok (.getfield 124, 3) := dk_180 0 124 (dk_at dksX6_readAll_1 20 rfl rfl)
theorem dX6_readAll_47 : decode cX6_readAll 47 = .ok (.iconst 1, 1) := dk_4 (dk_at dksX6_readAll_1 23 rfl rfl)
theorem dX6_readAll_48 : decode cX6_readAll 48 = .ok (.iadd, 1) := dk_96 (dk_at dksX6_readAll_2 0 rfl rfl)
theorem dX6_readAll_49 : decode cX6_readAll 49 = .ok (.putfield 124, 3) := dk_181 0 124 (dk_at dksX6_readAll_2 1 rfl rfl)
theorem dX6_readAll_52 : decode cX6_readAll 52 = .ok (.aload_n 0, 1) := dk_42 (dk_at dksX6_readAll_2 4 rfl rfl)
theorem dX6_readAll_53 : decode cX6_readAll 53 = .ok (.invokevirtual 166, 3) := dk_182 0 166 (dk_at dksX6_readAll_2 5 rfl rfl)
theorem dX6_readAll_56 : decode cX6_readAll 56 = .ok (.iinc 1 1, 3) := dk_132 1 1 (dk_at dksX6_readAll_2 8 rfl rfl)
theorem dX6_readAll_59 : decode cX6_readAll 59 = .ok (.goto (-32), 3) := dk_167 255 224 (dk_at dksX6_readAll_2 11 rfl rfl)
theorem dX6_readAll_62 : decode cX6_readAll 62 = .ok (.aload_n 0, 1) := dk_42 (dk_at dksX6_readAll_2 14 rfl rfl)
theorem dX6_readAll_63 : decode cX6_readAll 63 = .ok (.getfield 121, 3) := dk_180 0 121 (dk_at dksX6_readAll_2 15 rfl rfl)
theorem dX6_readAll_66 : decode cX6_readAll 66 = .ok (.ifCond .eq 18, 3) := dk_153 0 18 (dk_at dksX6_readAll_2 18 rfl rfl)
theorem dX6_readAll_69 : decode cX6_readAll 69 = .ok (.aload_n 0, 1) := dk_42 (dk_at dksX6_readAll_2 21 rfl rfl)
theorem dX6_readAll_70 : decode cX6_readAll 70 = .ok (.getfield 124, 3) := dk_180 0 124 (dk_at dksX6_readAll_3 0 rfl rfl)
theorem dX6_readAll_73 : decode cX6_readAll 73 = .ok (.aload_n 0, 1) := dk_42 (dk_at dksX6_readAll_3 3 rfl rfl)
theorem dX6_readAll_74 : decode cX6_readAll 74 = .ok (.getfield 127, 3) := dk_180 0 127 (dk_at dksX6_readAll_3 4 rfl rfl)
theorem dX6_readAll_77 : decode cX6_readAll 77 = .ok (.if_icmp .ne 7, 3) := dk_160 0 7 (dk_at dksX6_readAll_3 7 rfl rfl)
theorem dX6_readAll_80 : decode cX6_readAll 80 = .ok (.iconst 1, 1) := dk_4 (dk_at dksX6_readAll_3 10 rfl rfl)
theorem dX6_readAll_81 : decode cX6_readAll 81 = .ok (.goto 4, 3) := dk_167 0 4 (dk_at dksX6_readAll_3 11 rfl rfl)
theorem dX6_readAll_84 : decode cX6_readAll 84 = .ok (.iconst 0, 1) := dk_3 (dk_at dksX6_readAll_3 14 rfl rfl)
theorem dX6_readAll_85 : decode cX6_readAll 85 = .ok (.ireturn, 1) := dk_172 (dk_at dksX6_readAll_3 15 rfl rfl)
abbrev cX6_clause : ByteArray := prog_23_method_28_code
def yX6_clause : MethodName := ⟨RX6, "clause", "()V"⟩
def dkwX6_clause_6 : List UInt8 := [167, 0, 5, 28, 116, 96, 181, 0, 163, 177]
abbrev dktX6_clause_6 : List UInt8 := dkwX6_clause_6 ++ []
def dkwX6_clause_5 : List UInt8 := [182, 0, 151, 62, 42, 89, 180, 0, 163, 29, 154, 0, 7, 3, 167, 0, 13, 27, 154, 0, 7, 28]
abbrev dktX6_clause_5 : List UInt8 := dkwX6_clause_5 ++ dktX6_clause_6
def dkwX6_clause_4 : List UInt8 := [61, 27, 5, 160, 0, 9, 42, 28, 181, 0, 160, 177, 42, 16, 32, 182, 0, 137, 42, 3, 181, 0, 145, 42]
abbrev dktX6_clause_4 : List UInt8 := dkwX6_clause_4 ++ dktX6_clause_5
def dkwX6_clause_3 : List UInt8 := [27, 104, 28, 96, 52, 182, 0, 137, 132, 2, 1, 167, 255, 221, 42, 16, 32, 182, 0, 137, 42, 182, 0, 141]
abbrev dktX6_clause_3 : List UInt8 := dkwX6_clause_3 ++ dktX6_clause_4
def dkwX6_clause_2 : List UInt8 := [28, 8, 162, 0, 36, 42, 180, 0, 47, 8, 27, 104, 28, 96, 52, 153, 0, 23, 42, 42, 180, 0, 47, 8]
abbrev dktX6_clause_2 : List UInt8 := dkwX6_clause_2 ++ dktX6_clause_3
def dkwX6_clause_1 : List UInt8 := [167, 0, 4, 27, 60, 132, 2, 1, 167, 255, 229, 27, 2, 160, 0, 9, 42, 3, 181, 0, 121, 177, 3, 61]
abbrev dktX6_clause_1 : List UInt8 := dkwX6_clause_1 ++ dktX6_clause_2
def dkwX6_clause_0 : List UInt8 := [2, 60, 3, 61, 28, 6, 162, 0, 28, 42, 42, 180, 0, 44, 28, 52, 182, 0, 130, 153, 0, 7, 28]
abbrev dktX6_clause_0 : List UInt8 := dkwX6_clause_0 ++ dktX6_clause_1
theorem dksX6_clause_0 : cX6_clause.data.toList.drop 0 = dktX6_clause_0 := by decide +kernel
theorem dksX6_clause_1 : cX6_clause.data.toList.drop 23 = dktX6_clause_1 := dk_seg dksX6_clause_0 23 rfl rfl
theorem dksX6_clause_2 : cX6_clause.data.toList.drop 47 = dktX6_clause_2 := dk_seg dksX6_clause_1 24 rfl rfl
theorem dksX6_clause_3 : cX6_clause.data.toList.drop 71 = dktX6_clause_3 := dk_seg dksX6_clause_2 24 rfl rfl
theorem dksX6_clause_4 : cX6_clause.data.toList.drop 95 = dktX6_clause_4 := dk_seg dksX6_clause_3 24 rfl rfl
theorem dksX6_clause_5 : cX6_clause.data.toList.drop 119 = dktX6_clause_5 := dk_seg dksX6_clause_4 24 rfl rfl
theorem dksX6_clause_6 : cX6_clause.data.toList.drop 141 = dktX6_clause_6 := dk_seg dksX6_clause_5 22 rfl rfl
theorem dX6_clause_0 : decode cX6_clause 0 = .ok (.iconst (-1), 1) := dk_2 (dk_at dksX6_clause_0 0 rfl rfl)
theorem dX6_clause_1 : decode cX6_clause 1 = .ok (.istore_n 1, 1) := dk_60 (dk_at dksX6_clause_0 1 rfl rfl)
theorem dX6_clause_2 : decode cX6_clause 2 = .ok (.iconst 0, 1) := dk_3 (dk_at dksX6_clause_0 2 rfl rfl)
theorem dX6_clause_3 : decode cX6_clause 3 = .ok (.istore_n 2, 1) := dk_61 (dk_at dksX6_clause_0 3 rfl rfl)
theorem dX6_clause_4 : decode cX6_clause 4 = .ok (.iload_n 2, 1) := dk_28 (dk_at dksX6_clause_0 4 rfl rfl)
theorem dX6_clause_5 : decode cX6_clause 5 = .ok (.iconst 3, 1) := dk_6 (dk_at dksX6_clause_0 5 rfl rfl)
theorem dX6_clause_6 : decode cX6_clause 6 = .ok (.if_icmp .ge 28, 3) := dk_162 0 28 (dk_at dksX6_clause_0 6 rfl rfl)
theorem dX6_clause_9 : decode cX6_clause 9 = .ok (.aload_n 0, 1) := dk_42 (dk_at dksX6_clause_0 9 rfl rfl)
theorem dX6_clause_10 : decode cX6_clause 10 = .ok (.aload_n 0, 1) := dk_42 (dk_at dksX6_clause_0 10 rfl rfl)
theorem dX6_clause_11 : decode cX6_clause 11 = .ok (.getfield 44, 3) := dk_180 0 44 (dk_at dksX6_clause_0 11 rfl rfl)
theorem dX6_clause_14 : decode cX6_clause 14 = .ok (.iload_n 2, 1) := dk_28 (dk_at dksX6_clause_0 14 rfl rfl)
theorem dX6_clause_15 : decode cX6_clause 15 = .ok (.caload, 1) := dk_52 (dk_at dksX6_clause_0 15 rfl rfl)
theorem dX6_clause_16 : decode cX6_clause 16 = .ok (.invokevirtual 130, 3) := dk_182 0 130 (dk_at dksX6_clause_0 16 rfl rfl)
theorem dX6_clause_19 : decode cX6_clause 19 = .ok (.ifCond .eq 7, 3) := dk_153 0 7 (dk_at dksX6_clause_0 19 rfl rfl)
theorem dX6_clause_22 : decode cX6_clause 22 = .ok (.iload_n 2, 1) := dk_28 (dk_at dksX6_clause_0 22 rfl rfl)
theorem dX6_clause_23 : decode cX6_clause 23 = .ok (.goto 4, 3) := dk_167 0 4 (dk_at dksX6_clause_1 0 rfl rfl)
theorem dX6_clause_26 : decode cX6_clause 26 = .ok (.iload_n 1, 1) := dk_27 (dk_at dksX6_clause_1 3 rfl rfl)
theorem dX6_clause_27 : decode cX6_clause 27 = .ok (.istore_n 1, 1) := dk_60 (dk_at dksX6_clause_1 4 rfl rfl)
theorem dX6_clause_28 : decode cX6_clause 28 = .ok (.iinc 2 1, 3) := dk_132 2 1 (dk_at dksX6_clause_1 5 rfl rfl)
theorem dX6_clause_31 : decode cX6_clause 31 = .ok (.goto (-27), 3) := dk_167 255 229 (dk_at dksX6_clause_1 8 rfl rfl)
theorem dX6_clause_34 : decode cX6_clause 34 = .ok (.iload_n 1, 1) := dk_27 (dk_at dksX6_clause_1 11 rfl rfl)
theorem dX6_clause_35 : decode cX6_clause 35 = .ok (.iconst (-1), 1) := dk_2 (dk_at dksX6_clause_1 12 rfl rfl)
theorem dX6_clause_36 : decode cX6_clause 36 = .ok (.if_icmp .ne 9, 3) := dk_160 0 9 (dk_at dksX6_clause_1 13 rfl rfl)
theorem dX6_clause_39 : decode cX6_clause 39 = .ok (.aload_n 0, 1) := dk_42 (dk_at dksX6_clause_1 16 rfl rfl)
theorem dX6_clause_40 : decode cX6_clause 40 = .ok (.iconst 0, 1) := dk_3 (dk_at dksX6_clause_1 17 rfl rfl)
theorem dX6_clause_41 : decode cX6_clause 41 = .ok (.putfield 121, 3) := dk_181 0 121 (dk_at dksX6_clause_1 18 rfl rfl)
theorem dX6_clause_44 : decode cX6_clause 44 = .ok (.return_, 1) := dk_177 (dk_at dksX6_clause_1 21 rfl rfl)
theorem dX6_clause_45 : decode cX6_clause 45 = .ok (.iconst 0, 1) := dk_3 (dk_at dksX6_clause_1 22 rfl rfl)
theorem dX6_clause_46 : decode cX6_clause 46 = .ok (.istore_n 2, 1) := dk_61 (dk_at dksX6_clause_1 23 rfl rfl)
theorem dX6_clause_47 : decode cX6_clause 47 = .ok (.iload_n 2, 1) := dk_28 (dk_at dksX6_clause_2 0 rfl rfl)
theorem dX6_clause_48 : decode cX6_clause 48 = .ok (.iconst 5, 1) := dk_8 (dk_at dksX6_clause_2 1 rfl rfl)
theorem dX6_clause_49 : decode cX6_clause 49 = .ok (.if_icmp .ge 36, 3) := dk_162 0 36 (dk_at dksX6_clause_2 2 rfl rfl)
theorem dX6_clause_52 : decode cX6_clause 52 = .ok (.aload_n 0, 1) := dk_42 (dk_at dksX6_clause_2 5 rfl rfl)
theorem dX6_clause_53 : decode cX6_clause 53 = .ok (.getfield 47, 3) := dk_180 0 47 (dk_at dksX6_clause_2 6 rfl rfl)
theorem dX6_clause_56 : decode cX6_clause 56 = .ok (.iconst 5, 1) := dk_8 (dk_at dksX6_clause_2 9 rfl rfl)
theorem dX6_clause_57 : decode cX6_clause 57 = .ok (.iload_n 1, 1) := dk_27 (dk_at dksX6_clause_2 10 rfl rfl)
theorem dX6_clause_58 : decode cX6_clause 58 = .ok (.imul, 1) := dk_104 (dk_at dksX6_clause_2 11 rfl rfl)
theorem dX6_clause_59 : decode cX6_clause 59 = .ok (.iload_n 2, 1) := dk_28 (dk_at dksX6_clause_2 12 rfl rfl)
theorem dX6_clause_60 : decode cX6_clause 60 = .ok (.iadd, 1) := dk_96 (dk_at dksX6_clause_2 13 rfl rfl)
theorem dX6_clause_61 : decode cX6_clause 61 = .ok (.caload, 1) := dk_52 (dk_at dksX6_clause_2 14 rfl rfl)
theorem dX6_clause_62 : decode cX6_clause 62 = .ok (.ifCond .eq 23, 3) := dk_153 0 23 (dk_at dksX6_clause_2 15 rfl rfl)
theorem dX6_clause_65 : decode cX6_clause 65 = .ok (.aload_n 0, 1) := dk_42 (dk_at dksX6_clause_2 18 rfl rfl)
theorem dX6_clause_66 : decode cX6_clause 66 = .ok (.aload_n 0, 1) := dk_42 (dk_at dksX6_clause_2 19 rfl rfl)
theorem dX6_clause_67 : decode cX6_clause 67 = .ok (.getfield 47, 3) := dk_180 0 47 (dk_at dksX6_clause_2 20 rfl rfl)
theorem dX6_clause_70 : decode cX6_clause 70 = .ok (.iconst 5, 1) := dk_8 (dk_at dksX6_clause_2 23 rfl rfl)
theorem dX6_clause_71 : decode cX6_clause 71 = .ok (.iload_n 1, 1) := dk_27 (dk_at dksX6_clause_3 0 rfl rfl)
theorem dX6_clause_72 : decode cX6_clause 72 = .ok (.imul, 1) := dk_104 (dk_at dksX6_clause_3 1 rfl rfl)
theorem dX6_clause_73 : decode cX6_clause 73 = .ok (.iload_n 2, 1) := dk_28 (dk_at dksX6_clause_3 2 rfl rfl)
theorem dX6_clause_74 : decode cX6_clause 74 = .ok (.iadd, 1) := dk_96 (dk_at dksX6_clause_3 3 rfl rfl)
theorem dX6_clause_75 : decode cX6_clause 75 = .ok (.caload, 1) := dk_52 (dk_at dksX6_clause_3 4 rfl rfl)
theorem dX6_clause_76 : decode cX6_clause 76 = .ok (.invokevirtual 137, 3) := dk_182 0 137 (dk_at dksX6_clause_3 5 rfl rfl)
theorem dX6_clause_79 : decode cX6_clause 79 = .ok (.iinc 2 1, 3) := dk_132 2 1 (dk_at dksX6_clause_3 8 rfl rfl)
theorem dX6_clause_82 : decode cX6_clause 82 = .ok (.goto (-35), 3) := dk_167 255 221 (dk_at dksX6_clause_3 11 rfl rfl)
theorem dX6_clause_85 : decode cX6_clause 85 = .ok (.aload_n 0, 1) := dk_42 (dk_at dksX6_clause_3 14 rfl rfl)
theorem dX6_clause_86 : decode cX6_clause 86 = .ok (.bipush 32, 2) := dk_16 32 (dk_at dksX6_clause_3 15 rfl rfl)
theorem dX6_clause_88 : decode cX6_clause 88 = .ok (.invokevirtual 137, 3) := dk_182 0 137 (dk_at dksX6_clause_3 17 rfl rfl)
theorem dX6_clause_91 : decode cX6_clause 91 = .ok (.aload_n 0, 1) := dk_42 (dk_at dksX6_clause_3 20 rfl rfl)
theorem dX6_clause_92 : decode cX6_clause 92 = .ok (.invokevirtual 141, 3) := dk_182 0 141 (dk_at dksX6_clause_3 21 rfl rfl)
theorem dX6_clause_95 : decode cX6_clause 95 = .ok (.istore_n 2, 1) := dk_61 (dk_at dksX6_clause_4 0 rfl rfl)
theorem dX6_clause_96 : decode cX6_clause 96 = .ok (.iload_n 1, 1) := dk_27 (dk_at dksX6_clause_4 1 rfl rfl)
theorem dX6_clause_97 : decode cX6_clause 97 = .ok (.iconst 2, 1) := dk_5 (dk_at dksX6_clause_4 2 rfl rfl)
theorem dX6_clause_98 : decode cX6_clause 98 = .ok (.if_icmp .ne 9, 3) := dk_160 0 9 (dk_at dksX6_clause_4 3 rfl rfl)
theorem dX6_clause_101 : decode cX6_clause 101 = .ok (.aload_n 0, 1) := dk_42 (dk_at dksX6_clause_4 6 rfl rfl)
theorem dX6_clause_102 : decode cX6_clause 102 = .ok (.iload_n 2, 1) := dk_28 (dk_at dksX6_clause_4 7 rfl rfl)
theorem dX6_clause_103 : decode cX6_clause 103 = .ok (.putfield 160, 3) := dk_181 0 160 (dk_at dksX6_clause_4 8 rfl rfl)
theorem dX6_clause_106 : decode cX6_clause 106 = .ok (.return_, 1) := dk_177 (dk_at dksX6_clause_4 11 rfl rfl)
theorem dX6_clause_107 : decode cX6_clause 107 = .ok (.aload_n 0, 1) := dk_42 (dk_at dksX6_clause_4 12 rfl rfl)
theorem dX6_clause_108 : decode cX6_clause 108 = .ok (.bipush 32, 2) := dk_16 32 (dk_at dksX6_clause_4 13 rfl rfl)
theorem dX6_clause_110 : decode cX6_clause 110 = .ok (.invokevirtual 137, 3) := dk_182 0 137 (dk_at dksX6_clause_4 15 rfl rfl)
theorem dX6_clause_113 : decode cX6_clause 113 = .ok (.aload_n 0, 1) := dk_42 (dk_at dksX6_clause_4 18 rfl rfl)
theorem dX6_clause_114 : decode cX6_clause 114 = .ok (.iconst 0, 1) := dk_3 (dk_at dksX6_clause_4 19 rfl rfl)
theorem dX6_clause_115 : decode cX6_clause 115 = .ok (.putfield 145, 3) := dk_181 0 145 (dk_at dksX6_clause_4 20 rfl rfl)
theorem dX6_clause_118 : decode cX6_clause 118 = .ok (.aload_n 0, 1) := dk_42 (dk_at dksX6_clause_4 23 rfl rfl)
theorem dX6_clause_119 : decode cX6_clause 119 = .ok (.invokevirtual 151, 3) := dk_182 0 151 (dk_at dksX6_clause_5 0 rfl rfl)
theorem dX6_clause_122 : decode cX6_clause 122 = .ok (.istore_n 3, 1) := dk_62 (dk_at dksX6_clause_5 3 rfl rfl)
theorem dX6_clause_123 : decode cX6_clause 123 = .ok (.aload_n 0, 1) := dk_42 (dk_at dksX6_clause_5 4 rfl rfl)
theorem dX6_clause_124 : decode cX6_clause 124 = .ok (.dup, 1) := dk_89 (dk_at dksX6_clause_5 5 rfl rfl)
theorem dX6_clause_125 : decode cX6_clause 125 = .ok (.getfield 163, 3) := dk_180 0 163 (dk_at dksX6_clause_5 6 rfl rfl)
theorem dX6_clause_128 : decode cX6_clause 128 = .ok (.iload_n 3, 1) := dk_29 (dk_at dksX6_clause_5 9 rfl rfl)
theorem dX6_clause_129 : decode cX6_clause 129 = .ok (.ifCond .ne 7, 3) := dk_154 0 7 (dk_at dksX6_clause_5 10 rfl rfl)
theorem dX6_clause_132 : decode cX6_clause 132 = .ok (.iconst 0, 1) := dk_3 (dk_at dksX6_clause_5 13 rfl rfl)
theorem dX6_clause_133 : decode cX6_clause 133 = .ok (.goto 13, 3) := dk_167 0 13 (dk_at dksX6_clause_5 14 rfl rfl)
theorem dX6_clause_136 : decode cX6_clause 136 = .ok (.iload_n 1, 1) := dk_27 (dk_at dksX6_clause_5 17 rfl rfl)
theorem dX6_clause_137 : decode cX6_clause 137 = .ok (.ifCond .ne 7, 3) := dk_154 0 7 (dk_at dksX6_clause_5 18 rfl rfl)
theorem dX6_clause_140 : decode cX6_clause 140 = .ok (.iload_n 2, 1) := dk_28 (dk_at dksX6_clause_5 21 rfl rfl)
theorem dX6_clause_141 : decode cX6_clause 141 = .ok (.goto 5, 3) := dk_167 0 5 (dk_at dksX6_clause_6 0 rfl rfl)
theorem dX6_clause_144 : decode cX6_clause 144 = .ok (.iload_n 2, 1) := dk_28 (dk_at dksX6_clause_6 3 rfl rfl)
theorem dX6_clause_145 : decode cX6_clause 145 = .ok (.ineg, 1) := dk_116 (dk_at dksX6_clause_6 4 rfl rfl)
theorem dX6_clause_146 : decode cX6_clause 146 = .ok (.iadd, 1) := dk_96 (dk_at dksX6_clause_6 5 rfl rfl)
theorem dX6_clause_147 : decode cX6_clause 147 = .ok (.putfield 163, 3) := dk_181 0 163 (dk_at dksX6_clause_6 6 rfl rfl)
theorem dX6_clause_150 : decode cX6_clause 150 = .ok (.return_, 1) := dk_177 (dk_at dksX6_clause_6 9 rfl rfl)
abbrev cX6_isAt : ByteArray := prog_23_method_20_code
def yX6_isAt : MethodName := ⟨RX6, "isAt", "(I)Z"⟩
def dkwX6_isAt_1 : List UInt8 := [180, 0, 124, 46, 27, 160, 0, 7, 4, 167, 0, 4, 3, 172]
abbrev dktX6_isAt_1 : List UInt8 := dkwX6_isAt_1 ++ []
def dkwX6_isAt_0 : List UInt8 := [42, 180, 0, 121, 153, 0, 31, 42, 180, 0, 124, 42, 180, 0, 127, 162, 0, 20, 42, 180, 0, 34, 42]
abbrev dktX6_isAt_0 : List UInt8 := dkwX6_isAt_0 ++ dktX6_isAt_1
theorem dksX6_isAt_0 : cX6_isAt.data.toList.drop 0 = dktX6_isAt_0 := by decide +kernel
theorem dksX6_isAt_1 : cX6_isAt.data.toList.drop 23 = dktX6_isAt_1 := dk_seg dksX6_isAt_0 23 rfl rfl
theorem dX6_isAt_0 : decode cX6_isAt 0 = .ok (.aload_n 0, 1) := dk_42 (dk_at dksX6_isAt_0 0 rfl rfl)
theorem dX6_isAt_1 : decode cX6_isAt 1 = .ok (.getfield 121, 3) := dk_180 0 121 (dk_at dksX6_isAt_0 1 rfl rfl)
theorem dX6_isAt_4 : decode cX6_isAt 4 = .ok (.ifCond .eq 31, 3) := dk_153 0 31 (dk_at dksX6_isAt_0 4 rfl rfl)
theorem dX6_isAt_7 : decode cX6_isAt 7 = .ok (.aload_n 0, 1) := dk_42 (dk_at dksX6_isAt_0 7 rfl rfl)
theorem dX6_isAt_8 : decode cX6_isAt 8 = .ok (.getfield 124, 3) := dk_180 0 124 (dk_at dksX6_isAt_0 8 rfl rfl)
theorem dX6_isAt_11 : decode cX6_isAt 11 = .ok (.aload_n 0, 1) := dk_42 (dk_at dksX6_isAt_0 11 rfl rfl)
theorem dX6_isAt_12 : decode cX6_isAt 12 = .ok (.getfield 127, 3) := dk_180 0 127 (dk_at dksX6_isAt_0 12 rfl rfl)
theorem dX6_isAt_15 : decode cX6_isAt 15 = .ok (.if_icmp .ge 20, 3) := dk_162 0 20 (dk_at dksX6_isAt_0 15 rfl rfl)
theorem dX6_isAt_18 : decode cX6_isAt 18 = .ok (.aload_n 0, 1) := dk_42 (dk_at dksX6_isAt_0 18 rfl rfl)
theorem dX6_isAt_19 : decode cX6_isAt 19 = .ok (.getfield 34, 3) := dk_180 0 34 (dk_at dksX6_isAt_0 19 rfl rfl)
theorem dX6_isAt_22 : decode cX6_isAt 22 = .ok (.aload_n 0, 1) := dk_42 (dk_at dksX6_isAt_0 22 rfl rfl)
theorem dX6_isAt_23 : decode cX6_isAt 23 = .ok (.getfield 124, 3) := dk_180 0 124 (dk_at dksX6_isAt_1 0 rfl rfl)
theorem dX6_isAt_26 : decode cX6_isAt 26 = .ok (.iaload, 1) := dk_46 (dk_at dksX6_isAt_1 3 rfl rfl)
theorem dX6_isAt_27 : decode cX6_isAt 27 = .ok (.iload_n 1, 1) := dk_27 (dk_at dksX6_isAt_1 4 rfl rfl)
theorem dX6_isAt_28 : decode cX6_isAt 28 = .ok (.if_icmp .ne 7, 3) := dk_160 0 7 (dk_at dksX6_isAt_1 5 rfl rfl)
theorem dX6_isAt_31 : decode cX6_isAt 31 = .ok (.iconst 1, 1) := dk_4 (dk_at dksX6_isAt_1 8 rfl rfl)
theorem dX6_isAt_32 : decode cX6_isAt 32 = .ok (.goto 4, 3) := dk_167 0 4 (dk_at dksX6_isAt_1 9 rfl rfl)
theorem dX6_isAt_35 : decode cX6_isAt 35 = .ok (.iconst 0, 1) := dk_3 (dk_at dksX6_isAt_1 12 rfl rfl)
theorem dX6_isAt_36 : decode cX6_isAt 36 = .ok (.ireturn, 1) := dk_172 (dk_at dksX6_isAt_1 13 rfl rfl)
abbrev cX6_takes : ByteArray := prog_23_method_21_code
def yX6_takes : MethodName := ⟨RX6, "takes", "(I)V"⟩
def dkwX6_takes_1 : List UInt8 := [181, 0, 121, 177]
abbrev dktX6_takes_1 : List UInt8 := dkwX6_takes_1 ++ []
def dkwX6_takes_0 : List UInt8 := [42, 27, 182, 0, 130, 153, 0, 16, 42, 89, 180, 0, 124, 4, 96, 181, 0, 124, 167, 0, 8, 42, 3]
abbrev dktX6_takes_0 : List UInt8 := dkwX6_takes_0 ++ dktX6_takes_1
theorem dksX6_takes_0 : cX6_takes.data.toList.drop 0 = dktX6_takes_0 := by decide +kernel
theorem dksX6_takes_1 : cX6_takes.data.toList.drop 23 = dktX6_takes_1 := dk_seg dksX6_takes_0 23 rfl rfl
theorem dX6_takes_0 : decode cX6_takes 0 = .ok (.aload_n 0, 1) := dk_42 (dk_at dksX6_takes_0 0 rfl rfl)
theorem dX6_takes_1 : decode cX6_takes 1 = .ok (.iload_n 1, 1) := dk_27 (dk_at dksX6_takes_0 1 rfl rfl)
theorem dX6_takes_2 : decode cX6_takes 2 = .ok (.invokevirtual 130, 3) := dk_182 0 130 (dk_at dksX6_takes_0 2 rfl rfl)
theorem dX6_takes_5 : decode cX6_takes 5 = .ok (.ifCond .eq 16, 3) := dk_153 0 16 (dk_at dksX6_takes_0 5 rfl rfl)
theorem dX6_takes_8 : decode cX6_takes 8 = .ok (.aload_n 0, 1) := dk_42 (dk_at dksX6_takes_0 8 rfl rfl)
theorem dX6_takes_9 : decode cX6_takes 9 = .ok (.dup, 1) := dk_89 (dk_at dksX6_takes_0 9 rfl rfl)
theorem dX6_takes_10 : decode cX6_takes 10 = .ok (.getfield 124, 3) := dk_180 0 124 (dk_at dksX6_takes_0 10 rfl rfl)
theorem dX6_takes_13 : decode cX6_takes 13 = .ok (.iconst 1, 1) := dk_4 (dk_at dksX6_takes_0 13 rfl rfl)
theorem dX6_takes_14 : decode cX6_takes 14 = .ok (.iadd, 1) := dk_96 (dk_at dksX6_takes_0 14 rfl rfl)
theorem dX6_takes_15 : decode cX6_takes 15 = .ok (.putfield 124, 3) := dk_181 0 124 (dk_at dksX6_takes_0 15 rfl rfl)
theorem dX6_takes_18 : decode cX6_takes 18 = .ok (.goto 8, 3) := dk_167 0 8 (dk_at dksX6_takes_0 18 rfl rfl)
theorem dX6_takes_21 : decode cX6_takes 21 = .ok (.aload_n 0, 1) := dk_42 (dk_at dksX6_takes_0 21 rfl rfl)
theorem dX6_takes_22 : decode cX6_takes 22 = .ok (.iconst 0, 1) := dk_3 (dk_at dksX6_takes_0 22 rfl rfl)
theorem dX6_takes_23 : decode cX6_takes 23 = .ok (.putfield 121, 3) := dk_181 0 121 (dk_at dksX6_takes_1 0 rfl rfl)
theorem dX6_takes_26 : decode cX6_takes 26 = .ok (.return_, 1) := dk_177 (dk_at dksX6_takes_1 3 rfl rfl)
abbrev cX6_number : ByteArray := prog_23_method_23_code
def yX6_number : MethodName := ⟨RX6, "number", "()I"⟩
def dkwX6_number_3 : List UInt8 := [181, 0, 124, 27, 172]
abbrev dktX6_number_3 : List UInt8 := dkwX6_number_3 ++ []
def dkwX6_number_2 : List UInt8 := [104, 42, 180, 0, 34, 42, 180, 0, 124, 46, 96, 16, 48, 100, 60, 42, 89, 180, 0, 124, 4, 96]
abbrev dktX6_number_2 : List UInt8 := dkwX6_number_2 ++ dktX6_number_3
def dkwX6_number_1 : List UInt8 := [16, 48, 100, 60, 42, 89, 180, 0, 124, 4, 96, 181, 0, 124, 42, 182, 0, 133, 153, 0, 31, 16, 10, 27]
abbrev dktX6_number_1 : List UInt8 := dkwX6_number_1 ++ dktX6_number_2
def dkwX6_number_0 : List UInt8 := [42, 182, 0, 133, 154, 0, 10, 42, 3, 181, 0, 121, 3, 172, 42, 180, 0, 34, 42, 180, 0, 124, 46]
abbrev dktX6_number_0 : List UInt8 := dkwX6_number_0 ++ dktX6_number_1
theorem dksX6_number_0 : cX6_number.data.toList.drop 0 = dktX6_number_0 := by decide +kernel
theorem dksX6_number_1 : cX6_number.data.toList.drop 23 = dktX6_number_1 := dk_seg dksX6_number_0 23 rfl rfl
theorem dksX6_number_2 : cX6_number.data.toList.drop 47 = dktX6_number_2 := dk_seg dksX6_number_1 24 rfl rfl
theorem dksX6_number_3 : cX6_number.data.toList.drop 69 = dktX6_number_3 := dk_seg dksX6_number_2 22 rfl rfl
theorem dX6_number_0 : decode cX6_number 0 = .ok (.aload_n 0, 1) := dk_42 (dk_at dksX6_number_0 0 rfl rfl)
theorem dX6_number_1 : decode cX6_number 1 = .ok (.invokevirtual 133, 3) := dk_182 0 133 (dk_at dksX6_number_0 1 rfl rfl)
theorem dX6_number_4 : decode cX6_number 4 = .ok (.ifCond .ne 10, 3) := dk_154 0 10 (dk_at dksX6_number_0 4 rfl rfl)
theorem dX6_number_7 : decode cX6_number 7 = .ok (.aload_n 0, 1) := dk_42 (dk_at dksX6_number_0 7 rfl rfl)
theorem dX6_number_8 : decode cX6_number 8 = .ok (.iconst 0, 1) := dk_3 (dk_at dksX6_number_0 8 rfl rfl)
theorem dX6_number_9 : decode cX6_number 9 = .ok (.putfield 121, 3) := dk_181 0 121 (dk_at dksX6_number_0 9 rfl rfl)
theorem dX6_number_12 : decode cX6_number 12 = .ok (.iconst 0, 1) := dk_3 (dk_at dksX6_number_0 12 rfl rfl)
theorem dX6_number_13 : decode cX6_number 13 = .ok (.ireturn, 1) := dk_172 (dk_at dksX6_number_0 13 rfl rfl)
theorem dX6_number_14 : decode cX6_number 14 = .ok (.aload_n 0, 1) := dk_42 (dk_at dksX6_number_0 14 rfl rfl)
theorem dX6_number_15 : decode cX6_number 15 = .ok (.getfield 34, 3) := dk_180 0 34 (dk_at dksX6_number_0 15 rfl rfl)
theorem dX6_number_18 : decode cX6_number 18 = .ok (.aload_n 0, 1) := dk_42 (dk_at dksX6_number_0 18 rfl rfl)
theorem dX6_number_19 : decode cX6_number 19 = .ok (.getfield 124, 3) := dk_180 0 124 (dk_at dksX6_number_0 19 rfl rfl)
theorem dX6_number_22 : decode cX6_number 22 = .ok (.iaload, 1) := dk_46 (dk_at dksX6_number_0 22 rfl rfl)
theorem dX6_number_23 : decode cX6_number 23 = .ok (.bipush 48, 2) := dk_16 48 (dk_at dksX6_number_1 0 rfl rfl)
theorem dX6_number_25 : decode cX6_number 25 = .ok (.isub, 1) := dk_100 (dk_at dksX6_number_1 2 rfl rfl)
theorem dX6_number_26 : decode cX6_number 26 = .ok (.istore_n 1, 1) := dk_60 (dk_at dksX6_number_1 3 rfl rfl)
theorem dX6_number_27 : decode cX6_number 27 = .ok (.aload_n 0, 1) := dk_42 (dk_at dksX6_number_1 4 rfl rfl)
theorem dX6_number_28 : decode cX6_number 28 = .ok (.dup, 1) := dk_89 (dk_at dksX6_number_1 5 rfl rfl)
theorem dX6_number_29 : decode cX6_number 29 = .ok (.getfield 124, 3) := dk_180 0 124 (dk_at dksX6_number_1 6 rfl rfl)
theorem dX6_number_32 : decode cX6_number 32 = .ok (.iconst 1, 1) := dk_4 (dk_at dksX6_number_1 9 rfl rfl)
theorem dX6_number_33 : decode cX6_number 33 = .ok (.iadd, 1) := dk_96 (dk_at dksX6_number_1 10 rfl rfl)
theorem dX6_number_34 : decode cX6_number 34 = .ok (.putfield 124, 3) := dk_181 0 124 (dk_at dksX6_number_1 11 rfl rfl)
theorem dX6_number_37 : decode cX6_number 37 = .ok (.aload_n 0, 1) := dk_42 (dk_at dksX6_number_1 14 rfl rfl)
theorem dX6_number_38 : decode cX6_number 38 = .ok (.invokevirtual 133, 3) := dk_182 0 133 (dk_at dksX6_number_1 15 rfl rfl)
theorem dX6_number_41 : decode cX6_number 41 = .ok (.ifCond .eq 31, 3) := dk_153 0 31 (dk_at dksX6_number_1 18 rfl rfl)
theorem dX6_number_44 : decode cX6_number 44 = .ok (.bipush 10, 2) := dk_16 10 (dk_at dksX6_number_1 21 rfl rfl)
theorem dX6_number_46 : decode cX6_number 46 = .ok (.iload_n 1, 1) := dk_27 (dk_at dksX6_number_1 23 rfl rfl)
theorem dX6_number_47 : decode cX6_number 47 = .ok (.imul, 1) := dk_104 (dk_at dksX6_number_2 0 rfl rfl)
theorem dX6_number_48 : decode cX6_number 48 = .ok (.aload_n 0, 1) := dk_42 (dk_at dksX6_number_2 1 rfl rfl)
theorem dX6_number_49 : decode cX6_number 49 = .ok (.getfield 34, 3) := dk_180 0 34 (dk_at dksX6_number_2 2 rfl rfl)
theorem dX6_number_52 : decode cX6_number 52 = .ok (.aload_n 0, 1) := dk_42 (dk_at dksX6_number_2 5 rfl rfl)
theorem dX6_number_53 : decode cX6_number 53 = .ok (.getfield 124, 3) := dk_180 0 124 (dk_at dksX6_number_2 6 rfl rfl)
theorem dX6_number_56 : decode cX6_number 56 = .ok (.iaload, 1) := dk_46 (dk_at dksX6_number_2 9 rfl rfl)
theorem dX6_number_57 : decode cX6_number 57 = .ok (.iadd, 1) := dk_96 (dk_at dksX6_number_2 10 rfl rfl)
theorem dX6_number_58 : decode cX6_number 58 = .ok (.bipush 48, 2) := dk_16 48 (dk_at dksX6_number_2 11 rfl rfl)
theorem dX6_number_60 : decode cX6_number 60 = .ok (.isub, 1) := dk_100 (dk_at dksX6_number_2 13 rfl rfl)
theorem dX6_number_61 : decode cX6_number 61 = .ok (.istore_n 1, 1) := dk_60 (dk_at dksX6_number_2 14 rfl rfl)
theorem dX6_number_62 : decode cX6_number 62 = .ok (.aload_n 0, 1) := dk_42 (dk_at dksX6_number_2 15 rfl rfl)
theorem dX6_number_63 : decode cX6_number 63 = .ok (.dup, 1) := dk_89 (dk_at dksX6_number_2 16 rfl rfl)
theorem dX6_number_64 : decode cX6_number 64 = .ok (.getfield 124, 3) := dk_180 0 124 (dk_at dksX6_number_2 17 rfl rfl)
theorem dX6_number_67 : decode cX6_number 67 = .ok (.iconst 1, 1) := dk_4 (dk_at dksX6_number_2 20 rfl rfl)
theorem dX6_number_68 : decode cX6_number 68 = .ok (.iadd, 1) := dk_96 (dk_at dksX6_number_2 21 rfl rfl)
theorem dX6_number_69 : decode cX6_number 69 = .ok (.putfield 124, 3) := dk_181 0 124 (dk_at dksX6_number_3 0 rfl rfl)
theorem dX6_number_72 : decode cX6_number 72 = .ok (.iload_n 1, 1) := dk_27 (dk_at dksX6_number_3 3 rfl rfl)
theorem dX6_number_73 : decode cX6_number 73 = .ok (.ireturn, 1) := dk_172 (dk_at dksX6_number_3 4 rfl rfl)
abbrev cX6_isDigit : ByteArray := prog_23_method_22_code
def yX6_isDigit : MethodName := ⟨RX6, "isDigit", "()Z"⟩
def dkwX6_isDigit_2 : List UInt8 := [167, 0, 4, 3, 172]
abbrev dktX6_isDigit_2 : List UInt8 := dkwX6_isDigit_2 ++ []
def dkwX6_isDigit_1 : List UInt8 := [180, 0, 124, 46, 16, 48, 161, 0, 21, 42, 180, 0, 34, 42, 180, 0, 124, 46, 16, 57, 163, 0, 7, 4]
abbrev dktX6_isDigit_1 : List UInt8 := dkwX6_isDigit_1 ++ dktX6_isDigit_2
def dkwX6_isDigit_0 : List UInt8 := [42, 180, 0, 121, 153, 0, 46, 42, 180, 0, 124, 42, 180, 0, 127, 162, 0, 35, 42, 180, 0, 34, 42]
abbrev dktX6_isDigit_0 : List UInt8 := dkwX6_isDigit_0 ++ dktX6_isDigit_1
theorem dksX6_isDigit_0 : cX6_isDigit.data.toList.drop 0 = dktX6_isDigit_0 := by decide +kernel
theorem dksX6_isDigit_1 : cX6_isDigit.data.toList.drop 23 = dktX6_isDigit_1 := dk_seg dksX6_isDigit_0 23 rfl rfl
theorem dksX6_isDigit_2 : cX6_isDigit.data.toList.drop 47 = dktX6_isDigit_2 := dk_seg dksX6_isDigit_1 24 rfl rfl
theorem dX6_isDigit_0 : decode cX6_isDigit 0 = .ok (.aload_n 0, 1) := dk_42 (dk_at dksX6_isDigit_0 0 rfl rfl)
theorem dX6_isDigit_1 : decode cX6_isDigit 1 = .ok (.getfield 121, 3) := dk_180 0 121 (dk_at dksX6_isDigit_0 1 rfl rfl)
theorem dX6_isDigit_4 : decode cX6_isDigit 4 = .ok (.ifCond .eq 46, 3) := dk_153 0 46 (dk_at dksX6_isDigit_0 4 rfl rfl)
theorem dX6_isDigit_7 : decode cX6_isDigit 7 = .ok (.aload_n 0, 1) := dk_42 (dk_at dksX6_isDigit_0 7 rfl rfl)
theorem dX6_isDigit_8 : decode cX6_isDigit 8 = .ok (.getfield 124, 3) := dk_180 0 124 (dk_at dksX6_isDigit_0 8 rfl rfl)
theorem dX6_isDigit_11 : decode cX6_isDigit 11 = .ok (.aload_n 0, 1) := dk_42 (dk_at dksX6_isDigit_0 11 rfl rfl)
theorem dX6_isDigit_12 : decode cX6_isDigit 12 = .ok (.getfield 127, 3) := dk_180 0 127 (dk_at dksX6_isDigit_0 12 rfl rfl)
theorem dX6_isDigit_15 : decode cX6_isDigit 15 = .ok (.if_icmp .ge 35, 3) := dk_162 0 35 (dk_at dksX6_isDigit_0 15 rfl rfl)
theorem dX6_isDigit_18 : decode cX6_isDigit 18 = .ok (.aload_n 0, 1) := dk_42 (dk_at dksX6_isDigit_0 18 rfl rfl)
theorem dX6_isDigit_19 : decode cX6_isDigit 19 = .ok (.getfield 34, 3) := dk_180 0 34 (dk_at dksX6_isDigit_0 19 rfl rfl)
theorem dX6_isDigit_22 : decode cX6_isDigit 22 = .ok (.aload_n 0, 1) := dk_42 (dk_at dksX6_isDigit_0 22 rfl rfl)
theorem dX6_isDigit_23 : decode cX6_isDigit 23 = .ok (.getfield 124, 3) := dk_180 0 124 (dk_at dksX6_isDigit_1 0 rfl rfl)
theorem dX6_isDigit_26 : decode cX6_isDigit 26 = .ok (.iaload, 1) := dk_46 (dk_at dksX6_isDigit_1 3 rfl rfl)
theorem dX6_isDigit_27 : decode cX6_isDigit 27 = .ok (.bipush 48, 2) := dk_16 48 (dk_at dksX6_isDigit_1 4 rfl rfl)
theorem dX6_isDigit_29 : decode cX6_isDigit 29 = .ok (.if_icmp .lt 21, 3) := dk_161 0 21 (dk_at dksX6_isDigit_1 6 rfl rfl)
theorem dX6_isDigit_32 : decode cX6_isDigit 32 = .ok (.aload_n 0, 1) := dk_42 (dk_at dksX6_isDigit_1 9 rfl rfl)
theorem dX6_isDigit_33 : decode cX6_isDigit 33 = .ok (.getfield 34, 3) := dk_180 0 34 (dk_at dksX6_isDigit_1 10 rfl rfl)
theorem dX6_isDigit_36 : decode cX6_isDigit 36 = .ok (.aload_n 0, 1) := dk_42 (dk_at dksX6_isDigit_1 13 rfl rfl)
theorem dX6_isDigit_37 : decode cX6_isDigit 37 = .ok (.getfield 124, 3) := dk_180 0 124 (dk_at dksX6_isDigit_1 14 rfl rfl)
theorem dX6_isDigit_40 : decode cX6_isDigit 40 = .ok (.iaload, 1) := dk_46 (dk_at dksX6_isDigit_1 17 rfl rfl)
theorem dX6_isDigit_41 : decode cX6_isDigit 41 = .ok (.bipush 57, 2) := dk_16 57 (dk_at dksX6_isDigit_1 18 rfl rfl)
theorem dX6_isDigit_43 : decode cX6_isDigit 43 = .ok (.if_icmp .gt 7, 3) := dk_163 0 7 (dk_at dksX6_isDigit_1 20 rfl rfl)
theorem dX6_isDigit_46 : decode cX6_isDigit 46 = .ok (.iconst 1, 1) := dk_4 (dk_at dksX6_isDigit_1 23 rfl rfl)
theorem dX6_isDigit_47 : decode cX6_isDigit 47 = .ok (.goto 4, 3) := dk_167 0 4 (dk_at dksX6_isDigit_2 0 rfl rfl)
theorem dX6_isDigit_50 : decode cX6_isDigit 50 = .ok (.iconst 0, 1) := dk_3 (dk_at dksX6_isDigit_2 3 rfl rfl)
theorem dX6_isDigit_51 : decode cX6_isDigit 51 = .ok (.ireturn, 1) := dk_172 (dk_at dksX6_isDigit_2 4 rfl rfl)
abbrev cX6_any : ByteArray := prog_23_method_27_code
def yX6_any : MethodName := ⟨RX6, "any", "()Z"⟩
def dkwX6_any_1 : List UInt8 := [42, 182, 0, 157, 61, 27, 154, 0, 7, 28, 153, 0, 7, 4, 167, 0, 4, 3, 60, 167, 255, 218, 27, 172]
abbrev dktX6_any_1 : List UInt8 := dkwX6_any_1 ++ []
def dkwX6_any_0 : List UInt8 := [42, 182, 0, 157, 60, 42, 16, 124, 182, 0, 130, 153, 0, 35, 42, 89, 180, 0, 124, 4, 96, 181, 0, 124]
abbrev dktX6_any_0 : List UInt8 := dkwX6_any_0 ++ dktX6_any_1
theorem dksX6_any_0 : cX6_any.data.toList.drop 0 = dktX6_any_0 := by decide +kernel
theorem dksX6_any_1 : cX6_any.data.toList.drop 24 = dktX6_any_1 := dk_seg dksX6_any_0 24 rfl rfl
theorem dX6_any_0 : decode cX6_any 0 = .ok (.aload_n 0, 1) := dk_42 (dk_at dksX6_any_0 0 rfl rfl)
theorem dX6_any_1 : decode cX6_any 1 = .ok (.invokevirtual 157, 3) := dk_182 0 157 (dk_at dksX6_any_0 1 rfl rfl)
theorem dX6_any_4 : decode cX6_any 4 = .ok (.istore_n 1, 1) := dk_60 (dk_at dksX6_any_0 4 rfl rfl)
theorem dX6_any_5 : decode cX6_any 5 = .ok (.aload_n 0, 1) := dk_42 (dk_at dksX6_any_0 5 rfl rfl)
theorem dX6_any_6 : decode cX6_any 6 = .ok (.bipush 124, 2) := dk_16 124 (dk_at dksX6_any_0 6 rfl rfl)
theorem dX6_any_8 : decode cX6_any 8 = .ok (.invokevirtual 130, 3) := dk_182 0 130 (dk_at dksX6_any_0 8 rfl rfl)
theorem dX6_any_11 : decode cX6_any 11 = .ok (.ifCond .eq 35, 3) := dk_153 0 35 (dk_at dksX6_any_0 11 rfl rfl)
theorem dX6_any_14 : decode cX6_any 14 = .ok (.aload_n 0, 1) := dk_42 (dk_at dksX6_any_0 14 rfl rfl)
theorem dX6_any_15 : decode cX6_any 15 = .ok (.dup, 1) := dk_89 (dk_at dksX6_any_0 15 rfl rfl)
theorem dX6_any_16 : decode cX6_any 16 = .ok (.getfield 124, 3) := dk_180 0 124 (dk_at dksX6_any_0 16 rfl rfl)
theorem dX6_any_19 : decode cX6_any 19 = .ok (.iconst 1, 1) := dk_4 (dk_at dksX6_any_0 19 rfl rfl)
theorem dX6_any_20 : decode cX6_any 20 = .ok (.iadd, 1) := dk_96 (dk_at dksX6_any_0 20 rfl rfl)
theorem dX6_any_21 : decode cX6_any 21 = .ok (.putfield 124, 3) := dk_181 0 124 (dk_at dksX6_any_0 21 rfl rfl)
theorem dX6_any_24 : decode cX6_any 24 = .ok (.aload_n 0, 1) := dk_42 (dk_at dksX6_any_1 0 rfl rfl)
theorem dX6_any_25 : decode cX6_any 25 = .ok (.invokevirtual 157, 3) := dk_182 0 157 (dk_at dksX6_any_1 1 rfl rfl)
theorem dX6_any_28 : decode cX6_any 28 = .ok (.istore_n 2, 1) := dk_61 (dk_at dksX6_any_1 4 rfl rfl)
theorem dX6_any_29 : decode cX6_any 29 = .ok (.iload_n 1, 1) := dk_27 (dk_at dksX6_any_1 5 rfl rfl)
theorem dX6_any_30 : decode cX6_any 30 = .ok (.ifCond .ne 7, 3) := dk_154 0 7 (dk_at dksX6_any_1 6 rfl rfl)
theorem dX6_any_33 : decode cX6_any 33 = .ok (.iload_n 2, 1) := dk_28 (dk_at dksX6_any_1 9 rfl rfl)
theorem dX6_any_34 : decode cX6_any 34 = .ok (.ifCond .eq 7, 3) := dk_153 0 7 (dk_at dksX6_any_1 10 rfl rfl)
theorem dX6_any_37 : decode cX6_any 37 = .ok (.iconst 1, 1) := dk_4 (dk_at dksX6_any_1 13 rfl rfl)
theorem dX6_any_38 : decode cX6_any 38 = .ok (.goto 4, 3) := dk_167 0 4 (dk_at dksX6_any_1 14 rfl rfl)
theorem dX6_any_41 : decode cX6_any 41 = .ok (.iconst 0, 1) := dk_3 (dk_at dksX6_any_1 17 rfl rfl)
theorem dX6_any_42 : decode cX6_any 42 = .ok (.istore_n 1, 1) := dk_60 (dk_at dksX6_any_1 18 rfl rfl)
theorem dX6_any_43 : decode cX6_any 43 = .ok (.goto (-38), 3) := dk_167 255 218 (dk_at dksX6_any_1 19 rfl rfl)
theorem dX6_any_46 : decode cX6_any 46 = .ok (.iload_n 1, 1) := dk_27 (dk_at dksX6_any_1 22 rfl rfl)
theorem dX6_any_47 : decode cX6_any 47 = .ok (.ireturn, 1) := dk_172 (dk_at dksX6_any_1 23 rfl rfl)
abbrev cX6_both : ByteArray := prog_23_method_26_code
def yX6_both : MethodName := ⟨RX6, "both", "()Z"⟩
def dkwX6_both_1 : List UInt8 := [42, 182, 0, 148, 61, 27, 153, 0, 11, 28, 153, 0, 7, 4, 167, 0, 4, 3, 60, 167, 255, 218, 27, 172]
abbrev dktX6_both_1 : List UInt8 := dkwX6_both_1 ++ []
def dkwX6_both_0 : List UInt8 := [42, 182, 0, 148, 60, 42, 16, 38, 182, 0, 130, 153, 0, 35, 42, 89, 180, 0, 124, 4, 96, 181, 0, 124]
abbrev dktX6_both_0 : List UInt8 := dkwX6_both_0 ++ dktX6_both_1
theorem dksX6_both_0 : cX6_both.data.toList.drop 0 = dktX6_both_0 := by decide +kernel
theorem dksX6_both_1 : cX6_both.data.toList.drop 24 = dktX6_both_1 := dk_seg dksX6_both_0 24 rfl rfl
theorem dX6_both_0 : decode cX6_both 0 = .ok (.aload_n 0, 1) := dk_42 (dk_at dksX6_both_0 0 rfl rfl)
theorem dX6_both_1 : decode cX6_both 1 = .ok (.invokevirtual 148, 3) := dk_182 0 148 (dk_at dksX6_both_0 1 rfl rfl)
theorem dX6_both_4 : decode cX6_both 4 = .ok (.istore_n 1, 1) := dk_60 (dk_at dksX6_both_0 4 rfl rfl)
theorem dX6_both_5 : decode cX6_both 5 = .ok (.aload_n 0, 1) := dk_42 (dk_at dksX6_both_0 5 rfl rfl)
theorem dX6_both_6 : decode cX6_both 6 = .ok (.bipush 38, 2) := dk_16 38 (dk_at dksX6_both_0 6 rfl rfl)
theorem dX6_both_8 : decode cX6_both 8 = .ok (.invokevirtual 130, 3) := dk_182 0 130 (dk_at dksX6_both_0 8 rfl rfl)
theorem dX6_both_11 : decode cX6_both 11 = .ok (.ifCond .eq 35, 3) := dk_153 0 35 (dk_at dksX6_both_0 11 rfl rfl)
theorem dX6_both_14 : decode cX6_both 14 = .ok (.aload_n 0, 1) := dk_42 (dk_at dksX6_both_0 14 rfl rfl)
theorem dX6_both_15 : decode cX6_both 15 = .ok (.dup, 1) := dk_89 (dk_at dksX6_both_0 15 rfl rfl)
theorem dX6_both_16 : decode cX6_both 16 = .ok (.getfield 124, 3) := dk_180 0 124 (dk_at dksX6_both_0 16 rfl rfl)
theorem dX6_both_19 : decode cX6_both 19 = .ok (.iconst 1, 1) := dk_4 (dk_at dksX6_both_0 19 rfl rfl)
theorem dX6_both_20 : decode cX6_both 20 = .ok (.iadd, 1) := dk_96 (dk_at dksX6_both_0 20 rfl rfl)
theorem dX6_both_21 : decode cX6_both 21 = .ok (.putfield 124, 3) := dk_181 0 124 (dk_at dksX6_both_0 21 rfl rfl)
theorem dX6_both_24 : decode cX6_both 24 = .ok (.aload_n 0, 1) := dk_42 (dk_at dksX6_both_1 0 rfl rfl)
theorem dX6_both_25 : decode cX6_both 25 = .ok (.invokevirtual 148, 3) := dk_182 0 148 (dk_at dksX6_both_1 1 rfl rfl)
theorem dX6_both_28 : decode cX6_both 28 = .ok (.istore_n 2, 1) := dk_61 (dk_at dksX6_both_1 4 rfl rfl)
theorem dX6_both_29 : decode cX6_both 29 = .ok (.iload_n 1, 1) := dk_27 (dk_at dksX6_both_1 5 rfl rfl)
theorem dX6_both_30 : decode cX6_both 30 = .ok (.ifCond .eq 11, 3) := dk_153 0 11 (dk_at dksX6_both_1 6 rfl rfl)
theorem dX6_both_33 : decode cX6_both 33 = .ok (.iload_n 2, 1) := dk_28 (dk_at dksX6_both_1 9 rfl rfl)
theorem dX6_both_34 : decode cX6_both 34 = .ok (.ifCond .eq 7, 3) := dk_153 0 7 (dk_at dksX6_both_1 10 rfl rfl)
theorem dX6_both_37 : decode cX6_both 37 = .ok (.iconst 1, 1) := dk_4 (dk_at dksX6_both_1 13 rfl rfl)
theorem dX6_both_38 : decode cX6_both 38 = .ok (.goto 4, 3) := dk_167 0 4 (dk_at dksX6_both_1 14 rfl rfl)
theorem dX6_both_41 : decode cX6_both 41 = .ok (.iconst 0, 1) := dk_3 (dk_at dksX6_both_1 17 rfl rfl)
theorem dX6_both_42 : decode cX6_both 42 = .ok (.istore_n 1, 1) := dk_60 (dk_at dksX6_both_1 18 rfl rfl)
theorem dX6_both_43 : decode cX6_both 43 = .ok (.goto (-38), 3) := dk_167 255 218 (dk_at dksX6_both_1 19 rfl rfl)
theorem dX6_both_46 : decode cX6_both 46 = .ok (.iload_n 1, 1) := dk_27 (dk_at dksX6_both_1 22 rfl rfl)
theorem dX6_both_47 : decode cX6_both 47 = .ok (.ireturn, 1) := dk_172 (dk_at dksX6_both_1 23 rfl rfl)
abbrev cX6_factor : ByteArray := prog_23_method_25_code
def yX6_factor : MethodName := ⟨RX6, "factor", "()Z"⟩
def dkwX6_factor_5 : List UInt8 := [182, 0, 137, 167, 0, 8, 42, 182, 0, 154, 60, 27, 172]
abbrev dktX6_factor_5 : List UInt8 := dkwX6_factor_5 ++ []
def dkwX6_factor_4 : List UInt8 := [96, 181, 0, 145, 42, 182, 0, 151, 60, 42, 89, 180, 0, 145, 4, 100, 181, 0, 145, 42, 16, 41]
abbrev dktX6_factor_4 : List UInt8 := dkwX6_factor_4 ++ dktX6_factor_5
def dkwX6_factor_3 : List UInt8 := [16, 40, 182, 0, 130, 153, 0, 47, 42, 89, 180, 0, 124, 4, 96, 181, 0, 124, 42, 89, 180, 0, 145, 4]
abbrev dktX6_factor_3 : List UInt8 := dkwX6_factor_3 ++ dktX6_factor_4
def dkwX6_factor_2 : List UInt8 := [3, 60, 42, 89, 180, 0, 145, 4, 100, 181, 0, 145, 167, 0, 69, 42, 180, 0, 145, 7, 162, 0, 56, 42]
abbrev dktX6_factor_2 : List UInt8 := dkwX6_factor_2 ++ dktX6_factor_3
def dkwX6_factor_1 : List UInt8 := [181, 0, 124, 42, 89, 180, 0, 145, 4, 96, 181, 0, 145, 42, 182, 0, 148, 154, 0, 7, 4, 167, 0, 4]
abbrev dktX6_factor_1 : List UInt8 := dkwX6_factor_1 ++ dktX6_factor_2
def dkwX6_factor_0 : List UInt8 := [42, 180, 0, 145, 7, 162, 0, 58, 42, 16, 33, 182, 0, 130, 153, 0, 49, 42, 89, 180, 0, 124, 4, 96]
abbrev dktX6_factor_0 : List UInt8 := dkwX6_factor_0 ++ dktX6_factor_1
theorem dksX6_factor_0 : cX6_factor.data.toList.drop 0 = dktX6_factor_0 := by decide +kernel
theorem dksX6_factor_1 : cX6_factor.data.toList.drop 24 = dktX6_factor_1 := dk_seg dksX6_factor_0 24 rfl rfl
theorem dksX6_factor_2 : cX6_factor.data.toList.drop 48 = dktX6_factor_2 := dk_seg dksX6_factor_1 24 rfl rfl
theorem dksX6_factor_3 : cX6_factor.data.toList.drop 72 = dktX6_factor_3 := dk_seg dksX6_factor_2 24 rfl rfl
theorem dksX6_factor_4 : cX6_factor.data.toList.drop 96 = dktX6_factor_4 := dk_seg dksX6_factor_3 24 rfl rfl
theorem dksX6_factor_5 : cX6_factor.data.toList.drop 118 = dktX6_factor_5 := dk_seg dksX6_factor_4 22 rfl rfl
theorem dX6_factor_0 : decode cX6_factor 0 = .ok (.aload_n 0, 1) := dk_42 (dk_at dksX6_factor_0 0 rfl rfl)
theorem dX6_factor_1 : decode cX6_factor 1 = .ok (.getfield 145, 3) := dk_180 0 145 (dk_at dksX6_factor_0 1 rfl rfl)
theorem dX6_factor_4 : decode cX6_factor 4 = .ok (.iconst 4, 1) := dk_7 (dk_at dksX6_factor_0 4 rfl rfl)
theorem dX6_factor_5 : decode cX6_factor 5 = .ok (.if_icmp .ge 58, 3) := dk_162 0 58 (dk_at dksX6_factor_0 5 rfl rfl)
theorem dX6_factor_8 : decode cX6_factor 8 = .ok (.aload_n 0, 1) := dk_42 (dk_at dksX6_factor_0 8 rfl rfl)
theorem dX6_factor_9 : decode cX6_factor 9 = .ok (.bipush 33, 2) := dk_16 33 (dk_at dksX6_factor_0 9 rfl rfl)
theorem dX6_factor_11 : decode cX6_factor 11 = .ok (.invokevirtual 130, 3) := dk_182 0 130 (dk_at dksX6_factor_0 11 rfl rfl)
theorem dX6_factor_14 : decode cX6_factor 14 = .ok (.ifCond .eq 49, 3) := dk_153 0 49 (dk_at dksX6_factor_0 14 rfl rfl)
theorem dX6_factor_17 : decode cX6_factor 17 = .ok (.aload_n 0, 1) := dk_42 (dk_at dksX6_factor_0 17 rfl rfl)
theorem dX6_factor_18 : decode cX6_factor 18 = .ok (.dup, 1) := dk_89 (dk_at dksX6_factor_0 18 rfl rfl)
theorem dX6_factor_19 : decode cX6_factor 19 = .ok (.getfield 124, 3) := dk_180 0 124 (dk_at dksX6_factor_0 19 rfl rfl)
theorem dX6_factor_22 : decode cX6_factor 22 = .ok (.iconst 1, 1) := dk_4 (dk_at dksX6_factor_0 22 rfl rfl)
theorem dX6_factor_23 : decode cX6_factor 23 = .ok (.iadd, 1) := dk_96 (dk_at dksX6_factor_0 23 rfl rfl)
theorem dX6_factor_24 : decode cX6_factor 24 = .ok (.putfield 124, 3) := dk_181 0 124 (dk_at dksX6_factor_1 0 rfl rfl)
theorem dX6_factor_27 : decode cX6_factor 27 = .ok (.aload_n 0, 1) := dk_42 (dk_at dksX6_factor_1 3 rfl rfl)
theorem dX6_factor_28 : decode cX6_factor 28 = .ok (.dup, 1) := dk_89 (dk_at dksX6_factor_1 4 rfl rfl)
theorem dX6_factor_29 : decode cX6_factor 29 = .ok (.getfield 145, 3) := dk_180 0 145 (dk_at dksX6_factor_1 5 rfl rfl)
theorem dX6_factor_32 : decode cX6_factor 32 = .ok (.iconst 1, 1) := dk_4 (dk_at dksX6_factor_1 8 rfl rfl)
theorem dX6_factor_33 : decode cX6_factor 33 = .ok (.iadd, 1) := dk_96 (dk_at dksX6_factor_1 9 rfl rfl)
theorem dX6_factor_34 : decode cX6_factor 34 = .ok (.putfield 145, 3) := dk_181 0 145 (dk_at dksX6_factor_1 10 rfl rfl)
theorem dX6_factor_37 : decode cX6_factor 37 = .ok (.aload_n 0, 1) := dk_42 (dk_at dksX6_factor_1 13 rfl rfl)
theorem dX6_factor_38 : decode cX6_factor 38 = .ok (.invokevirtual 148, 3) := dk_182 0 148 (dk_at dksX6_factor_1 14 rfl rfl)
theorem dX6_factor_41 : decode cX6_factor 41 = .ok (.ifCond .ne 7, 3) := dk_154 0 7 (dk_at dksX6_factor_1 17 rfl rfl)
theorem dX6_factor_44 : decode cX6_factor 44 = .ok (.iconst 1, 1) := dk_4 (dk_at dksX6_factor_1 20 rfl rfl)
theorem dX6_factor_45 : decode cX6_factor 45 = .ok (.goto 4, 3) := dk_167 0 4 (dk_at dksX6_factor_1 21 rfl rfl)
theorem dX6_factor_48 : decode cX6_factor 48 = .ok (.iconst 0, 1) := dk_3 (dk_at dksX6_factor_2 0 rfl rfl)
theorem dX6_factor_49 : decode cX6_factor 49 = .ok (.istore_n 1, 1) := dk_60 (dk_at dksX6_factor_2 1 rfl rfl)
theorem dX6_factor_50 : decode cX6_factor 50 = .ok (.aload_n 0, 1) := dk_42 (dk_at dksX6_factor_2 2 rfl rfl)
theorem dX6_factor_51 : decode cX6_factor 51 = .ok (.dup, 1) := dk_89 (dk_at dksX6_factor_2 3 rfl rfl)
theorem dX6_factor_52 : decode cX6_factor 52 = .ok (.getfield 145, 3) := dk_180 0 145 (dk_at dksX6_factor_2 4 rfl rfl)
theorem dX6_factor_55 : decode cX6_factor 55 = .ok (.iconst 1, 1) := dk_4 (dk_at dksX6_factor_2 7 rfl rfl)
theorem dX6_factor_56 : decode cX6_factor 56 = .ok (.isub, 1) := dk_100 (dk_at dksX6_factor_2 8 rfl rfl)
theorem dX6_factor_57 : decode cX6_factor 57 = .ok (.putfield 145, 3) := dk_181 0 145 (dk_at dksX6_factor_2 9 rfl rfl)
theorem dX6_factor_60 : decode cX6_factor 60 = .ok (.goto 69, 3) := dk_167 0 69 (dk_at dksX6_factor_2 12 rfl rfl)
theorem dX6_factor_63 : decode cX6_factor 63 = .ok (.aload_n 0, 1) := dk_42 (dk_at dksX6_factor_2 15 rfl rfl)
theorem dX6_factor_64 : decode cX6_factor 64 = .ok (.getfield 145, 3) := dk_180 0 145 (dk_at dksX6_factor_2 16 rfl rfl)
theorem dX6_factor_67 : decode cX6_factor 67 = .ok (.iconst 4, 1) := dk_7 (dk_at dksX6_factor_2 19 rfl rfl)
theorem dX6_factor_68 : decode cX6_factor 68 = .ok (.if_icmp .ge 56, 3) := dk_162 0 56 (dk_at dksX6_factor_2 20 rfl rfl)
theorem dX6_factor_71 : decode cX6_factor 71 = .ok (.aload_n 0, 1) := dk_42 (dk_at dksX6_factor_2 23 rfl rfl)
theorem dX6_factor_72 : decode cX6_factor 72 = .ok (.bipush 40, 2) := dk_16 40 (dk_at dksX6_factor_3 0 rfl rfl)
theorem dX6_factor_74 : decode cX6_factor 74 = .ok (.invokevirtual 130, 3) := dk_182 0 130 (dk_at dksX6_factor_3 2 rfl rfl)
theorem dX6_factor_77 : decode cX6_factor 77 = .ok (.ifCond .eq 47, 3) := dk_153 0 47 (dk_at dksX6_factor_3 5 rfl rfl)
theorem dX6_factor_80 : decode cX6_factor 80 = .ok (.aload_n 0, 1) := dk_42 (dk_at dksX6_factor_3 8 rfl rfl)
theorem dX6_factor_81 : decode cX6_factor 81 = .ok (.dup, 1) := dk_89 (dk_at dksX6_factor_3 9 rfl rfl)
theorem dX6_factor_82 : decode cX6_factor 82 = .ok (.getfield 124, 3) := dk_180 0 124 (dk_at dksX6_factor_3 10 rfl rfl)
theorem dX6_factor_85 : decode cX6_factor 85 = .ok (.iconst 1, 1) := dk_4 (dk_at dksX6_factor_3 13 rfl rfl)
theorem dX6_factor_86 : decode cX6_factor 86 = .ok (.iadd, 1) := dk_96 (dk_at dksX6_factor_3 14 rfl rfl)
theorem dX6_factor_87 : decode cX6_factor 87 = .ok (.putfield 124, 3) := dk_181 0 124 (dk_at dksX6_factor_3 15 rfl rfl)
theorem dX6_factor_90 : decode cX6_factor 90 = .ok (.aload_n 0, 1) := dk_42 (dk_at dksX6_factor_3 18 rfl rfl)
theorem dX6_factor_91 : decode cX6_factor 91 = .ok (.dup, 1) := dk_89 (dk_at dksX6_factor_3 19 rfl rfl)
theorem dX6_factor_92 : decode cX6_factor 92 = .ok (.getfield 145, 3) := dk_180 0 145 (dk_at dksX6_factor_3 20 rfl rfl)
theorem dX6_factor_95 : decode cX6_factor 95 = .ok (.iconst 1, 1) := dk_4 (dk_at dksX6_factor_3 23 rfl rfl)
theorem dX6_factor_96 : decode cX6_factor 96 = .ok (.iadd, 1) := dk_96 (dk_at dksX6_factor_4 0 rfl rfl)
theorem dX6_factor_97 : decode cX6_factor 97 = .ok (.putfield 145, 3) := dk_181 0 145 (dk_at dksX6_factor_4 1 rfl rfl)
theorem dX6_factor_100 : decode cX6_factor 100 = .ok (.aload_n 0, 1) := dk_42 (dk_at dksX6_factor_4 4 rfl rfl)
theorem dX6_factor_101 : decode cX6_factor 101 = .ok (.invokevirtual 151, 3) := dk_182 0 151 (dk_at dksX6_factor_4 5 rfl rfl)
theorem dX6_factor_104 : decode cX6_factor 104 = .ok (.istore_n 1, 1) := dk_60 (dk_at dksX6_factor_4 8 rfl rfl)
theorem dX6_factor_105 : decode cX6_factor 105 = .ok (.aload_n 0, 1) := dk_42 (dk_at dksX6_factor_4 9 rfl rfl)
theorem dX6_factor_106 : decode cX6_factor 106 = .ok (.dup, 1) := dk_89 (dk_at dksX6_factor_4 10 rfl rfl)
theorem dX6_factor_107 : decode cX6_factor 107 = .ok (.getfield 145, 3) := dk_180 0 145 (dk_at dksX6_factor_4 11 rfl rfl)
theorem dX6_factor_110 : decode cX6_factor 110 = .ok (.iconst 1, 1) := dk_4 (dk_at dksX6_factor_4 14 rfl rfl)
theorem dX6_factor_111 : decode cX6_factor 111 = .ok (.isub, 1) := dk_100 (dk_at dksX6_factor_4 15 rfl rfl)
theorem dX6_factor_112 : decode cX6_factor 112 = .ok (.putfield 145, 3) := dk_181 0 145 (dk_at dksX6_factor_4 16 rfl rfl)
theorem dX6_factor_115 : decode cX6_factor 115 = .ok (.aload_n 0, 1) := dk_42 (dk_at dksX6_factor_4 19 rfl rfl)
theorem dX6_factor_116 : decode cX6_factor 116 = .ok (.bipush 41, 2) := dk_16 41 (dk_at dksX6_factor_4 20 rfl rfl)
theorem dX6_factor_118 : decode cX6_factor 118 = .ok (.invokevirtual 137, 3) := dk_182 0 137 (dk_at dksX6_factor_5 0 rfl rfl)
theorem dX6_factor_121 : decode cX6_factor 121 = .ok (.goto 8, 3) := dk_167 0 8 (dk_at dksX6_factor_5 3 rfl rfl)
theorem dX6_factor_124 : decode cX6_factor 124 = .ok (.aload_n 0, 1) := dk_42 (dk_at dksX6_factor_5 6 rfl rfl)
theorem dX6_factor_125 : decode cX6_factor 125 = .ok (.invokevirtual 154, 3) := dk_182 0 154 (dk_at dksX6_factor_5 7 rfl rfl)
theorem dX6_factor_128 : decode cX6_factor 128 = .ok (.istore_n 1, 1) := dk_60 (dk_at dksX6_factor_5 10 rfl rfl)
theorem dX6_factor_129 : decode cX6_factor 129 = .ok (.iload_n 1, 1) := dk_27 (dk_at dksX6_factor_5 11 rfl rfl)
theorem dX6_factor_130 : decode cX6_factor 130 = .ok (.ireturn, 1) := dk_172 (dk_at dksX6_factor_5 12 rfl rfl)
abbrev cX6_test : ByteArray := prog_23_method_24_code
def yX6_test : MethodName := ⟨RX6, "test", "()Z"⟩
def dkwX6_test_7 : List UInt8 := [160, 0, 7, 4, 167, 0, 4, 3, 172]
abbrev dktX6_test_7 : List UInt8 := dkwX6_test_7 ++ []
def dkwX6_test_6 : List UInt8 := [180, 0, 37, 27, 46, 29, 164, 0, 7, 4, 167, 0, 22, 3, 167, 0, 18, 42, 180, 0, 37, 27, 46, 29]
abbrev dktX6_test_6 : List UInt8 := dkwX6_test_6 ++ dktX6_test_7
def dkwX6_test_5 : List UInt8 := [180, 0, 37, 27, 46, 29, 162, 0, 7, 4, 167, 0, 44, 3, 167, 0, 40, 28, 158, 0, 21, 42]
abbrev dktX6_test_5 : List UInt8 := dkwX6_test_5 ++ dktX6_test_6
def dkwX6_test_4 : List UInt8 := [28, 158, 0, 8, 16, 62, 167, 0, 5, 16, 61, 182, 0, 137, 42, 182, 0, 141, 62, 28, 156, 0, 21, 42]
abbrev dktX6_test_4 : List UInt8 := dkwX6_test_4 ++ dktX6_test_5
def dkwX6_test_3 : List UInt8 := [16, 62, 182, 0, 130, 153, 0, 7, 4, 167, 0, 4, 3, 61, 42, 28, 156, 0, 8, 16, 60, 167, 0, 14]
abbrev dktX6_test_3 : List UInt8 := dkwX6_test_3 ++ dktX6_test_4
def dkwX6_test_2 : List UInt8 := [89, 180, 0, 124, 4, 96, 181, 0, 124, 42, 16, 60, 182, 0, 130, 153, 0, 7, 2, 167, 0, 17, 42]
abbrev dktX6_test_2 : List UInt8 := dkwX6_test_2 ++ dktX6_test_3
def dkwX6_test_1 : List UInt8 := [167, 0, 4, 27, 60, 132, 2, 1, 167, 255, 228, 27, 2, 160, 0, 10, 42, 3, 181, 0, 121, 3, 172, 42]
abbrev dktX6_test_1 : List UInt8 := dkwX6_test_1 ++ dktX6_test_2
def dkwX6_test_0 : List UInt8 := [2, 60, 3, 61, 28, 16, 6, 162, 0, 28, 42, 42, 180, 0, 40, 28, 52, 182, 0, 130, 153, 0, 7, 28]
abbrev dktX6_test_0 : List UInt8 := dkwX6_test_0 ++ dktX6_test_1
theorem dksX6_test_0 : cX6_test.data.toList.drop 0 = dktX6_test_0 := by decide +kernel
theorem dksX6_test_1 : cX6_test.data.toList.drop 24 = dktX6_test_1 := dk_seg dksX6_test_0 24 rfl rfl
theorem dksX6_test_2 : cX6_test.data.toList.drop 48 = dktX6_test_2 := dk_seg dksX6_test_1 24 rfl rfl
theorem dksX6_test_3 : cX6_test.data.toList.drop 71 = dktX6_test_3 := dk_seg dksX6_test_2 23 rfl rfl
theorem dksX6_test_4 : cX6_test.data.toList.drop 95 = dktX6_test_4 := dk_seg dksX6_test_3 24 rfl rfl
theorem dksX6_test_5 : cX6_test.data.toList.drop 119 = dktX6_test_5 := dk_seg dksX6_test_4 24 rfl rfl
theorem dksX6_test_6 : cX6_test.data.toList.drop 141 = dktX6_test_6 := dk_seg dksX6_test_5 22 rfl rfl
theorem dksX6_test_7 : cX6_test.data.toList.drop 165 = dktX6_test_7 := dk_seg dksX6_test_6 24 rfl rfl
theorem dX6_test_0 : decode cX6_test 0 = .ok (.iconst (-1), 1) := dk_2 (dk_at dksX6_test_0 0 rfl rfl)
theorem dX6_test_1 : decode cX6_test 1 = .ok (.istore_n 1, 1) := dk_60 (dk_at dksX6_test_0 1 rfl rfl)
theorem dX6_test_2 : decode cX6_test 2 = .ok (.iconst 0, 1) := dk_3 (dk_at dksX6_test_0 2 rfl rfl)
theorem dX6_test_3 : decode cX6_test 3 = .ok (.istore_n 2, 1) := dk_61 (dk_at dksX6_test_0 3 rfl rfl)
theorem dX6_test_4 : decode cX6_test 4 = .ok (.iload_n 2, 1) := dk_28 (dk_at dksX6_test_0 4 rfl rfl)
theorem dX6_test_5 : decode cX6_test 5 = .ok (.bipush 6, 2) := dk_16 6 (dk_at dksX6_test_0 5 rfl rfl)
theorem dX6_test_7 : decode cX6_test 7 = .ok (.if_icmp .ge 28, 3) := dk_162 0 28 (dk_at dksX6_test_0 7 rfl rfl)
theorem dX6_test_10 : decode cX6_test 10 = .ok (.aload_n 0, 1) := dk_42 (dk_at dksX6_test_0 10 rfl rfl)
theorem dX6_test_11 : decode cX6_test 11 = .ok (.aload_n 0, 1) := dk_42 (dk_at dksX6_test_0 11 rfl rfl)
theorem dX6_test_12 : decode cX6_test 12 = .ok (.getfield 40, 3) := dk_180 0 40 (dk_at dksX6_test_0 12 rfl rfl)
theorem dX6_test_15 : decode cX6_test 15 = .ok (.iload_n 2, 1) := dk_28 (dk_at dksX6_test_0 15 rfl rfl)
theorem dX6_test_16 : decode cX6_test 16 = .ok (.caload, 1) := dk_52 (dk_at dksX6_test_0 16 rfl rfl)
theorem dX6_test_17 : decode cX6_test 17 = .ok (.invokevirtual 130, 3) := dk_182 0 130 (dk_at dksX6_test_0 17 rfl rfl)
theorem dX6_test_20 : decode cX6_test 20 = .ok (.ifCond .eq 7, 3) := dk_153 0 7 (dk_at dksX6_test_0 20 rfl rfl)
theorem dX6_test_23 : decode cX6_test 23 = .ok (.iload_n 2, 1) := dk_28 (dk_at dksX6_test_0 23 rfl rfl)
theorem dX6_test_24 : decode cX6_test 24 = .ok (.goto 4, 3) := dk_167 0 4 (dk_at dksX6_test_1 0 rfl rfl)
theorem dX6_test_27 : decode cX6_test 27 = .ok (.iload_n 1, 1) := dk_27 (dk_at dksX6_test_1 3 rfl rfl)
theorem dX6_test_28 : decode cX6_test 28 = .ok (.istore_n 1, 1) := dk_60 (dk_at dksX6_test_1 4 rfl rfl)
theorem dX6_test_29 : decode cX6_test 29 = .ok (.iinc 2 1, 3) := dk_132 2 1 (dk_at dksX6_test_1 5 rfl rfl)
theorem dX6_test_32 : decode cX6_test 32 = .ok (.goto (-28), 3) := dk_167 255 228 (dk_at dksX6_test_1 8 rfl rfl)
theorem dX6_test_35 : decode cX6_test 35 = .ok (.iload_n 1, 1) := dk_27 (dk_at dksX6_test_1 11 rfl rfl)
theorem dX6_test_36 : decode cX6_test 36 = .ok (.iconst (-1), 1) := dk_2 (dk_at dksX6_test_1 12 rfl rfl)
theorem dX6_test_37 : decode cX6_test 37 = .ok (.if_icmp .ne 10, 3) := dk_160 0 10 (dk_at dksX6_test_1 13 rfl rfl)
theorem dX6_test_40 : decode cX6_test 40 = .ok (.aload_n 0, 1) := dk_42 (dk_at dksX6_test_1 16 rfl rfl)
theorem dX6_test_41 : decode cX6_test 41 = .ok (.iconst 0, 1) := dk_3 (dk_at dksX6_test_1 17 rfl rfl)
theorem dX6_test_42 : decode cX6_test 42 = .ok (.putfield 121, 3) := dk_181 0 121 (dk_at dksX6_test_1 18 rfl rfl)
theorem dX6_test_45 : decode cX6_test 45 = .ok (.iconst 0, 1) := dk_3 (dk_at dksX6_test_1 21 rfl rfl)
theorem dX6_test_46 : decode cX6_test 46 = .ok (.ireturn, 1) := dk_172 (dk_at dksX6_test_1 22 rfl rfl)
theorem dX6_test_47 : decode cX6_test 47 = .ok (.aload_n 0, 1) := dk_42 (dk_at dksX6_test_1 23 rfl rfl)
theorem dX6_test_48 : decode cX6_test 48 = .ok (.dup, 1) := dk_89 (dk_at dksX6_test_2 0 rfl rfl)
theorem dX6_test_49 : decode cX6_test 49 = .ok (.getfield 124, 3) := dk_180 0 124 (dk_at dksX6_test_2 1 rfl rfl)
theorem dX6_test_52 : decode cX6_test 52 = .ok (.iconst 1, 1) := dk_4 (dk_at dksX6_test_2 4 rfl rfl)
theorem dX6_test_53 : decode cX6_test 53 = .ok (.iadd, 1) := dk_96 (dk_at dksX6_test_2 5 rfl rfl)
theorem dX6_test_54 : decode cX6_test 54 = .ok (.putfield 124, 3) := dk_181 0 124 (dk_at dksX6_test_2 6 rfl rfl)
theorem dX6_test_57 : decode cX6_test 57 = .ok (.aload_n 0, 1) := dk_42 (dk_at dksX6_test_2 9 rfl rfl)
theorem dX6_test_58 : decode cX6_test 58 = .ok (.bipush 60, 2) := dk_16 60 (dk_at dksX6_test_2 10 rfl rfl)
theorem dX6_test_60 : decode cX6_test 60 = .ok (.invokevirtual 130, 3) := dk_182 0 130 (dk_at dksX6_test_2 12 rfl rfl)
theorem dX6_test_63 : decode cX6_test 63 = .ok (.ifCond .eq 7, 3) := dk_153 0 7 (dk_at dksX6_test_2 15 rfl rfl)
theorem dX6_test_66 : decode cX6_test 66 = .ok (.iconst (-1), 1) := dk_2 (dk_at dksX6_test_2 18 rfl rfl)
theorem dX6_test_67 : decode cX6_test 67 = .ok (.goto 17, 3) := dk_167 0 17 (dk_at dksX6_test_2 19 rfl rfl)
theorem dX6_test_70 : decode cX6_test 70 = .ok (.aload_n 0, 1) := dk_42 (dk_at dksX6_test_2 22 rfl rfl)
theorem dX6_test_71 : decode cX6_test 71 = .ok (.bipush 62, 2) := dk_16 62 (dk_at dksX6_test_3 0 rfl rfl)
theorem dX6_test_73 : decode cX6_test 73 = .ok (.invokevirtual 130, 3) := dk_182 0 130 (dk_at dksX6_test_3 2 rfl rfl)
theorem dX6_test_76 : decode cX6_test 76 = .ok (.ifCond .eq 7, 3) := dk_153 0 7 (dk_at dksX6_test_3 5 rfl rfl)
theorem dX6_test_79 : decode cX6_test 79 = .ok (.iconst 1, 1) := dk_4 (dk_at dksX6_test_3 8 rfl rfl)
theorem dX6_test_80 : decode cX6_test 80 = .ok (.goto 4, 3) := dk_167 0 4 (dk_at dksX6_test_3 9 rfl rfl)
theorem dX6_test_83 : decode cX6_test 83 = .ok (.iconst 0, 1) := dk_3 (dk_at dksX6_test_3 12 rfl rfl)
theorem dX6_test_84 : decode cX6_test 84 = .ok (.istore_n 2, 1) := dk_61 (dk_at dksX6_test_3 13 rfl rfl)
theorem dX6_test_85 : decode cX6_test 85 = .ok (.aload_n 0, 1) := dk_42 (dk_at dksX6_test_3 14 rfl rfl)
theorem dX6_test_86 : decode cX6_test 86 = .ok (.iload_n 2, 1) := dk_28 (dk_at dksX6_test_3 15 rfl rfl)
theorem dX6_test_87 : decode cX6_test 87 = .ok (.ifCond .ge 8, 3) := dk_156 0 8 (dk_at dksX6_test_3 16 rfl rfl)
theorem dX6_test_90 : decode cX6_test 90 = .ok (.bipush 60, 2) := dk_16 60 (dk_at dksX6_test_3 19 rfl rfl)
theorem dX6_test_92 : decode cX6_test 92 = .ok (.goto 14, 3) := dk_167 0 14 (dk_at dksX6_test_3 21 rfl rfl)
theorem dX6_test_95 : decode cX6_test 95 = .ok (.iload_n 2, 1) := dk_28 (dk_at dksX6_test_4 0 rfl rfl)
theorem dX6_test_96 : decode cX6_test 96 = .ok (.ifCond .le 8, 3) := dk_158 0 8 (dk_at dksX6_test_4 1 rfl rfl)
theorem dX6_test_99 : decode cX6_test 99 = .ok (.bipush 62, 2) := dk_16 62 (dk_at dksX6_test_4 4 rfl rfl)
theorem dX6_test_101 : decode cX6_test 101 = .ok (.goto 5, 3) := dk_167 0 5 (dk_at dksX6_test_4 6 rfl rfl)
theorem dX6_test_104 : decode cX6_test 104 = .ok (.bipush 61, 2) := dk_16 61 (dk_at dksX6_test_4 9 rfl rfl)
theorem dX6_test_106 : decode cX6_test 106 = .ok (.invokevirtual 137, 3) := dk_182 0 137 (dk_at dksX6_test_4 11 rfl rfl)
theorem dX6_test_109 : decode cX6_test 109 = .ok (.aload_n 0, 1) := dk_42 (dk_at dksX6_test_4 14 rfl rfl)
theorem dX6_test_110 : decode cX6_test 110 = .ok (.invokevirtual 141, 3) := dk_182 0 141 (dk_at dksX6_test_4 15 rfl rfl)
theorem dX6_test_113 : decode cX6_test 113 = .ok (.istore_n 3, 1) := dk_62 (dk_at dksX6_test_4 18 rfl rfl)
theorem dX6_test_114 : decode cX6_test 114 = .ok (.iload_n 2, 1) := dk_28 (dk_at dksX6_test_4 19 rfl rfl)
theorem dX6_test_115 : decode cX6_test 115 = .ok (.ifCond .ge 21, 3) := dk_156 0 21 (dk_at dksX6_test_4 20 rfl rfl)
theorem dX6_test_118 : decode cX6_test 118 = .ok (.aload_n 0, 1) := dk_42 (dk_at dksX6_test_4 23 rfl rfl)
theorem dX6_test_119 : decode cX6_test 119 = .ok (.getfield 37, 3) := dk_180 0 37 (dk_at dksX6_test_5 0 rfl rfl)
theorem dX6_test_122 : decode cX6_test 122 = .ok (.iload_n 1, 1) := dk_27 (dk_at dksX6_test_5 3 rfl rfl)
theorem dX6_test_123 : decode cX6_test 123 = .ok (.iaload, 1) := dk_46 (dk_at dksX6_test_5 4 rfl rfl)
theorem dX6_test_124 : decode cX6_test 124 = .ok (.iload_n 3, 1) := dk_29 (dk_at dksX6_test_5 5 rfl rfl)
theorem dX6_test_125 : decode cX6_test 125 = .ok (.if_icmp .ge 7, 3) := dk_162 0 7 (dk_at dksX6_test_5 6 rfl rfl)
theorem dX6_test_128 : decode cX6_test 128 = .ok (.iconst 1, 1) := dk_4 (dk_at dksX6_test_5 9 rfl rfl)
theorem dX6_test_129 : decode cX6_test 129 = .ok (.goto 44, 3) := dk_167 0 44 (dk_at dksX6_test_5 10 rfl rfl)
theorem dX6_test_132 : decode cX6_test 132 = .ok (.iconst 0, 1) := dk_3 (dk_at dksX6_test_5 13 rfl rfl)
theorem dX6_test_133 : decode cX6_test 133 = .ok (.goto 40, 3) := dk_167 0 40 (dk_at dksX6_test_5 14 rfl rfl)
theorem dX6_test_136 : decode cX6_test 136 = .ok (.iload_n 2, 1) := dk_28 (dk_at dksX6_test_5 17 rfl rfl)
theorem dX6_test_137 : decode cX6_test 137 = .ok (.ifCond .le 21, 3) := dk_158 0 21 (dk_at dksX6_test_5 18 rfl rfl)
theorem dX6_test_140 : decode cX6_test 140 = .ok (.aload_n 0, 1) := dk_42 (dk_at dksX6_test_5 21 rfl rfl)
theorem dX6_test_141 : decode cX6_test 141 = .ok (.getfield 37, 3) := dk_180 0 37 (dk_at dksX6_test_6 0 rfl rfl)
theorem dX6_test_144 : decode cX6_test 144 = .ok (.iload_n 1, 1) := dk_27 (dk_at dksX6_test_6 3 rfl rfl)
theorem dX6_test_145 : decode cX6_test 145 = .ok (.iaload, 1) := dk_46 (dk_at dksX6_test_6 4 rfl rfl)
theorem dX6_test_146 : decode cX6_test 146 = .ok (.iload_n 3, 1) := dk_29 (dk_at dksX6_test_6 5 rfl rfl)
theorem dX6_test_147 : decode cX6_test 147 = .ok (.if_icmp .le 7, 3) := dk_164 0 7 (dk_at dksX6_test_6 6 rfl rfl)
theorem dX6_test_150 : decode cX6_test 150 = .ok (.iconst 1, 1) := dk_4 (dk_at dksX6_test_6 9 rfl rfl)
theorem dX6_test_151 : decode cX6_test 151 = .ok (.goto 22, 3) := dk_167 0 22 (dk_at dksX6_test_6 10 rfl rfl)
theorem dX6_test_154 : decode cX6_test 154 = .ok (.iconst 0, 1) := dk_3 (dk_at dksX6_test_6 13 rfl rfl)
theorem dX6_test_155 : decode cX6_test 155 = .ok (.goto 18, 3) := dk_167 0 18 (dk_at dksX6_test_6 14 rfl rfl)
theorem dX6_test_158 : decode cX6_test 158 = .ok (.aload_n 0, 1) := dk_42 (dk_at dksX6_test_6 17 rfl rfl)
theorem dX6_test_159 : decode cX6_test 159 = .ok (.getfield 37, 3) := dk_180 0 37 (dk_at dksX6_test_6 18 rfl rfl)
theorem dX6_test_162 : decode cX6_test 162 = .ok (.iload_n 1, 1) := dk_27 (dk_at dksX6_test_6 21 rfl rfl)
theorem dX6_test_163 : decode cX6_test 163 = .ok (.iaload, 1) := dk_46 (dk_at dksX6_test_6 22 rfl rfl)
theorem dX6_test_164 : decode cX6_test 164 = .ok (.iload_n 3, 1) := dk_29 (dk_at dksX6_test_6 23 rfl rfl)
theorem dX6_test_165 : decode cX6_test 165 = .ok (.if_icmp .ne 7, 3) := dk_160 0 7 (dk_at dksX6_test_7 0 rfl rfl)
theorem dX6_test_168 : decode cX6_test 168 = .ok (.iconst 1, 1) := dk_4 (dk_at dksX6_test_7 3 rfl rfl)
theorem dX6_test_169 : decode cX6_test 169 = .ok (.goto 4, 3) := dk_167 0 4 (dk_at dksX6_test_7 4 rfl rfl)
theorem dX6_test_172 : decode cX6_test 172 = .ok (.iconst 0, 1) := dk_3 (dk_at dksX6_test_7 7 rfl rfl)
theorem dX6_test_173 : decode cX6_test 173 = .ok (.ireturn, 1) := dk_172 (dk_at dksX6_test_7 8 rfl rfl)
abbrev cX6_best : ByteArray := prog_23_method_35_code
def yX6_best : MethodName := ⟨RX6, "best", "(I)I"⟩
def dkwX6_best_2 : List UInt8 := [62, 132, 4, 1, 167, 255, 217, 28, 172]
abbrev dktX6_best_2 : List UInt8 := dkwX6_best_2 ++ []
def dkwX6_best_1 : List UInt8 := [182, 0, 114, 54, 5, 21, 5, 29, 164, 0, 8, 21, 4, 167, 0, 4, 28, 61, 21, 5, 29, 184, 0, 182]
abbrev dktX6_best_1 : List UInt8 := dkwX6_best_1 ++ dktX6_best_2
def dkwX6_best_0 : List UInt8 := [3, 61, 42, 27, 3, 182, 0, 114, 62, 4, 54, 4, 21, 4, 16, 10, 162, 0, 38, 42, 27, 21, 4]
abbrev dktX6_best_0 : List UInt8 := dkwX6_best_0 ++ dktX6_best_1
theorem dksX6_best_0 : cX6_best.data.toList.drop 0 = dktX6_best_0 := by decide +kernel
theorem dksX6_best_1 : cX6_best.data.toList.drop 23 = dktX6_best_1 := dk_seg dksX6_best_0 23 rfl rfl
theorem dksX6_best_2 : cX6_best.data.toList.drop 47 = dktX6_best_2 := dk_seg dksX6_best_1 24 rfl rfl
theorem dX6_best_0 : decode cX6_best 0 = .ok (.iconst 0, 1) := dk_3 (dk_at dksX6_best_0 0 rfl rfl)
theorem dX6_best_1 : decode cX6_best 1 = .ok (.istore_n 2, 1) := dk_61 (dk_at dksX6_best_0 1 rfl rfl)
theorem dX6_best_2 : decode cX6_best 2 = .ok (.aload_n 0, 1) := dk_42 (dk_at dksX6_best_0 2 rfl rfl)
theorem dX6_best_3 : decode cX6_best 3 = .ok (.iload_n 1, 1) := dk_27 (dk_at dksX6_best_0 3 rfl rfl)
theorem dX6_best_4 : decode cX6_best 4 = .ok (.iconst 0, 1) := dk_3 (dk_at dksX6_best_0 4 rfl rfl)
theorem dX6_best_5 : decode cX6_best 5 = .ok (.invokevirtual 114, 3) := dk_182 0 114 (dk_at dksX6_best_0 5 rfl rfl)
theorem dX6_best_8 : decode cX6_best 8 = .ok (.istore_n 3, 1) := dk_62 (dk_at dksX6_best_0 8 rfl rfl)
theorem dX6_best_9 : decode cX6_best 9 = .ok (.iconst 1, 1) := dk_4 (dk_at dksX6_best_0 9 rfl rfl)
theorem dX6_best_10 : decode cX6_best 10 = .ok (.istore 4, 2) := dk_54 4 (dk_at dksX6_best_0 10 rfl rfl)
theorem dX6_best_12 : decode cX6_best 12 = .ok (.iload 4, 2) := dk_21 4 (dk_at dksX6_best_0 12 rfl rfl)
theorem dX6_best_14 : decode cX6_best 14 = .ok (.bipush 10, 2) := dk_16 10 (dk_at dksX6_best_0 14 rfl rfl)
theorem dX6_best_16 : decode cX6_best 16 = .ok (.if_icmp .ge 38, 3) := dk_162 0 38 (dk_at dksX6_best_0 16 rfl rfl)
theorem dX6_best_19 : decode cX6_best 19 = .ok (.aload_n 0, 1) := dk_42 (dk_at dksX6_best_0 19 rfl rfl)
theorem dX6_best_20 : decode cX6_best 20 = .ok (.iload_n 1, 1) := dk_27 (dk_at dksX6_best_0 20 rfl rfl)
theorem dX6_best_21 : decode cX6_best 21 = .ok (.iload 4, 2) := dk_21 4 (dk_at dksX6_best_0 21 rfl rfl)
theorem dX6_best_23 : decode cX6_best 23 = .ok (.invokevirtual 114, 3) := dk_182 0 114 (dk_at dksX6_best_1 0 rfl rfl)
theorem dX6_best_26 : decode cX6_best 26 = .ok (.istore 5, 2) := dk_54 5 (dk_at dksX6_best_1 3 rfl rfl)
theorem dX6_best_28 : decode cX6_best 28 = .ok (.iload 5, 2) := dk_21 5 (dk_at dksX6_best_1 5 rfl rfl)
theorem dX6_best_30 : decode cX6_best 30 = .ok (.iload_n 3, 1) := dk_29 (dk_at dksX6_best_1 7 rfl rfl)
theorem dX6_best_31 : decode cX6_best 31 = .ok (.if_icmp .le 8, 3) := dk_164 0 8 (dk_at dksX6_best_1 8 rfl rfl)
theorem dX6_best_34 : decode cX6_best 34 = .ok (.iload 4, 2) := dk_21 4 (dk_at dksX6_best_1 11 rfl rfl)
theorem dX6_best_36 : decode cX6_best 36 = .ok (.goto 4, 3) := dk_167 0 4 (dk_at dksX6_best_1 13 rfl rfl)
theorem dX6_best_39 : decode cX6_best 39 = .ok (.iload_n 2, 1) := dk_28 (dk_at dksX6_best_1 16 rfl rfl)
theorem dX6_best_40 : decode cX6_best 40 = .ok (.istore_n 2, 1) := dk_61 (dk_at dksX6_best_1 17 rfl rfl)
theorem dX6_best_41 : decode cX6_best 41 = .ok (.iload 5, 2) := dk_21 5 (dk_at dksX6_best_1 18 rfl rfl)
theorem dX6_best_43 : decode cX6_best 43 = .ok (.iload_n 3, 1) := dk_29 (dk_at dksX6_best_1 20 rfl rfl)
theorem dX6_best_44 : decode cX6_best 44 = .ok (.invokestatic 182, 3) := dk_184 0 182 (dk_at dksX6_best_1 21 rfl rfl)
theorem dX6_best_47 : decode cX6_best 47 = .ok (.istore_n 3, 1) := dk_62 (dk_at dksX6_best_2 0 rfl rfl)
theorem dX6_best_48 : decode cX6_best 48 = .ok (.iinc 4 1, 3) := dk_132 4 1 (dk_at dksX6_best_2 1 rfl rfl)
theorem dX6_best_51 : decode cX6_best 51 = .ok (.goto (-39), 3) := dk_167 255 217 (dk_at dksX6_best_2 4 rfl rfl)
theorem dX6_best_54 : decode cX6_best 54 = .ok (.iload_n 2, 1) := dk_28 (dk_at dksX6_best_2 7 rfl rfl)
theorem dX6_best_55 : decode cX6_best 55 = .ok (.ireturn, 1) := dk_172 (dk_at dksX6_best_2 8 rfl rfl)
abbrev cX6_worth : ByteArray := prog_23_method_34_code
def yX6_worth : MethodName := ⟨RX6, "worth", "(II)I"⟩
def dkwX6_worth_2 : List UInt8 := [104, 42, 180, 0, 53, 27, 46, 100, 172]
abbrev dktX6_worth_2 : List UInt8 := dkwX6_worth_2 ++ []
def dkwX6_worth_1 : List UInt8 := [29, 182, 0, 97, 87, 42, 27, 7, 21, 4, 182, 0, 97, 87, 42, 27, 5, 182, 0, 89, 16, 10, 28, 100]
abbrev dktX6_worth_1 : List UInt8 := dkwX6_worth_1 ++ dktX6_worth_2
def dkwX6_worth_0 : List UInt8 := [42, 27, 6, 28, 182, 0, 97, 62, 42, 27, 7, 3, 182, 0, 97, 54, 4, 42, 182, 0, 104, 42, 27, 6]
abbrev dktX6_worth_0 : List UInt8 := dkwX6_worth_0 ++ dktX6_worth_1
theorem dksX6_worth_0 : cX6_worth.data.toList.drop 0 = dktX6_worth_0 := by decide +kernel
theorem dksX6_worth_1 : cX6_worth.data.toList.drop 24 = dktX6_worth_1 := dk_seg dksX6_worth_0 24 rfl rfl
theorem dksX6_worth_2 : cX6_worth.data.toList.drop 48 = dktX6_worth_2 := dk_seg dksX6_worth_1 24 rfl rfl
theorem dX6_worth_0 : decode cX6_worth 0 = .ok (.aload_n 0, 1) := dk_42 (dk_at dksX6_worth_0 0 rfl rfl)
theorem dX6_worth_1 : decode cX6_worth 1 = .ok (.iload_n 1, 1) := dk_27 (dk_at dksX6_worth_0 1 rfl rfl)
theorem dX6_worth_2 : decode cX6_worth 2 = .ok (.iconst 3, 1) := dk_6 (dk_at dksX6_worth_0 2 rfl rfl)
theorem dX6_worth_3 : decode cX6_worth 3 = .ok (.iload_n 2, 1) := dk_28 (dk_at dksX6_worth_0 3 rfl rfl)
theorem dX6_worth_4 : decode cX6_worth 4 = .ok (.invokevirtual 97, 3) := dk_182 0 97 (dk_at dksX6_worth_0 4 rfl rfl)
theorem dX6_worth_7 : decode cX6_worth 7 = .ok (.istore_n 3, 1) := dk_62 (dk_at dksX6_worth_0 7 rfl rfl)
theorem dX6_worth_8 : decode cX6_worth 8 = .ok (.aload_n 0, 1) := dk_42 (dk_at dksX6_worth_0 8 rfl rfl)
theorem dX6_worth_9 : decode cX6_worth 9 = .ok (.iload_n 1, 1) := dk_27 (dk_at dksX6_worth_0 9 rfl rfl)
theorem dX6_worth_10 : decode cX6_worth 10 = .ok (.iconst 4, 1) := dk_7 (dk_at dksX6_worth_0 10 rfl rfl)
theorem dX6_worth_11 : decode cX6_worth 11 = .ok (.iconst 0, 1) := dk_3 (dk_at dksX6_worth_0 11 rfl rfl)
theorem dX6_worth_12 : decode cX6_worth 12 = .ok (.invokevirtual 97, 3) := dk_182 0 97 (dk_at dksX6_worth_0 12 rfl rfl)
theorem dX6_worth_15 : decode cX6_worth 15 = .ok (.istore 4, 2) := dk_54 4 (dk_at dksX6_worth_0 15 rfl rfl)
theorem dX6_worth_17 : decode cX6_worth 17 = .ok (.aload_n 0, 1) := dk_42 (dk_at dksX6_worth_0 17 rfl rfl)
theorem dX6_worth_18 : decode cX6_worth 18 = .ok (.invokevirtual 104, 3) := dk_182 0 104 (dk_at dksX6_worth_0 18 rfl rfl)
theorem dX6_worth_21 : decode cX6_worth 21 = .ok (.aload_n 0, 1) := dk_42 (dk_at dksX6_worth_0 21 rfl rfl)
theorem dX6_worth_22 : decode cX6_worth 22 = .ok (.iload_n 1, 1) := dk_27 (dk_at dksX6_worth_0 22 rfl rfl)
theorem dX6_worth_23 : decode cX6_worth 23 = .ok (.iconst 3, 1) := dk_6 (dk_at dksX6_worth_0 23 rfl rfl)
theorem dX6_worth_24 : decode cX6_worth 24 = .ok (.iload_n 3, 1) := dk_29 (dk_at dksX6_worth_1 0 rfl rfl)
theorem dX6_worth_25 : decode cX6_worth 25 = .ok (.invokevirtual 97, 3) := dk_182 0 97 (dk_at dksX6_worth_1 1 rfl rfl)
theorem dX6_worth_28 : decode cX6_worth 28 = .ok (.pop, 1) := dk_87 (dk_at dksX6_worth_1 4 rfl rfl)
theorem dX6_worth_29 : decode cX6_worth 29 = .ok (.aload_n 0, 1) := dk_42 (dk_at dksX6_worth_1 5 rfl rfl)
theorem dX6_worth_30 : decode cX6_worth 30 = .ok (.iload_n 1, 1) := dk_27 (dk_at dksX6_worth_1 6 rfl rfl)
theorem dX6_worth_31 : decode cX6_worth 31 = .ok (.iconst 4, 1) := dk_7 (dk_at dksX6_worth_1 7 rfl rfl)
theorem dX6_worth_32 : decode cX6_worth 32 = .ok (.iload 4, 2) := dk_21 4 (dk_at dksX6_worth_1 8 rfl rfl)
theorem dX6_worth_34 : decode cX6_worth 34 = .ok (.invokevirtual 97, 3) := dk_182 0 97 (dk_at dksX6_worth_1 10 rfl rfl)
theorem dX6_worth_37 : decode cX6_worth 37 = .ok (.pop, 1) := dk_87 (dk_at dksX6_worth_1 13 rfl rfl)
theorem dX6_worth_38 : decode cX6_worth 38 = .ok (.aload_n 0, 1) := dk_42 (dk_at dksX6_worth_1 14 rfl rfl)
theorem dX6_worth_39 : decode cX6_worth 39 = .ok (.iload_n 1, 1) := dk_27 (dk_at dksX6_worth_1 15 rfl rfl)
theorem dX6_worth_40 : decode cX6_worth 40 = .ok (.iconst 2, 1) := dk_5 (dk_at dksX6_worth_1 16 rfl rfl)
theorem dX6_worth_41 : decode cX6_worth 41 = .ok (.invokevirtual 89, 3) := dk_182 0 89 (dk_at dksX6_worth_1 17 rfl rfl)
theorem dX6_worth_44 : decode cX6_worth 44 = .ok (.bipush 10, 2) := dk_16 10 (dk_at dksX6_worth_1 20 rfl rfl)
theorem dX6_worth_46 : decode cX6_worth 46 = .ok (.iload_n 2, 1) := dk_28 (dk_at dksX6_worth_1 22 rfl rfl)
theorem dX6_worth_47 : decode cX6_worth 47 = .ok (.isub, 1) := dk_100 (dk_at dksX6_worth_1 23 rfl rfl)
theorem dX6_worth_48 : decode cX6_worth 48 = .ok (.imul, 1) := dk_104 (dk_at dksX6_worth_2 0 rfl rfl)
theorem dX6_worth_49 : decode cX6_worth 49 = .ok (.aload_n 0, 1) := dk_42 (dk_at dksX6_worth_2 1 rfl rfl)
theorem dX6_worth_50 : decode cX6_worth 50 = .ok (.getfield 53, 3) := dk_180 0 53 (dk_at dksX6_worth_2 2 rfl rfl)
theorem dX6_worth_53 : decode cX6_worth 53 = .ok (.iload_n 1, 1) := dk_27 (dk_at dksX6_worth_2 5 rfl rfl)
theorem dX6_worth_54 : decode cX6_worth 54 = .ok (.iaload, 1) := dk_46 (dk_at dksX6_worth_2 6 rfl rfl)
theorem dX6_worth_55 : decode cX6_worth 55 = .ok (.isub, 1) := dk_100 (dk_at dksX6_worth_2 7 rfl rfl)
theorem dX6_worth_56 : decode cX6_worth 56 = .ok (.ireturn, 1) := dk_172 (dk_at dksX6_worth_2 8 rfl rfl)
abbrev cX6_set : ByteArray := prog_23_method_15_code
def yX6_set : MethodName := ⟨RX6, "set", "(III)I"⟩
def dkwX6_set_2 : List UInt8 := [182, 0, 97, 167, 0, 5, 16, 254, 172]
abbrev dktX6_set_2 : List UInt8 := dkwX6_set_2 ++ []
def dkwX6_set_1 : List UInt8 := [154, 0, 8, 16, 20, 167, 0, 5, 16, 9, 184, 0, 85, 153, 0, 15, 42, 27, 5, 28, 96, 29]
abbrev dktX6_set_1 : List UInt8 := dkwX6_set_1 ++ dktX6_set_2
def dkwX6_set_0 : List UInt8 := [42, 27, 182, 0, 101, 153, 0, 12, 28, 3, 4, 184, 0, 85, 154, 0, 5, 2, 172, 29, 3, 28]
abbrev dktX6_set_0 : List UInt8 := dkwX6_set_0 ++ dktX6_set_1
theorem dksX6_set_0 : cX6_set.data.toList.drop 0 = dktX6_set_0 := by decide +kernel
theorem dksX6_set_1 : cX6_set.data.toList.drop 22 = dktX6_set_1 := dk_seg dksX6_set_0 22 rfl rfl
theorem dksX6_set_2 : cX6_set.data.toList.drop 44 = dktX6_set_2 := dk_seg dksX6_set_1 22 rfl rfl
theorem dX6_set_0 : decode cX6_set 0 = .ok (.aload_n 0, 1) := dk_42 (dk_at dksX6_set_0 0 rfl rfl)
theorem dX6_set_1 : decode cX6_set 1 = .ok (.iload_n 1, 1) := dk_27 (dk_at dksX6_set_0 1 rfl rfl)
theorem dX6_set_2 : decode cX6_set 2 = .ok (.invokevirtual 101, 3) := dk_182 0 101 (dk_at dksX6_set_0 2 rfl rfl)
theorem dX6_set_5 : decode cX6_set 5 = .ok (.ifCond .eq 12, 3) := dk_153 0 12 (dk_at dksX6_set_0 5 rfl rfl)
theorem dX6_set_8 : decode cX6_set 8 = .ok (.iload_n 2, 1) := dk_28 (dk_at dksX6_set_0 8 rfl rfl)
theorem dX6_set_9 : decode cX6_set 9 = .ok (.iconst 0, 1) := dk_3 (dk_at dksX6_set_0 9 rfl rfl)
theorem dX6_set_10 : decode cX6_set 10 = .ok (.iconst 1, 1) := dk_4 (dk_at dksX6_set_0 10 rfl rfl)
theorem dX6_set_11 : decode cX6_set 11 = .ok (.invokestatic 85, 3) := dk_184 0 85 (dk_at dksX6_set_0 11 rfl rfl)
theorem dX6_set_14 : decode cX6_set 14 = .ok (.ifCond .ne 5, 3) := dk_154 0 5 (dk_at dksX6_set_0 14 rfl rfl)
theorem dX6_set_17 : decode cX6_set 17 = .ok (.iconst (-1), 1) := dk_2 (dk_at dksX6_set_0 17 rfl rfl)
theorem dX6_set_18 : decode cX6_set 18 = .ok (.ireturn, 1) := dk_172 (dk_at dksX6_set_0 18 rfl rfl)
theorem dX6_set_19 : decode cX6_set 19 = .ok (.iload_n 3, 1) := dk_29 (dk_at dksX6_set_0 19 rfl rfl)
theorem dX6_set_20 : decode cX6_set 20 = .ok (.iconst 0, 1) := dk_3 (dk_at dksX6_set_0 20 rfl rfl)
theorem dX6_set_21 : decode cX6_set 21 = .ok (.iload_n 2, 1) := dk_28 (dk_at dksX6_set_0 21 rfl rfl)
theorem dX6_set_22 : decode cX6_set 22 = .ok (.ifCond .ne 8, 3) := dk_154 0 8 (dk_at dksX6_set_1 0 rfl rfl)
theorem dX6_set_25 : decode cX6_set 25 = .ok (.bipush 20, 2) := dk_16 20 (dk_at dksX6_set_1 3 rfl rfl)
theorem dX6_set_27 : decode cX6_set 27 = .ok (.goto 5, 3) := dk_167 0 5 (dk_at dksX6_set_1 5 rfl rfl)
theorem dX6_set_30 : decode cX6_set 30 = .ok (.bipush 9, 2) := dk_16 9 (dk_at dksX6_set_1 8 rfl rfl)
theorem dX6_set_32 : decode cX6_set 32 = .ok (.invokestatic 85, 3) := dk_184 0 85 (dk_at dksX6_set_1 10 rfl rfl)
theorem dX6_set_35 : decode cX6_set 35 = .ok (.ifCond .eq 15, 3) := dk_153 0 15 (dk_at dksX6_set_1 13 rfl rfl)
theorem dX6_set_38 : decode cX6_set 38 = .ok (.aload_n 0, 1) := dk_42 (dk_at dksX6_set_1 16 rfl rfl)
theorem dX6_set_39 : decode cX6_set 39 = .ok (.iload_n 1, 1) := dk_27 (dk_at dksX6_set_1 17 rfl rfl)
theorem dX6_set_40 : decode cX6_set 40 = .ok (.iconst 2, 1) := dk_5 (dk_at dksX6_set_1 18 rfl rfl)
theorem dX6_set_41 : decode cX6_set 41 = .ok (.iload_n 2, 1) := dk_28 (dk_at dksX6_set_1 19 rfl rfl)
theorem dX6_set_42 : decode cX6_set 42 = .ok (.iadd, 1) := dk_96 (dk_at dksX6_set_1 20 rfl rfl)
theorem dX6_set_43 : decode cX6_set 43 = .ok (.iload_n 3, 1) := dk_29 (dk_at dksX6_set_1 21 rfl rfl)
theorem dX6_set_44 : decode cX6_set 44 = .ok (.invokevirtual 97, 3) := dk_182 0 97 (dk_at dksX6_set_2 0 rfl rfl)
theorem dX6_set_47 : decode cX6_set 47 = .ok (.goto 5, 3) := dk_167 0 5 (dk_at dksX6_set_2 3 rfl rfl)
theorem dX6_set_50 : decode cX6_set 50 = .ok (.bipush (-2), 2) := dk_16 254 (dk_at dksX6_set_2 6 rfl rfl)
theorem dX6_set_52 : decode cX6_set 52 = .ok (.ireturn, 1) := dk_172 (dk_at dksX6_set_2 8 rfl rfl)
abbrev cX6_away : ByteArray := prog_23_method_16_code
def yX6_away : MethodName := ⟨RX6, "away", "(IZ)I"⟩
def dkwX6_away_1 : List UInt8 := [167, 0, 4, 2, 172]
abbrev dktX6_away_1 : List UInt8 := dkwX6_away_1 ++ []
def dkwX6_away_0 : List UInt8 := [42, 27, 182, 0, 101, 153, 0, 21, 42, 27, 7, 28, 153, 0, 7, 4, 167, 0, 4, 3, 182, 0, 97]
abbrev dktX6_away_0 : List UInt8 := dkwX6_away_0 ++ dktX6_away_1
theorem dksX6_away_0 : cX6_away.data.toList.drop 0 = dktX6_away_0 := by decide +kernel
theorem dksX6_away_1 : cX6_away.data.toList.drop 23 = dktX6_away_1 := dk_seg dksX6_away_0 23 rfl rfl
theorem dX6_away_0 : decode cX6_away 0 = .ok (.aload_n 0, 1) := dk_42 (dk_at dksX6_away_0 0 rfl rfl)
theorem dX6_away_1 : decode cX6_away 1 = .ok (.iload_n 1, 1) := dk_27 (dk_at dksX6_away_0 1 rfl rfl)
theorem dX6_away_2 : decode cX6_away 2 = .ok (.invokevirtual 101, 3) := dk_182 0 101 (dk_at dksX6_away_0 2 rfl rfl)
theorem dX6_away_5 : decode cX6_away 5 = .ok (.ifCond .eq 21, 3) := dk_153 0 21 (dk_at dksX6_away_0 5 rfl rfl)
theorem dX6_away_8 : decode cX6_away 8 = .ok (.aload_n 0, 1) := dk_42 (dk_at dksX6_away_0 8 rfl rfl)
theorem dX6_away_9 : decode cX6_away 9 = .ok (.iload_n 1, 1) := dk_27 (dk_at dksX6_away_0 9 rfl rfl)
theorem dX6_away_10 : decode cX6_away 10 = .ok (.iconst 4, 1) := dk_7 (dk_at dksX6_away_0 10 rfl rfl)
theorem dX6_away_11 : decode cX6_away 11 = .ok (.iload_n 2, 1) := dk_28 (dk_at dksX6_away_0 11 rfl rfl)
theorem dX6_away_12 : decode cX6_away 12 = .ok (.ifCond .eq 7, 3) := dk_153 0 7 (dk_at dksX6_away_0 12 rfl rfl)
theorem dX6_away_15 : decode cX6_away 15 = .ok (.iconst 1, 1) := dk_4 (dk_at dksX6_away_0 15 rfl rfl)
theorem dX6_away_16 : decode cX6_away 16 = .ok (.goto 4, 3) := dk_167 0 4 (dk_at dksX6_away_0 16 rfl rfl)
theorem dX6_away_19 : decode cX6_away 19 = .ok (.iconst 0, 1) := dk_3 (dk_at dksX6_away_0 19 rfl rfl)
theorem dX6_away_20 : decode cX6_away 20 = .ok (.invokevirtual 97, 3) := dk_182 0 97 (dk_at dksX6_away_0 20 rfl rfl)
theorem dX6_away_23 : decode cX6_away 23 = .ok (.goto 4, 3) := dk_167 0 4 (dk_at dksX6_away_1 0 rfl rfl)
theorem dX6_away_26 : decode cX6_away 26 = .ok (.iconst (-1), 1) := dk_2 (dk_at dksX6_away_1 3 rfl rfl)
theorem dX6_away_27 : decode cX6_away 27 = .ok (.ireturn, 1) := dk_172 (dk_at dksX6_away_1 4 rfl rfl)
abbrev cX6_debt : ByteArray := prog_23_method_17_code
def yX6_debt : MethodName := ⟨RX6, "debt", "(I)I"⟩
def dkwX6_debt_1 : List UInt8 := [180, 0, 15, 16, 61, 27, 79, 28, 172]
abbrev dktX6_debt_1 : List UInt8 := dkwX6_debt_1 ++ []
def dkwX6_debt_0 : List UInt8 := [27, 3, 17, 3, 231, 184, 0, 85, 154, 0, 6, 16, 254, 172, 42, 180, 0, 15, 16, 61, 46, 61, 42]
abbrev dktX6_debt_0 : List UInt8 := dkwX6_debt_0 ++ dktX6_debt_1
theorem dksX6_debt_0 : cX6_debt.data.toList.drop 0 = dktX6_debt_0 := by decide +kernel
theorem dksX6_debt_1 : cX6_debt.data.toList.drop 23 = dktX6_debt_1 := dk_seg dksX6_debt_0 23 rfl rfl
theorem dX6_debt_0 : decode cX6_debt 0 = .ok (.iload_n 1, 1) := dk_27 (dk_at dksX6_debt_0 0 rfl rfl)
theorem dX6_debt_1 : decode cX6_debt 1 = .ok (.iconst 0, 1) := dk_3 (dk_at dksX6_debt_0 1 rfl rfl)
theorem dX6_debt_2 : decode cX6_debt 2 = .ok (.sipush 999, 3) := dk_17 3 231 (dk_at dksX6_debt_0 2 rfl rfl)
theorem dX6_debt_5 : decode cX6_debt 5 = .ok (.invokestatic 85, 3) := dk_184 0 85 (dk_at dksX6_debt_0 5 rfl rfl)
theorem dX6_debt_8 : decode cX6_debt 8 = .ok (.ifCond .ne 6, 3) := dk_154 0 6 (dk_at dksX6_debt_0 8 rfl rfl)
theorem dX6_debt_11 : decode cX6_debt 11 = .ok (.bipush (-2), 2) := dk_16 254 (dk_at dksX6_debt_0 11 rfl rfl)
theorem dX6_debt_13 : decode cX6_debt 13 = .ok (.ireturn, 1) := dk_172 (dk_at dksX6_debt_0 13 rfl rfl)
theorem dX6_debt_14 : decode cX6_debt 14 = .ok (.aload_n 0, 1) := dk_42 (dk_at dksX6_debt_0 14 rfl rfl)
theorem dX6_debt_15 : decode cX6_debt 15 = .ok (.getfield 15, 3) := dk_180 0 15 (dk_at dksX6_debt_0 15 rfl rfl)
theorem dX6_debt_18 : decode cX6_debt 18 = .ok (.bipush 61, 2) := dk_16 61 (dk_at dksX6_debt_0 18 rfl rfl)
theorem dX6_debt_20 : decode cX6_debt 20 = .ok (.iaload, 1) := dk_46 (dk_at dksX6_debt_0 20 rfl rfl)
theorem dX6_debt_21 : decode cX6_debt 21 = .ok (.istore_n 2, 1) := dk_61 (dk_at dksX6_debt_0 21 rfl rfl)
theorem dX6_debt_22 : decode cX6_debt 22 = .ok (.aload_n 0, 1) := dk_42 (dk_at dksX6_debt_0 22 rfl rfl)
theorem dX6_debt_23 : decode cX6_debt 23 = .ok (.getfield 15, 3) := dk_180 0 15 (dk_at dksX6_debt_1 0 rfl rfl)
theorem dX6_debt_26 : decode cX6_debt 26 = .ok (.bipush 61, 2) := dk_16 61 (dk_at dksX6_debt_1 3 rfl rfl)
theorem dX6_debt_28 : decode cX6_debt 28 = .ok (.iload_n 1, 1) := dk_27 (dk_at dksX6_debt_1 5 rfl rfl)
theorem dX6_debt_29 : decode cX6_debt 29 = .ok (.iastore, 1) := dk_79 (dk_at dksX6_debt_1 6 rfl rfl)
theorem dX6_debt_30 : decode cX6_debt 30 = .ok (.iload_n 2, 1) := dk_28 (dk_at dksX6_debt_1 7 rfl rfl)
theorem dX6_debt_31 : decode cX6_debt 31 = .ok (.ireturn, 1) := dk_172 (dk_at dksX6_debt_1 8 rfl rfl)
abbrev cX6_row : ByteArray := prog_23_method_18_code
def yX6_row : MethodName := ⟨RX6, "row", "(III)I"⟩
def dkwX6_row_2 : List UInt8 := [28, 96, 29, 182, 0, 97, 167, 0, 5, 16, 253, 172]
abbrev dktX6_row_2 : List UInt8 := dkwX6_row_2 ++ []
def dkwX6_row_1 : List UInt8 := [184, 0, 85, 154, 0, 6, 16, 254, 172, 42, 27, 3, 182, 0, 89, 16, 6, 160, 0, 16, 42, 27, 16, 6]
abbrev dktX6_row_1 : List UInt8 := dkwX6_row_1 ++ dktX6_row_2
def dkwX6_row_0 : List UInt8 := [42, 27, 182, 0, 101, 153, 0, 12, 28, 3, 6, 184, 0, 85, 154, 0, 5, 2, 172, 29, 3, 16, 9]
abbrev dktX6_row_0 : List UInt8 := dkwX6_row_0 ++ dktX6_row_1
theorem dksX6_row_0 : cX6_row.data.toList.drop 0 = dktX6_row_0 := by decide +kernel
theorem dksX6_row_1 : cX6_row.data.toList.drop 23 = dktX6_row_1 := dk_seg dksX6_row_0 23 rfl rfl
theorem dksX6_row_2 : cX6_row.data.toList.drop 47 = dktX6_row_2 := dk_seg dksX6_row_1 24 rfl rfl
theorem dX6_row_0 : decode cX6_row 0 = .ok (.aload_n 0, 1) := dk_42 (dk_at dksX6_row_0 0 rfl rfl)
theorem dX6_row_1 : decode cX6_row 1 = .ok (.iload_n 1, 1) := dk_27 (dk_at dksX6_row_0 1 rfl rfl)
theorem dX6_row_2 : decode cX6_row 2 = .ok (.invokevirtual 101, 3) := dk_182 0 101 (dk_at dksX6_row_0 2 rfl rfl)
theorem dX6_row_5 : decode cX6_row 5 = .ok (.ifCond .eq 12, 3) := dk_153 0 12 (dk_at dksX6_row_0 5 rfl rfl)
theorem dX6_row_8 : decode cX6_row 8 = .ok (.iload_n 2, 1) := dk_28 (dk_at dksX6_row_0 8 rfl rfl)
theorem dX6_row_9 : decode cX6_row 9 = .ok (.iconst 0, 1) := dk_3 (dk_at dksX6_row_0 9 rfl rfl)
theorem dX6_row_10 : decode cX6_row 10 = .ok (.iconst 3, 1) := dk_6 (dk_at dksX6_row_0 10 rfl rfl)
theorem dX6_row_11 : decode cX6_row 11 = .ok (.invokestatic 85, 3) := dk_184 0 85 (dk_at dksX6_row_0 11 rfl rfl)
theorem dX6_row_14 : decode cX6_row 14 = .ok (.ifCond .ne 5, 3) := dk_154 0 5 (dk_at dksX6_row_0 14 rfl rfl)
theorem dX6_row_17 : decode cX6_row 17 = .ok (.iconst (-1), 1) := dk_2 (dk_at dksX6_row_0 17 rfl rfl)
theorem dX6_row_18 : decode cX6_row 18 = .ok (.ireturn, 1) := dk_172 (dk_at dksX6_row_0 18 rfl rfl)
theorem dX6_row_19 : decode cX6_row 19 = .ok (.iload_n 3, 1) := dk_29 (dk_at dksX6_row_0 19 rfl rfl)
theorem dX6_row_20 : decode cX6_row 20 = .ok (.iconst 0, 1) := dk_3 (dk_at dksX6_row_0 20 rfl rfl)
theorem dX6_row_21 : decode cX6_row 21 = .ok (.bipush 9, 2) := dk_16 9 (dk_at dksX6_row_0 21 rfl rfl)
theorem dX6_row_23 : decode cX6_row 23 = .ok (.invokestatic 85, 3) := dk_184 0 85 (dk_at dksX6_row_1 0 rfl rfl)
theorem dX6_row_26 : decode cX6_row 26 = .ok (.ifCond .ne 6, 3) := dk_154 0 6 (dk_at dksX6_row_1 3 rfl rfl)
theorem dX6_row_29 : decode cX6_row 29 = .ok (.bipush (-2), 2) := dk_16 254 (dk_at dksX6_row_1 6 rfl rfl)
theorem dX6_row_31 : decode cX6_row 31 = .ok (.ireturn, 1) := dk_172 (dk_at dksX6_row_1 8 rfl rfl)
theorem dX6_row_32 : decode cX6_row 32 = .ok (.aload_n 0, 1) := dk_42 (dk_at dksX6_row_1 9 rfl rfl)
theorem dX6_row_33 : decode cX6_row 33 = .ok (.iload_n 1, 1) := dk_27 (dk_at dksX6_row_1 10 rfl rfl)
theorem dX6_row_34 : decode cX6_row 34 = .ok (.iconst 0, 1) := dk_3 (dk_at dksX6_row_1 11 rfl rfl)
theorem dX6_row_35 : decode cX6_row 35 = .ok (.invokevirtual 89, 3) := dk_182 0 89 (dk_at dksX6_row_1 12 rfl rfl)
theorem dX6_row_38 : decode cX6_row 38 = .ok (.bipush 6, 2) := dk_16 6 (dk_at dksX6_row_1 15 rfl rfl)
theorem dX6_row_40 : decode cX6_row 40 = .ok (.if_icmp .ne 16, 3) := dk_160 0 16 (dk_at dksX6_row_1 17 rfl rfl)
theorem dX6_row_43 : decode cX6_row 43 = .ok (.aload_n 0, 1) := dk_42 (dk_at dksX6_row_1 20 rfl rfl)
theorem dX6_row_44 : decode cX6_row 44 = .ok (.iload_n 1, 1) := dk_27 (dk_at dksX6_row_1 21 rfl rfl)
theorem dX6_row_45 : decode cX6_row 45 = .ok (.bipush 6, 2) := dk_16 6 (dk_at dksX6_row_1 22 rfl rfl)
theorem dX6_row_47 : decode cX6_row 47 = .ok (.iload_n 2, 1) := dk_28 (dk_at dksX6_row_2 0 rfl rfl)
theorem dX6_row_48 : decode cX6_row 48 = .ok (.iadd, 1) := dk_96 (dk_at dksX6_row_2 1 rfl rfl)
theorem dX6_row_49 : decode cX6_row 49 = .ok (.iload_n 3, 1) := dk_29 (dk_at dksX6_row_2 2 rfl rfl)
theorem dX6_row_50 : decode cX6_row 50 = .ok (.invokevirtual 97, 3) := dk_182 0 97 (dk_at dksX6_row_2 3 rfl rfl)
theorem dX6_row_53 : decode cX6_row 53 = .ok (.goto 5, 3) := dk_167 0 5 (dk_at dksX6_row_2 6 rfl rfl)
theorem dX6_row_56 : decode cX6_row 56 = .ok (.bipush (-3), 2) := dk_16 253 (dk_at dksX6_row_2 9 rfl rfl)
theorem dX6_row_58 : decode cX6_row 58 = .ok (.ireturn, 1) := dk_172 (dk_at dksX6_row_2 11 rfl rfl)
abbrev cX6_feed : ByteArray := prog_23_method_19_code
def yX6_feed : MethodName := ⟨RX6, "feed", "(I)I"⟩
def dkwX6_feed_2 : List UInt8 := [180, 0, 117, 172]
abbrev dktX6_feed_2 : List UInt8 := dkwX6_feed_2 ++ []
def dkwX6_feed_1 : List UInt8 := [172, 42, 180, 0, 25, 42, 180, 0, 117, 27, 79, 42, 89, 180, 0, 117, 4, 96, 181, 0, 117, 42]
abbrev dktX6_feed_1 : List UInt8 := dkwX6_feed_1 ++ dktX6_feed_2
def dkwX6_feed_0 : List UInt8 := [27, 3, 16, 127, 184, 0, 85, 154, 0, 6, 16, 254, 172, 42, 180, 0, 117, 16, 100, 160, 0, 6, 16, 252]
abbrev dktX6_feed_0 : List UInt8 := dkwX6_feed_0 ++ dktX6_feed_1
theorem dksX6_feed_0 : cX6_feed.data.toList.drop 0 = dktX6_feed_0 := by decide +kernel
theorem dksX6_feed_1 : cX6_feed.data.toList.drop 24 = dktX6_feed_1 := dk_seg dksX6_feed_0 24 rfl rfl
theorem dksX6_feed_2 : cX6_feed.data.toList.drop 46 = dktX6_feed_2 := dk_seg dksX6_feed_1 22 rfl rfl
theorem dX6_feed_0 : decode cX6_feed 0 = .ok (.iload_n 1, 1) := dk_27 (dk_at dksX6_feed_0 0 rfl rfl)
theorem dX6_feed_1 : decode cX6_feed 1 = .ok (.iconst 0, 1) := dk_3 (dk_at dksX6_feed_0 1 rfl rfl)
theorem dX6_feed_2 : decode cX6_feed 2 = .ok (.bipush 127, 2) := dk_16 127 (dk_at dksX6_feed_0 2 rfl rfl)
theorem dX6_feed_4 : decode cX6_feed 4 = .ok (.invokestatic 85, 3) := dk_184 0 85 (dk_at dksX6_feed_0 4 rfl rfl)
theorem dX6_feed_7 : decode cX6_feed 7 = .ok (.ifCond .ne 6, 3) := dk_154 0 6 (dk_at dksX6_feed_0 7 rfl rfl)
theorem dX6_feed_10 : decode cX6_feed 10 = .ok (.bipush (-2), 2) := dk_16 254 (dk_at dksX6_feed_0 10 rfl rfl)
theorem dX6_feed_12 : decode cX6_feed 12 = .ok (.ireturn, 1) := dk_172 (dk_at dksX6_feed_0 12 rfl rfl)
theorem dX6_feed_13 : decode cX6_feed 13 = .ok (.aload_n 0, 1) := dk_42 (dk_at dksX6_feed_0 13 rfl rfl)
theorem dX6_feed_14 : decode cX6_feed 14 = .ok (.getfield 117, 3) := dk_180 0 117 (dk_at dksX6_feed_0 14 rfl rfl)
theorem dX6_feed_17 : decode cX6_feed 17 = .ok (.bipush 100, 2) := dk_16 100 (dk_at dksX6_feed_0 17 rfl rfl)
theorem dX6_feed_19 : decode cX6_feed 19 = .ok (.if_icmp .ne 6, 3) := dk_160 0 6 (dk_at dksX6_feed_0 19 rfl rfl)
theorem dX6_feed_22 : decode cX6_feed 22 = .ok (.bipush (-4), 2) := dk_16 252 (dk_at dksX6_feed_0 22 rfl rfl)
theorem dX6_feed_24 : decode cX6_feed 24 = .ok (.ireturn, 1) := dk_172 (dk_at dksX6_feed_1 0 rfl rfl)
theorem dX6_feed_25 : decode cX6_feed 25 = .ok (.aload_n 0, 1) := dk_42 (dk_at dksX6_feed_1 1 rfl rfl)
theorem dX6_feed_26 : decode cX6_feed 26 = .ok (.getfield 25, 3) := dk_180 0 25 (dk_at dksX6_feed_1 2 rfl rfl)
theorem dX6_feed_29 : decode cX6_feed 29 = .ok (.aload_n 0, 1) := dk_42 (dk_at dksX6_feed_1 5 rfl rfl)
theorem dX6_feed_30 : decode cX6_feed 30 = .ok (.getfield 117, 3) := dk_180 0 117 (dk_at dksX6_feed_1 6 rfl rfl)
theorem dX6_feed_33 : decode cX6_feed 33 = .ok (.iload_n 1, 1) := dk_27 (dk_at dksX6_feed_1 9 rfl rfl)
theorem dX6_feed_34 : decode cX6_feed 34 = .ok (.iastore, 1) := dk_79 (dk_at dksX6_feed_1 10 rfl rfl)
theorem dX6_feed_35 : decode cX6_feed 35 = .ok (.aload_n 0, 1) := dk_42 (dk_at dksX6_feed_1 11 rfl rfl)
theorem dX6_feed_36 : decode cX6_feed 36 = .ok (.dup, 1) := dk_89 (dk_at dksX6_feed_1 12 rfl rfl)
theorem dX6_feed_37 : decode cX6_feed 37 = .ok (.getfield 117, 3) := dk_180 0 117 (dk_at dksX6_feed_1 13 rfl rfl)
theorem dX6_feed_40 : decode cX6_feed 40 = .ok (.iconst 1, 1) := dk_4 (dk_at dksX6_feed_1 16 rfl rfl)
theorem dX6_feed_41 : decode cX6_feed 41 = .ok (.iadd, 1) := dk_96 (dk_at dksX6_feed_1 17 rfl rfl)
theorem dX6_feed_42 : decode cX6_feed 42 = .ok (.putfield 117, 3) := dk_181 0 117 (dk_at dksX6_feed_1 18 rfl rfl)
theorem dX6_feed_45 : decode cX6_feed 45 = .ok (.aload_n 0, 1) := dk_42 (dk_at dksX6_feed_1 21 rfl rfl)
theorem dX6_feed_46 : decode cX6_feed 46 = .ok (.getfield 117, 3) := dk_180 0 117 (dk_at dksX6_feed_2 0 rfl rfl)
theorem dX6_feed_49 : decode cX6_feed 49 = .ok (.ireturn, 1) := dk_172 (dk_at dksX6_feed_2 3 rfl rfl)
abbrev cX6_parish : ByteArray := prog_23_method_31_code
def yX6_parish : MethodName := ⟨RX6, "parish", "()I"⟩
def dkwX6_parish_6 : List UInt8 := [100, 172]
abbrev dktX6_parish_6 : List UInt8 := dkwX6_parish_6 ++ []
def dkwX6_parish_5 : List UInt8 := [180, 0, 172, 4, 96, 181, 0, 172, 42, 180, 0, 15, 16, 63, 42, 180, 0, 172, 79, 42, 180, 0, 172, 4]
abbrev dktX6_parish_5 : List UInt8 := dkwX6_parish_5 ++ dktX6_parish_6
def dkwX6_parish_4 : List UInt8 := [46, 79, 132, 1, 1, 167, 255, 225, 42, 180, 0, 31, 42, 180, 0, 172, 42, 180, 0, 127, 79, 42, 89]
abbrev dktX6_parish_4 : List UInt8 := dkwX6_parish_4 ++ dktX6_parish_5
def dkwX6_parish_3 : List UInt8 := [180, 0, 127, 162, 0, 29, 42, 180, 0, 28, 16, 100, 42, 180, 0, 172, 104, 27, 96, 42, 180, 0, 34, 27]
abbrev dktX6_parish_3 : List UInt8 := dkwX6_parish_3 ++ dktX6_parish_4
def dkwX6_parish_2 : List UInt8 := [42, 3, 181, 0, 117, 42, 182, 0, 169, 154, 0, 11, 16, 246, 42, 180, 0, 124, 100, 172, 3, 60, 27, 42]
abbrev dktX6_parish_2 : List UInt8 := dkwX6_parish_2 ++ dktX6_parish_3
def dkwX6_parish_1 : List UInt8 := [180, 0, 127, 162, 0, 21, 42, 180, 0, 34, 27, 42, 180, 0, 25, 27, 46, 79, 132, 1, 1, 167, 255, 233]
abbrev dktX6_parish_1 : List UInt8 := dkwX6_parish_1 ++ dktX6_parish_2
def dkwX6_parish_0 : List UInt8 := [42, 180, 0, 172, 16, 6, 160, 0, 6, 16, 252, 172, 42, 42, 180, 0, 117, 181, 0, 127, 3, 60, 27, 42]
abbrev dktX6_parish_0 : List UInt8 := dkwX6_parish_0 ++ dktX6_parish_1
theorem dksX6_parish_0 : cX6_parish.data.toList.drop 0 = dktX6_parish_0 := by decide +kernel
theorem dksX6_parish_1 : cX6_parish.data.toList.drop 24 = dktX6_parish_1 := dk_seg dksX6_parish_0 24 rfl rfl
theorem dksX6_parish_2 : cX6_parish.data.toList.drop 48 = dktX6_parish_2 := dk_seg dksX6_parish_1 24 rfl rfl
theorem dksX6_parish_3 : cX6_parish.data.toList.drop 72 = dktX6_parish_3 := dk_seg dksX6_parish_2 24 rfl rfl
theorem dksX6_parish_4 : cX6_parish.data.toList.drop 96 = dktX6_parish_4 := dk_seg dksX6_parish_3 24 rfl rfl
theorem dksX6_parish_5 : cX6_parish.data.toList.drop 119 = dktX6_parish_5 := dk_seg dksX6_parish_4 23 rfl rfl
theorem dksX6_parish_6 : cX6_parish.data.toList.drop 143 = dktX6_parish_6 := dk_seg dksX6_parish_5 24 rfl rfl
theorem dX6_parish_0 : decode cX6_parish 0 = .ok (.aload_n 0, 1) := dk_42 (dk_at dksX6_parish_0 0 rfl rfl)
theorem dX6_parish_1 : decode cX6_parish 1 = .ok (.getfield 172, 3) := dk_180 0 172 (dk_at dksX6_parish_0 1 rfl rfl)
theorem dX6_parish_4 : decode cX6_parish 4 = .ok (.bipush 6, 2) := dk_16 6 (dk_at dksX6_parish_0 4 rfl rfl)
theorem dX6_parish_6 : decode cX6_parish 6 = .ok (.if_icmp .ne 6, 3) := dk_160 0 6 (dk_at dksX6_parish_0 6 rfl rfl)
theorem dX6_parish_9 : decode cX6_parish 9 = .ok (.bipush (-4), 2) := dk_16 252 (dk_at dksX6_parish_0 9 rfl rfl)
theorem dX6_parish_11 : decode cX6_parish 11 = .ok (.ireturn, 1) := dk_172 (dk_at dksX6_parish_0 11 rfl rfl)
theorem dX6_parish_12 : decode cX6_parish 12 = .ok (.aload_n 0, 1) := dk_42 (dk_at dksX6_parish_0 12 rfl rfl)
theorem dX6_parish_13 : decode cX6_parish 13 = .ok (.aload_n 0, 1) := dk_42 (dk_at dksX6_parish_0 13 rfl rfl)
theorem dX6_parish_14 : decode cX6_parish 14 = .ok (.getfield 117, 3) := dk_180 0 117 (dk_at dksX6_parish_0 14 rfl rfl)
theorem dX6_parish_17 : decode cX6_parish 17 = .ok (.putfield 127, 3) := dk_181 0 127 (dk_at dksX6_parish_0 17 rfl rfl)
theorem dX6_parish_20 : decode cX6_parish 20 = .ok (.iconst 0, 1) := dk_3 (dk_at dksX6_parish_0 20 rfl rfl)
theorem dX6_parish_21 : decode cX6_parish 21 = .ok (.istore_n 1, 1) := dk_60 (dk_at dksX6_parish_0 21 rfl rfl)
theorem dX6_parish_22 : decode cX6_parish 22 = .ok (.iload_n 1, 1) := dk_27 (dk_at dksX6_parish_0 22 rfl rfl)
theorem dX6_parish_23 : decode cX6_parish 23 = .ok (.aload_n 0, 1) := dk_42 (dk_at dksX6_parish_0 23 rfl rfl)
theorem dX6_parish_24 : decode cX6_parish 24 = .ok (.getfield 127, 3) := dk_180 0 127 (dk_at dksX6_parish_1 0 rfl rfl)
theorem dX6_parish_27 : decode cX6_parish 27 = .ok (.if_icmp .ge 21, 3) := dk_162 0 21 (dk_at dksX6_parish_1 3 rfl rfl)
theorem dX6_parish_30 : decode cX6_parish 30 = .ok (.aload_n 0, 1) := dk_42 (dk_at dksX6_parish_1 6 rfl rfl)
theorem dX6_parish_31 : decode cX6_parish 31 = .ok (.getfield 34, 3) := dk_180 0 34 (dk_at dksX6_parish_1 7 rfl rfl)
theorem dX6_parish_34 : decode cX6_parish 34 = .ok (.iload_n 1, 1) := dk_27 (dk_at dksX6_parish_1 10 rfl rfl)
theorem dX6_parish_35 : decode cX6_parish 35 = .ok (.aload_n 0, 1) := dk_42 (dk_at dksX6_parish_1 11 rfl rfl)
theorem dX6_parish_36 : decode cX6_parish 36 = .ok (.getfield 25, 3) := dk_180 0 25 (dk_at dksX6_parish_1 12 rfl rfl)
theorem dX6_parish_39 : decode cX6_parish 39 = .ok (.iload_n 1, 1) := dk_27 (dk_at dksX6_parish_1 15 rfl rfl)
theorem dX6_parish_40 : decode cX6_parish 40 = .ok (.iaload, 1) := dk_46 (dk_at dksX6_parish_1 16 rfl rfl)
theorem dX6_parish_41 : decode cX6_parish 41 = .ok (.iastore, 1) := dk_79 (dk_at dksX6_parish_1 17 rfl rfl)
theorem dX6_parish_42 : decode cX6_parish 42 = .ok (.iinc 1 1, 3) := dk_132 1 1 (dk_at dksX6_parish_1 18 rfl rfl)
theorem dX6_parish_45 : decode cX6_parish 45 = .ok (.goto (-23), 3) := dk_167 255 233 (dk_at dksX6_parish_1 21 rfl rfl)
theorem dX6_parish_48 : decode cX6_parish 48 = .ok (.aload_n 0, 1) := dk_42 (dk_at dksX6_parish_2 0 rfl rfl)
theorem dX6_parish_49 : decode cX6_parish 49 = .ok (.iconst 0, 1) := dk_3 (dk_at dksX6_parish_2 1 rfl rfl)
theorem dX6_parish_50 : decode cX6_parish 50 = .ok (.putfield 117, 3) := dk_181 0 117 (dk_at dksX6_parish_2 2 rfl rfl)
theorem dX6_parish_53 : decode cX6_parish 53 = .ok (.aload_n 0, 1) := dk_42 (dk_at dksX6_parish_2 5 rfl rfl)
theorem dX6_parish_54 : decode cX6_parish 54 = .ok (.invokevirtual 169, 3) := dk_182 0 169 (dk_at dksX6_parish_2 6 rfl rfl)
theorem dX6_parish_57 : decode cX6_parish 57 = .ok (.ifCond .ne 11, 3) := dk_154 0 11 (dk_at dksX6_parish_2 9 rfl rfl)
theorem dX6_parish_60 : decode cX6_parish 60 = .ok (.bipush (-10), 2) := dk_16 246 (dk_at dksX6_parish_2 12 rfl rfl)
theorem dX6_parish_62 : decode cX6_parish 62 = .ok (.aload_n 0, 1) := dk_42 (dk_at dksX6_parish_2 14 rfl rfl)
theorem dX6_parish_63 : decode cX6_parish 63 = .ok (.getfield 124, 3) := dk_180 0 124 (dk_at dksX6_parish_2 15 rfl rfl)
theorem dX6_parish_66 : decode cX6_parish 66 = .ok (.isub, 1) := dk_100 (dk_at dksX6_parish_2 18 rfl rfl)
theorem dX6_parish_67 : decode cX6_parish 67 = .ok (.ireturn, 1) := dk_172 (dk_at dksX6_parish_2 19 rfl rfl)
theorem dX6_parish_68 : decode cX6_parish 68 = .ok (.iconst 0, 1) := dk_3 (dk_at dksX6_parish_2 20 rfl rfl)
theorem dX6_parish_69 : decode cX6_parish 69 = .ok (.istore_n 1, 1) := dk_60 (dk_at dksX6_parish_2 21 rfl rfl)
theorem dX6_parish_70 : decode cX6_parish 70 = .ok (.iload_n 1, 1) := dk_27 (dk_at dksX6_parish_2 22 rfl rfl)
theorem dX6_parish_71 : decode cX6_parish 71 = .ok (.aload_n 0, 1) := dk_42 (dk_at dksX6_parish_2 23 rfl rfl)
theorem dX6_parish_72 : decode cX6_parish 72 = .ok (.getfield 127, 3) := dk_180 0 127 (dk_at dksX6_parish_3 0 rfl rfl)
theorem dX6_parish_75 : decode cX6_parish 75 = .ok (.if_icmp .ge 29, 3) := dk_162 0 29 (dk_at dksX6_parish_3 3 rfl rfl)
theorem dX6_parish_78 : decode cX6_parish 78 = .ok (.aload_n 0, 1) := dk_42 (dk_at dksX6_parish_3 6 rfl rfl)
theorem dX6_parish_79 : decode cX6_parish 79 = .ok (.getfield 28, 3) := dk_180 0 28 (dk_at dksX6_parish_3 7 rfl rfl)
theorem dX6_parish_82 : decode cX6_parish 82 = .ok (.bipush 100, 2) := dk_16 100 (dk_at dksX6_parish_3 10 rfl rfl)
theorem dX6_parish_84 : decode cX6_parish 84 = .ok (.aload_n 0, 1) := dk_42 (dk_at dksX6_parish_3 12 rfl rfl)
theorem dX6_parish_85 : decode cX6_parish 85 = .ok (.getfield 172, 3) := dk_180 0 172 (dk_at dksX6_parish_3 13 rfl rfl)
theorem dX6_parish_88 : decode cX6_parish 88 = .ok (.imul, 1) := dk_104 (dk_at dksX6_parish_3 16 rfl rfl)
theorem dX6_parish_89 : decode cX6_parish 89 = .ok (.iload_n 1, 1) := dk_27 (dk_at dksX6_parish_3 17 rfl rfl)
theorem dX6_parish_90 : decode cX6_parish 90 = .ok (.iadd, 1) := dk_96 (dk_at dksX6_parish_3 18 rfl rfl)
theorem dX6_parish_91 : decode cX6_parish 91 = .ok (.aload_n 0, 1) := dk_42 (dk_at dksX6_parish_3 19 rfl rfl)
theorem dX6_parish_92 : decode cX6_parish 92 = .ok (.getfield 34, 3) := dk_180 0 34 (dk_at dksX6_parish_3 20 rfl rfl)
theorem dX6_parish_95 : decode cX6_parish 95 = .ok (.iload_n 1, 1) := dk_27 (dk_at dksX6_parish_3 23 rfl rfl)
theorem dX6_parish_96 : decode cX6_parish 96 = .ok (.iaload, 1) := dk_46 (dk_at dksX6_parish_4 0 rfl rfl)
theorem dX6_parish_97 : decode cX6_parish 97 = .ok (.iastore, 1) := dk_79 (dk_at dksX6_parish_4 1 rfl rfl)
theorem dX6_parish_98 : decode cX6_parish 98 = .ok (.iinc 1 1, 3) := dk_132 1 1 (dk_at dksX6_parish_4 2 rfl rfl)
theorem dX6_parish_101 : decode cX6_parish 101 = .ok (.goto (-31), 3) := dk_167 255 225 (dk_at dksX6_parish_4 5 rfl rfl)
theorem dX6_parish_104 : decode cX6_parish 104 = .ok (.aload_n 0, 1) := dk_42 (dk_at dksX6_parish_4 8 rfl rfl)
theorem dX6_parish_105 : decode cX6_parish 105 = .ok (.getfield 31, 3) := dk_180 0 31 (dk_at dksX6_parish_4 9 rfl rfl)
theorem dX6_parish_108 : decode cX6_parish 108 = .ok (.aload_n 0, 1) := dk_42 (dk_at dksX6_parish_4 12 rfl rfl)
theorem dX6_parish_109 : decode cX6_parish 109 = .ok (.getfield 172, 3) := dk_180 0 172 (dk_at dksX6_parish_4 13 rfl rfl)
theorem dX6_parish_112 : decode cX6_parish 112 = .ok (.aload_n 0, 1) := dk_42 (dk_at dksX6_parish_4 16 rfl rfl)
theorem dX6_parish_113 : decode cX6_parish 113 = .ok (.getfield 127, 3) := dk_180 0 127 (dk_at dksX6_parish_4 17 rfl rfl)
theorem dX6_parish_116 : decode cX6_parish 116 = .ok (.iastore, 1) := dk_79 (dk_at dksX6_parish_4 20 rfl rfl)
theorem dX6_parish_117 : decode cX6_parish 117 = .ok (.aload_n 0, 1) := dk_42 (dk_at dksX6_parish_4 21 rfl rfl)
theorem dX6_parish_118 : decode cX6_parish 118 = .ok (.dup, 1) := dk_89 (dk_at dksX6_parish_4 22 rfl rfl)
theorem dX6_parish_119 : decode cX6_parish 119 = .ok (.getfield 172, 3) := dk_180 0 172 (dk_at dksX6_parish_5 0 rfl rfl)
theorem dX6_parish_122 : decode cX6_parish 122 = .ok (.iconst 1, 1) := dk_4 (dk_at dksX6_parish_5 3 rfl rfl)
theorem dX6_parish_123 : decode cX6_parish 123 = .ok (.iadd, 1) := dk_96 (dk_at dksX6_parish_5 4 rfl rfl)
theorem dX6_parish_124 : decode cX6_parish 124 = .ok (.putfield 172, 3) := dk_181 0 172 (dk_at dksX6_parish_5 5 rfl rfl)
theorem dX6_parish_127 : decode cX6_parish 127 = .ok (.aload_n 0, 1) := dk_42 (dk_at dksX6_parish_5 8 rfl rfl)
theorem dX6_parish_128 : decode cX6_parish 128 = .ok (.getfield 15, 3) := dk_180 0 15 (dk_at dksX6_parish_5 9 rfl rfl)
theorem dX6_parish_131 : decode cX6_parish 131 = .ok (.bipush 63, 2) := dk_16 63 (dk_at dksX6_parish_5 12 rfl rfl)
theorem dX6_parish_133 : decode cX6_parish 133 = .ok (.aload_n 0, 1) := dk_42 (dk_at dksX6_parish_5 14 rfl rfl)
theorem dX6_parish_134 : decode cX6_parish 134 = .ok (.getfield 172, 3) := dk_180 0 172 (dk_at dksX6_parish_5 15 rfl rfl)
theorem dX6_parish_137 : decode cX6_parish 137 = .ok (.iastore, 1) := dk_79 (dk_at dksX6_parish_5 18 rfl rfl)
theorem dX6_parish_138 : decode cX6_parish 138 = .ok (.aload_n 0, 1) := dk_42 (dk_at dksX6_parish_5 19 rfl rfl)
theorem dX6_parish_139 : decode cX6_parish 139 = .ok (.getfield 172, 3) := dk_180 0 172 (dk_at dksX6_parish_5 20 rfl rfl)
theorem dX6_parish_142 : decode cX6_parish 142 = .ok (.iconst 1, 1) := dk_4 (dk_at dksX6_parish_5 23 rfl rfl)
theorem dX6_parish_143 : decode cX6_parish 143 = .ok (.isub, 1) := dk_100 (dk_at dksX6_parish_6 0 rfl rfl)
theorem dX6_parish_144 : decode cX6_parish 144 = .ok (.ireturn, 1) := dk_172 (dk_at dksX6_parish_6 1 rfl rfl)
abbrev cX6_told : ByteArray := prog_23_method_41_code
def yX6_told : MethodName := ⟨RX6, "told", "(I)I"⟩
def dkwX6_told_4 : List UInt8 := [172, 42, 3, 182, 0, 213, 172, 2, 172]
abbrev dktX6_told_4 : List UInt8 := dkwX6_told_4 ++ []
def dkwX6_told_3 : List UInt8 := [16, 61, 46, 172, 42, 182, 0, 204, 172, 42, 182, 0, 207, 172, 42, 182, 0, 210, 172, 42, 4, 182, 0, 213]
abbrev dktX6_told_3 : List UInt8 := dkwX6_told_3 ++ dktX6_told_4
def dkwX6_told_2 : List UInt8 := [42, 180, 0, 15, 16, 62, 46, 172, 42, 3, 3, 182, 0, 175, 42, 180, 0, 160, 172, 42, 180, 0, 15]
abbrev dktX6_told_2 : List UInt8 := dkwX6_told_2 ++ dktX6_told_3
def dkwX6_told_1 : List UInt8 := [170, 0, 0, 0, 0, 0, 101, 0, 0, 0, 0, 0, 0, 0, 7, 0, 0, 0, 47, 0, 0, 0, 55, 0, 0, 0, 66, 0, 0, 0, 74, 0, 0, 0, 79, 0, 0, 0, 84, 0, 0, 0, 89, 0, 0, 0, 95]
abbrev dktX6_told_1 : List UInt8 := dkwX6_told_1 ++ dktX6_told_2
def dkwX6_told_0 : List UInt8 := [27]
abbrev dktX6_told_0 : List UInt8 := dkwX6_told_0 ++ dktX6_told_1
theorem dksX6_told_0 : cX6_told.data.toList.drop 0 = dktX6_told_0 := by decide +kernel
theorem dksX6_told_1 : cX6_told.data.toList.drop 1 = dktX6_told_1 := dk_seg dksX6_told_0 1 rfl rfl
theorem dksX6_told_2 : cX6_told.data.toList.drop 48 = dktX6_told_2 := dk_seg dksX6_told_1 47 rfl rfl
theorem dksX6_told_3 : cX6_told.data.toList.drop 71 = dktX6_told_3 := dk_seg dksX6_told_2 23 rfl rfl
theorem dksX6_told_4 : cX6_told.data.toList.drop 95 = dktX6_told_4 := dk_seg dksX6_told_3 24 rfl rfl
theorem dX6_told_0 : decode cX6_told 0 = .ok (.iload_n 1, 1) := dk_27 (dk_at dksX6_told_0 0 rfl rfl)
theorem dX6_told_1 : decode cX6_told 1 = .ok (.tableswitch 101 0 7 #[47, 55, 66, 74, 79, 84, 89, 95], 47) := by decide +kernel
theorem dX6_told_48 : decode cX6_told 48 = .ok (.aload_n 0, 1) := dk_42 (dk_at dksX6_told_2 0 rfl rfl)
theorem dX6_told_49 : decode cX6_told 49 = .ok (.getfield 15, 3) := dk_180 0 15 (dk_at dksX6_told_2 1 rfl rfl)
theorem dX6_told_52 : decode cX6_told 52 = .ok (.bipush 62, 2) := dk_16 62 (dk_at dksX6_told_2 4 rfl rfl)
theorem dX6_told_54 : decode cX6_told 54 = .ok (.iaload, 1) := dk_46 (dk_at dksX6_told_2 6 rfl rfl)
theorem dX6_told_55 : decode cX6_told 55 = .ok (.ireturn, 1) := dk_172 (dk_at dksX6_told_2 7 rfl rfl)
theorem dX6_told_56 : decode cX6_told 56 = .ok (.aload_n 0, 1) := dk_42 (dk_at dksX6_told_2 8 rfl rfl)
theorem dX6_told_57 : decode cX6_told 57 = .ok (.iconst 0, 1) := dk_3 (dk_at dksX6_told_2 9 rfl rfl)
theorem dX6_told_58 : decode cX6_told 58 = .ok (.iconst 0, 1) := dk_3 (dk_at dksX6_told_2 10 rfl rfl)
theorem dX6_told_59 : decode cX6_told 59 = .ok (.invokevirtual 175, 3) := dk_182 0 175 (dk_at dksX6_told_2 11 rfl rfl)
theorem dX6_told_62 : decode cX6_told 62 = .ok (.aload_n 0, 1) := dk_42 (dk_at dksX6_told_2 14 rfl rfl)
theorem dX6_told_63 : decode cX6_told 63 = .ok (.getfield 160, 3) := dk_180 0 160 (dk_at dksX6_told_2 15 rfl rfl)
theorem dX6_told_66 : decode cX6_told 66 = .ok (.ireturn, 1) := dk_172 (dk_at dksX6_told_2 18 rfl rfl)
theorem dX6_told_67 : decode cX6_told 67 = .ok (.aload_n 0, 1) := dk_42 (dk_at dksX6_told_2 19 rfl rfl)
theorem dX6_told_68 : decode cX6_told 68 = .ok (.getfield 15, 3) := dk_180 0 15 (dk_at dksX6_told_2 20 rfl rfl)
theorem dX6_told_71 : decode cX6_told 71 = .ok (.bipush 61, 2) := dk_16 61 (dk_at dksX6_told_3 0 rfl rfl)
theorem dX6_told_73 : decode cX6_told 73 = .ok (.iaload, 1) := dk_46 (dk_at dksX6_told_3 2 rfl rfl)
theorem dX6_told_74 : decode cX6_told 74 = .ok (.ireturn, 1) := dk_172 (dk_at dksX6_told_3 3 rfl rfl)
theorem dX6_told_75 : decode cX6_told 75 = .ok (.aload_n 0, 1) := dk_42 (dk_at dksX6_told_3 4 rfl rfl)
theorem dX6_told_76 : decode cX6_told 76 = .ok (.invokevirtual 204, 3) := dk_182 0 204 (dk_at dksX6_told_3 5 rfl rfl)
theorem dX6_told_79 : decode cX6_told 79 = .ok (.ireturn, 1) := dk_172 (dk_at dksX6_told_3 8 rfl rfl)
theorem dX6_told_80 : decode cX6_told 80 = .ok (.aload_n 0, 1) := dk_42 (dk_at dksX6_told_3 9 rfl rfl)
theorem dX6_told_81 : decode cX6_told 81 = .ok (.invokevirtual 207, 3) := dk_182 0 207 (dk_at dksX6_told_3 10 rfl rfl)
theorem dX6_told_84 : decode cX6_told 84 = .ok (.ireturn, 1) := dk_172 (dk_at dksX6_told_3 13 rfl rfl)
theorem dX6_told_85 : decode cX6_told 85 = .ok (.aload_n 0, 1) := dk_42 (dk_at dksX6_told_3 14 rfl rfl)
theorem dX6_told_86 : decode cX6_told 86 = .ok (.invokevirtual 210, 3) := dk_182 0 210 (dk_at dksX6_told_3 15 rfl rfl)
theorem dX6_told_89 : decode cX6_told 89 = .ok (.ireturn, 1) := dk_172 (dk_at dksX6_told_3 18 rfl rfl)
theorem dX6_told_90 : decode cX6_told 90 = .ok (.aload_n 0, 1) := dk_42 (dk_at dksX6_told_3 19 rfl rfl)
theorem dX6_told_91 : decode cX6_told 91 = .ok (.iconst 1, 1) := dk_4 (dk_at dksX6_told_3 20 rfl rfl)
theorem dX6_told_92 : decode cX6_told 92 = .ok (.invokevirtual 213, 3) := dk_182 0 213 (dk_at dksX6_told_3 21 rfl rfl)
theorem dX6_told_95 : decode cX6_told 95 = .ok (.ireturn, 1) := dk_172 (dk_at dksX6_told_4 0 rfl rfl)
theorem dX6_told_96 : decode cX6_told 96 = .ok (.aload_n 0, 1) := dk_42 (dk_at dksX6_told_4 1 rfl rfl)
theorem dX6_told_97 : decode cX6_told 97 = .ok (.iconst 0, 1) := dk_3 (dk_at dksX6_told_4 2 rfl rfl)
theorem dX6_told_98 : decode cX6_told 98 = .ok (.invokevirtual 213, 3) := dk_182 0 213 (dk_at dksX6_told_4 3 rfl rfl)
theorem dX6_told_101 : decode cX6_told 101 = .ok (.ireturn, 1) := dk_172 (dk_at dksX6_told_4 6 rfl rfl)
theorem dX6_told_102 : decode cX6_told 102 = .ok (.iconst (-1), 1) := dk_2 (dk_at dksX6_told_4 7 rfl rfl)
theorem dX6_told_103 : decode cX6_told 103 = .ok (.ireturn, 1) := dk_172 (dk_at dksX6_told_4 8 rfl rfl)
abbrev cX6_aways : ByteArray := prog_23_method_40_code
def yX6_aways : MethodName := ⟨RX6, "aways", "()I"⟩
def dkwX6_aways_1 : List UInt8 := [3, 167, 0, 6, 4, 28, 120, 128, 60, 132, 2, 1, 167, 255, 224, 27, 172]
abbrev dktX6_aways_1 : List UInt8 := dkwX6_aways_1 ++ []
def dkwX6_aways_0 : List UInt8 := [3, 60, 3, 61, 28, 42, 180, 0, 15, 16, 60, 46, 162, 0, 27, 27, 42, 28, 182, 0, 179, 153, 0, 7]
abbrev dktX6_aways_0 : List UInt8 := dkwX6_aways_0 ++ dktX6_aways_1
theorem dksX6_aways_0 : cX6_aways.data.toList.drop 0 = dktX6_aways_0 := by decide +kernel
theorem dksX6_aways_1 : cX6_aways.data.toList.drop 24 = dktX6_aways_1 := dk_seg dksX6_aways_0 24 rfl rfl
theorem dX6_aways_0 : decode cX6_aways 0 = .ok (.iconst 0, 1) := dk_3 (dk_at dksX6_aways_0 0 rfl rfl)
theorem dX6_aways_1 : decode cX6_aways 1 = .ok (.istore_n 1, 1) := dk_60 (dk_at dksX6_aways_0 1 rfl rfl)
theorem dX6_aways_2 : decode cX6_aways 2 = .ok (.iconst 0, 1) := dk_3 (dk_at dksX6_aways_0 2 rfl rfl)
theorem dX6_aways_3 : decode cX6_aways 3 = .ok (.istore_n 2, 1) := dk_61 (dk_at dksX6_aways_0 3 rfl rfl)
theorem dX6_aways_4 : decode cX6_aways 4 = .ok (.iload_n 2, 1) := dk_28 (dk_at dksX6_aways_0 4 rfl rfl)
theorem dX6_aways_5 : decode cX6_aways 5 = .ok (.aload_n 0, 1) := dk_42 (dk_at dksX6_aways_0 5 rfl rfl)
theorem dX6_aways_6 : decode cX6_aways 6 = .ok (.getfield 15, 3) := dk_180 0 15 (dk_at dksX6_aways_0 6 rfl rfl)
theorem dX6_aways_9 : decode cX6_aways 9 = .ok (.bipush 60, 2) := dk_16 60 (dk_at dksX6_aways_0 9 rfl rfl)
theorem dX6_aways_11 : decode cX6_aways 11 = .ok (.iaload, 1) := dk_46 (dk_at dksX6_aways_0 11 rfl rfl)
theorem dX6_aways_12 : decode cX6_aways 12 = .ok (.if_icmp .ge 27, 3) := dk_162 0 27 (dk_at dksX6_aways_0 12 rfl rfl)
theorem dX6_aways_15 : decode cX6_aways 15 = .ok (.iload_n 1, 1) := dk_27 (dk_at dksX6_aways_0 15 rfl rfl)
theorem dX6_aways_16 : decode cX6_aways 16 = .ok (.aload_n 0, 1) := dk_42 (dk_at dksX6_aways_0 16 rfl rfl)
theorem dX6_aways_17 : decode cX6_aways 17 = .ok (.iload_n 2, 1) := dk_28 (dk_at dksX6_aways_0 17 rfl rfl)
theorem dX6_aways_18 : decode cX6_aways 18 = .ok (.invokevirtual 179, 3) := dk_182 0 179 (dk_at dksX6_aways_0 18 rfl rfl)
theorem dX6_aways_21 : decode cX6_aways 21 = .ok (.ifCond .eq 7, 3) := dk_153 0 7 (dk_at dksX6_aways_0 21 rfl rfl)
theorem dX6_aways_24 : decode cX6_aways 24 = .ok (.iconst 0, 1) := dk_3 (dk_at dksX6_aways_1 0 rfl rfl)
theorem dX6_aways_25 : decode cX6_aways 25 = .ok (.goto 6, 3) := dk_167 0 6 (dk_at dksX6_aways_1 1 rfl rfl)
theorem dX6_aways_28 : decode cX6_aways 28 = .ok (.iconst 1, 1) := dk_4 (dk_at dksX6_aways_1 4 rfl rfl)
theorem dX6_aways_29 : decode cX6_aways 29 = .ok (.iload_n 2, 1) := dk_28 (dk_at dksX6_aways_1 5 rfl rfl)
theorem dX6_aways_30 : decode cX6_aways 30 = .ok (.ishl, 1) := dk_120 (dk_at dksX6_aways_1 6 rfl rfl)
theorem dX6_aways_31 : decode cX6_aways 31 = .ok (.ior, 1) := dk_128 (dk_at dksX6_aways_1 7 rfl rfl)
theorem dX6_aways_32 : decode cX6_aways 32 = .ok (.istore_n 1, 1) := dk_60 (dk_at dksX6_aways_1 8 rfl rfl)
theorem dX6_aways_33 : decode cX6_aways 33 = .ok (.iinc 2 1, 3) := dk_132 2 1 (dk_at dksX6_aways_1 9 rfl rfl)
theorem dX6_aways_36 : decode cX6_aways 36 = .ok (.goto (-32), 3) := dk_167 255 224 (dk_at dksX6_aways_1 12 rfl rfl)
theorem dX6_aways_39 : decode cX6_aways 39 = .ok (.iload_n 1, 1) := dk_27 (dk_at dksX6_aways_1 15 rfl rfl)
theorem dX6_aways_40 : decode cX6_aways 40 = .ok (.ireturn, 1) := dk_172 (dk_at dksX6_aways_1 16 rfl rfl)
abbrev cX6_still : ByteArray := prog_23_method_38_code
def yX6_still : MethodName := ⟨RX6, "still", "()I"⟩
def dkwX6_still_2 : List UInt8 := [27, 172]
abbrev dktX6_still_2 : List UInt8 := dkwX6_still_2 ++ []
def dkwX6_still_1 : List UInt8 := [182, 0, 197, 154, 0, 7, 28, 167, 0, 5, 16, 251, 60, 132, 2, 1, 167, 255, 226, 42, 3, 182, 0, 201]
abbrev dktX6_still_1 : List UInt8 := dkwX6_still_1 ++ dktX6_still_2
def dkwX6_still_0 : List UInt8 := [42, 3, 182, 0, 194, 16, 251, 60, 3, 61, 28, 16, 20, 163, 0, 30, 27, 16, 251, 160, 0, 24, 42, 3]
abbrev dktX6_still_0 : List UInt8 := dkwX6_still_0 ++ dktX6_still_1
theorem dksX6_still_0 : cX6_still.data.toList.drop 0 = dktX6_still_0 := by decide +kernel
theorem dksX6_still_1 : cX6_still.data.toList.drop 24 = dktX6_still_1 := dk_seg dksX6_still_0 24 rfl rfl
theorem dksX6_still_2 : cX6_still.data.toList.drop 48 = dktX6_still_2 := dk_seg dksX6_still_1 24 rfl rfl
theorem dX6_still_0 : decode cX6_still 0 = .ok (.aload_n 0, 1) := dk_42 (dk_at dksX6_still_0 0 rfl rfl)
theorem dX6_still_1 : decode cX6_still 1 = .ok (.iconst 0, 1) := dk_3 (dk_at dksX6_still_0 1 rfl rfl)
theorem dX6_still_2 : decode cX6_still 2 = .ok (.invokevirtual 194, 3) := dk_182 0 194 (dk_at dksX6_still_0 2 rfl rfl)
theorem dX6_still_5 : decode cX6_still 5 = .ok (.bipush (-5), 2) := dk_16 251 (dk_at dksX6_still_0 5 rfl rfl)
theorem dX6_still_7 : decode cX6_still 7 = .ok (.istore_n 1, 1) := dk_60 (dk_at dksX6_still_0 7 rfl rfl)
theorem dX6_still_8 : decode cX6_still 8 = .ok (.iconst 0, 1) := dk_3 (dk_at dksX6_still_0 8 rfl rfl)
theorem dX6_still_9 : decode cX6_still 9 = .ok (.istore_n 2, 1) := dk_61 (dk_at dksX6_still_0 9 rfl rfl)
theorem dX6_still_10 : decode cX6_still 10 = .ok (.iload_n 2, 1) := dk_28 (dk_at dksX6_still_0 10 rfl rfl)
theorem dX6_still_11 : decode cX6_still 11 = .ok (.bipush 20, 2) := dk_16 20 (dk_at dksX6_still_0 11 rfl rfl)
theorem dX6_still_13 : decode cX6_still 13 = .ok (.if_icmp .gt 30, 3) := dk_163 0 30 (dk_at dksX6_still_0 13 rfl rfl)
theorem dX6_still_16 : decode cX6_still 16 = .ok (.iload_n 1, 1) := dk_27 (dk_at dksX6_still_0 16 rfl rfl)
theorem dX6_still_17 : decode cX6_still 17 = .ok (.bipush (-5), 2) := dk_16 251 (dk_at dksX6_still_0 17 rfl rfl)
theorem dX6_still_19 : decode cX6_still 19 = .ok (.if_icmp .ne 24, 3) := dk_160 0 24 (dk_at dksX6_still_0 19 rfl rfl)
theorem dX6_still_22 : decode cX6_still 22 = .ok (.aload_n 0, 1) := dk_42 (dk_at dksX6_still_0 22 rfl rfl)
theorem dX6_still_23 : decode cX6_still 23 = .ok (.iconst 0, 1) := dk_3 (dk_at dksX6_still_0 23 rfl rfl)
theorem dX6_still_24 : decode cX6_still 24 = .ok (.invokevirtual 197, 3) := dk_182 0 197 (dk_at dksX6_still_1 0 rfl rfl)
theorem dX6_still_27 : decode cX6_still 27 = .ok (.ifCond .ne 7, 3) := dk_154 0 7 (dk_at dksX6_still_1 3 rfl rfl)
theorem dX6_still_30 : decode cX6_still 30 = .ok (.iload_n 2, 1) := dk_28 (dk_at dksX6_still_1 6 rfl rfl)
theorem dX6_still_31 : decode cX6_still 31 = .ok (.goto 5, 3) := dk_167 0 5 (dk_at dksX6_still_1 7 rfl rfl)
theorem dX6_still_34 : decode cX6_still 34 = .ok (.bipush (-5), 2) := dk_16 251 (dk_at dksX6_still_1 10 rfl rfl)
theorem dX6_still_36 : decode cX6_still 36 = .ok (.istore_n 1, 1) := dk_60 (dk_at dksX6_still_1 12 rfl rfl)
theorem dX6_still_37 : decode cX6_still 37 = .ok (.iinc 2 1, 3) := dk_132 2 1 (dk_at dksX6_still_1 13 rfl rfl)
theorem dX6_still_40 : decode cX6_still 40 = .ok (.goto (-30), 3) := dk_167 255 226 (dk_at dksX6_still_1 16 rfl rfl)
theorem dX6_still_43 : decode cX6_still 43 = .ok (.aload_n 0, 1) := dk_42 (dk_at dksX6_still_1 19 rfl rfl)
theorem dX6_still_44 : decode cX6_still 44 = .ok (.iconst 0, 1) := dk_3 (dk_at dksX6_still_1 20 rfl rfl)
theorem dX6_still_45 : decode cX6_still 45 = .ok (.invokevirtual 201, 3) := dk_182 0 201 (dk_at dksX6_still_1 21 rfl rfl)
theorem dX6_still_48 : decode cX6_still 48 = .ok (.iload_n 1, 1) := dk_27 (dk_at dksX6_still_2 0 rfl rfl)
theorem dX6_still_49 : decode cX6_still 49 = .ok (.ireturn, 1) := dk_172 (dk_at dksX6_still_2 1 rfl rfl)
abbrev cX6_keep : ByteArray := prog_23_method_4_code
def yX6_keep : MethodName := ⟨RX6, "keep", "(I)V"⟩
def dkwX6_keep_1 : List UInt8 := [79, 132, 2, 1, 167, 255, 230, 177]
abbrev dktX6_keep_1 : List UInt8 := dkwX6_keep_1 ++ []
def dkwX6_keep_0 : List UInt8 := [3, 61, 28, 16, 109, 162, 0, 26, 42, 180, 0, 19, 16, 109, 27, 104, 28, 96, 42, 180, 0, 15, 28, 46]
abbrev dktX6_keep_0 : List UInt8 := dkwX6_keep_0 ++ dktX6_keep_1
theorem dksX6_keep_0 : cX6_keep.data.toList.drop 0 = dktX6_keep_0 := by decide +kernel
theorem dksX6_keep_1 : cX6_keep.data.toList.drop 24 = dktX6_keep_1 := dk_seg dksX6_keep_0 24 rfl rfl
theorem dX6_keep_0 : decode cX6_keep 0 = .ok (.iconst 0, 1) := dk_3 (dk_at dksX6_keep_0 0 rfl rfl)
theorem dX6_keep_1 : decode cX6_keep 1 = .ok (.istore_n 2, 1) := dk_61 (dk_at dksX6_keep_0 1 rfl rfl)
theorem dX6_keep_2 : decode cX6_keep 2 = .ok (.iload_n 2, 1) := dk_28 (dk_at dksX6_keep_0 2 rfl rfl)
theorem dX6_keep_3 : decode cX6_keep 3 = .ok (.bipush 109, 2) := dk_16 109 (dk_at dksX6_keep_0 3 rfl rfl)
theorem dX6_keep_5 : decode cX6_keep 5 = .ok (.if_icmp .ge 26, 3) := dk_162 0 26 (dk_at dksX6_keep_0 5 rfl rfl)
theorem dX6_keep_8 : decode cX6_keep 8 = .ok (.aload_n 0, 1) := dk_42 (dk_at dksX6_keep_0 8 rfl rfl)
theorem dX6_keep_9 : decode cX6_keep 9 = .ok (.getfield 19, 3) := dk_180 0 19 (dk_at dksX6_keep_0 9 rfl rfl)
theorem dX6_keep_12 : decode cX6_keep 12 = .ok (.bipush 109, 2) := dk_16 109 (dk_at dksX6_keep_0 12 rfl rfl)
theorem dX6_keep_14 : decode cX6_keep 14 = .ok (.iload_n 1, 1) := dk_27 (dk_at dksX6_keep_0 14 rfl rfl)
theorem dX6_keep_15 : decode cX6_keep 15 = .ok (.imul, 1) := dk_104 (dk_at dksX6_keep_0 15 rfl rfl)
theorem dX6_keep_16 : decode cX6_keep 16 = .ok (.iload_n 2, 1) := dk_28 (dk_at dksX6_keep_0 16 rfl rfl)
theorem dX6_keep_17 : decode cX6_keep 17 = .ok (.iadd, 1) := dk_96 (dk_at dksX6_keep_0 17 rfl rfl)
theorem dX6_keep_18 : decode cX6_keep 18 = .ok (.aload_n 0, 1) := dk_42 (dk_at dksX6_keep_0 18 rfl rfl)
theorem dX6_keep_19 : decode cX6_keep 19 = .ok (.getfield 15, 3) := dk_180 0 15 (dk_at dksX6_keep_0 19 rfl rfl)
theorem dX6_keep_22 : decode cX6_keep 22 = .ok (.iload_n 2, 1) := dk_28 (dk_at dksX6_keep_0 22 rfl rfl)
theorem dX6_keep_23 : decode cX6_keep 23 = .ok (.iaload, 1) := dk_46 (dk_at dksX6_keep_0 23 rfl rfl)
theorem dX6_keep_24 : decode cX6_keep 24 = .ok (.iastore, 1) := dk_79 (dk_at dksX6_keep_1 0 rfl rfl)
theorem dX6_keep_25 : decode cX6_keep 25 = .ok (.iinc 2 1, 3) := dk_132 2 1 (dk_at dksX6_keep_1 1 rfl rfl)
theorem dX6_keep_28 : decode cX6_keep 28 = .ok (.goto (-26), 3) := dk_167 255 230 (dk_at dksX6_keep_1 4 rfl rfl)
theorem dX6_keep_31 : decode cX6_keep 31 = .ok (.return_, 1) := dk_177 (dk_at dksX6_keep_1 7 rfl rfl)
abbrev cX6_day : ByteArray := prog_23_method_37_code
def yX6_day : MethodName := ⟨RX6, "day", "(Z)I"⟩
def dkwX6_day_3 : List UInt8 := [92, 46, 4, 96, 79, 28, 172]
abbrev dktX6_day_3 : List UInt8 := dkwX6_day_3 ++ []
def dkwX6_day_2 : List UInt8 := [184, 0, 191, 167, 0, 5, 21, 4, 182, 0, 97, 87, 132, 3, 1, 167, 255, 204, 42, 180, 0, 15, 16, 62]
abbrev dktX6_day_2 : List UInt8 := dkwX6_day_2 ++ dktX6_day_3
def dkwX6_day_1 : List UInt8 := [8, 182, 0, 89, 42, 180, 0, 53, 29, 46, 96, 54, 4, 42, 29, 8, 27, 153, 0, 13, 18, 190, 21, 4]
abbrev dktX6_day_1 : List UInt8 := dkwX6_day_1 ++ dktX6_day_2
def dkwX6_day_0 : List UInt8 := [42, 182, 0, 187, 61, 42, 182, 0, 104, 3, 62, 29, 42, 180, 0, 15, 16, 60, 46, 162, 0, 47, 42, 29]
abbrev dktX6_day_0 : List UInt8 := dkwX6_day_0 ++ dktX6_day_1
theorem dksX6_day_0 : cX6_day.data.toList.drop 0 = dktX6_day_0 := by decide +kernel
theorem dksX6_day_1 : cX6_day.data.toList.drop 24 = dktX6_day_1 := dk_seg dksX6_day_0 24 rfl rfl
theorem dksX6_day_2 : cX6_day.data.toList.drop 48 = dktX6_day_2 := dk_seg dksX6_day_1 24 rfl rfl
theorem dksX6_day_3 : cX6_day.data.toList.drop 72 = dktX6_day_3 := dk_seg dksX6_day_2 24 rfl rfl
theorem dX6_day_0 : decode cX6_day 0 = .ok (.aload_n 0, 1) := dk_42 (dk_at dksX6_day_0 0 rfl rfl)
theorem dX6_day_1 : decode cX6_day 1 = .ok (.invokevirtual 187, 3) := dk_182 0 187 (dk_at dksX6_day_0 1 rfl rfl)
theorem dX6_day_4 : decode cX6_day 4 = .ok (.istore_n 2, 1) := dk_61 (dk_at dksX6_day_0 4 rfl rfl)
theorem dX6_day_5 : decode cX6_day 5 = .ok (.aload_n 0, 1) := dk_42 (dk_at dksX6_day_0 5 rfl rfl)
theorem dX6_day_6 : decode cX6_day 6 = .ok (.invokevirtual 104, 3) := dk_182 0 104 (dk_at dksX6_day_0 6 rfl rfl)
theorem dX6_day_9 : decode cX6_day 9 = .ok (.iconst 0, 1) := dk_3 (dk_at dksX6_day_0 9 rfl rfl)
theorem dX6_day_10 : decode cX6_day 10 = .ok (.istore_n 3, 1) := dk_62 (dk_at dksX6_day_0 10 rfl rfl)
theorem dX6_day_11 : decode cX6_day 11 = .ok (.iload_n 3, 1) := dk_29 (dk_at dksX6_day_0 11 rfl rfl)
theorem dX6_day_12 : decode cX6_day 12 = .ok (.aload_n 0, 1) := dk_42 (dk_at dksX6_day_0 12 rfl rfl)
theorem dX6_day_13 : decode cX6_day 13 = .ok (.getfield 15, 3) := dk_180 0 15 (dk_at dksX6_day_0 13 rfl rfl)
theorem dX6_day_16 : decode cX6_day 16 = .ok (.bipush 60, 2) := dk_16 60 (dk_at dksX6_day_0 16 rfl rfl)
theorem dX6_day_18 : decode cX6_day 18 = .ok (.iaload, 1) := dk_46 (dk_at dksX6_day_0 18 rfl rfl)
theorem dX6_day_19 : decode cX6_day 19 = .ok (.if_icmp .ge 47, 3) := dk_162 0 47 (dk_at dksX6_day_0 19 rfl rfl)
theorem dX6_day_22 : decode cX6_day 22 = .ok (.aload_n 0, 1) := dk_42 (dk_at dksX6_day_0 22 rfl rfl)
theorem dX6_day_23 : decode cX6_day 23 = .ok (.iload_n 3, 1) := dk_29 (dk_at dksX6_day_0 23 rfl rfl)
theorem dX6_day_24 : decode cX6_day 24 = .ok (.iconst 5, 1) := dk_8 (dk_at dksX6_day_1 0 rfl rfl)
theorem dX6_day_25 : decode cX6_day 25 = .ok (.invokevirtual 89, 3) := dk_182 0 89 (dk_at dksX6_day_1 1 rfl rfl)
theorem dX6_day_28 : decode cX6_day 28 = .ok (.aload_n 0, 1) := dk_42 (dk_at dksX6_day_1 4 rfl rfl)
theorem dX6_day_29 : decode cX6_day 29 = .ok (.getfield 53, 3) := dk_180 0 53 (dk_at dksX6_day_1 5 rfl rfl)
theorem dX6_day_32 : decode cX6_day 32 = .ok (.iload_n 3, 1) := dk_29 (dk_at dksX6_day_1 8 rfl rfl)
theorem dX6_day_33 : decode cX6_day 33 = .ok (.iaload, 1) := dk_46 (dk_at dksX6_day_1 9 rfl rfl)
theorem dX6_day_34 : decode cX6_day 34 = .ok (.iadd, 1) := dk_96 (dk_at dksX6_day_1 10 rfl rfl)
theorem dX6_day_35 : decode cX6_day 35 = .ok (.istore 4, 2) := dk_54 4 (dk_at dksX6_day_1 11 rfl rfl)
theorem dX6_day_37 : decode cX6_day 37 = .ok (.aload_n 0, 1) := dk_42 (dk_at dksX6_day_1 13 rfl rfl)
theorem dX6_day_38 : decode cX6_day 38 = .ok (.iload_n 3, 1) := dk_29 (dk_at dksX6_day_1 14 rfl rfl)
theorem dX6_day_39 : decode cX6_day 39 = .ok (.iconst 5, 1) := dk_8 (dk_at dksX6_day_1 15 rfl rfl)
theorem dX6_day_40 : decode cX6_day 40 = .ok (.iload_n 1, 1) := dk_27 (dk_at dksX6_day_1 16 rfl rfl)
theorem dX6_day_41 : decode cX6_day 41 = .ok (.ifCond .eq 13, 3) := dk_153 0 13 (dk_at dksX6_day_1 17 rfl rfl)
theorem dX6_day_44 : decode cX6_day 44 = .ok (.ldc 190, 2) := dk_18 190 (dk_at dksX6_day_1 20 rfl rfl)
theorem dX6_day_46 : decode cX6_day 46 = .ok (.iload 4, 2) := dk_21 4 (dk_at dksX6_day_1 22 rfl rfl)
theorem dX6_day_48 : decode cX6_day 48 = .ok (.invokestatic 191, 3) := dk_184 0 191 (dk_at dksX6_day_2 0 rfl rfl)
theorem dX6_day_51 : decode cX6_day 51 = .ok (.goto 5, 3) := dk_167 0 5 (dk_at dksX6_day_2 3 rfl rfl)
theorem dX6_day_54 : decode cX6_day 54 = .ok (.iload 4, 2) := dk_21 4 (dk_at dksX6_day_2 6 rfl rfl)
theorem dX6_day_56 : decode cX6_day 56 = .ok (.invokevirtual 97, 3) := dk_182 0 97 (dk_at dksX6_day_2 8 rfl rfl)
theorem dX6_day_59 : decode cX6_day 59 = .ok (.pop, 1) := dk_87 (dk_at dksX6_day_2 11 rfl rfl)
theorem dX6_day_60 : decode cX6_day 60 = .ok (.iinc 3 1, 3) := dk_132 3 1 (dk_at dksX6_day_2 12 rfl rfl)
theorem dX6_day_63 : decode cX6_day 63 = .ok (.goto (-52), 3) := dk_167 255 204 (dk_at dksX6_day_2 15 rfl rfl)
theorem dX6_day_66 : decode cX6_day 66 = .ok (.aload_n 0, 1) := dk_42 (dk_at dksX6_day_2 18 rfl rfl)
theorem dX6_day_67 : decode cX6_day 67 = .ok (.getfield 15, 3) := dk_180 0 15 (dk_at dksX6_day_2 19 rfl rfl)
theorem dX6_day_70 : decode cX6_day 70 = .ok (.bipush 62, 2) := dk_16 62 (dk_at dksX6_day_2 22 rfl rfl)
theorem dX6_day_72 : decode cX6_day 72 = .ok (.dup2, 1) := dk_92 (dk_at dksX6_day_3 0 rfl rfl)
theorem dX6_day_73 : decode cX6_day 73 = .ok (.iaload, 1) := dk_46 (dk_at dksX6_day_3 1 rfl rfl)
theorem dX6_day_74 : decode cX6_day 74 = .ok (.iconst 1, 1) := dk_4 (dk_at dksX6_day_3 2 rfl rfl)
theorem dX6_day_75 : decode cX6_day 75 = .ok (.iadd, 1) := dk_96 (dk_at dksX6_day_3 3 rfl rfl)
theorem dX6_day_76 : decode cX6_day 76 = .ok (.iastore, 1) := dk_79 (dk_at dksX6_day_3 4 rfl rfl)
theorem dX6_day_77 : decode cX6_day 77 = .ok (.iload_n 2, 1) := dk_28 (dk_at dksX6_day_3 5 rfl rfl)
theorem dX6_day_78 : decode cX6_day 78 = .ok (.ireturn, 1) := dk_172 (dk_at dksX6_day_3 6 rfl rfl)
abbrev cX6_moves : ByteArray := prog_23_method_36_code
def yX6_moves : MethodName := ⟨RX6, "moves", "()I"⟩
def dkwX6_moves_2 : List UInt8 := [164, 0, 14, 42, 28, 6, 29, 182, 0, 97, 87, 132, 1, 1, 132, 2, 1, 167, 255, 197, 27, 172]
abbrev dktX6_moves_2 : List UInt8 := dkwX6_moves_2 ++ []
def dkwX6_moves_1 : List UInt8 := [28, 182, 0, 107, 62, 42, 28, 29, 182, 0, 114, 42, 28, 42, 28, 6, 182, 0, 89, 182, 0, 114]
abbrev dktX6_moves_1 : List UInt8 := dkwX6_moves_1 ++ dktX6_moves_2
def dkwX6_moves_0 : List UInt8 := [3, 60, 3, 61, 28, 42, 180, 0, 15, 16, 60, 46, 162, 0, 54, 42, 28, 182, 0, 179, 153, 0, 40, 42]
abbrev dktX6_moves_0 : List UInt8 := dkwX6_moves_0 ++ dktX6_moves_1
theorem dksX6_moves_0 : cX6_moves.data.toList.drop 0 = dktX6_moves_0 := by decide +kernel
theorem dksX6_moves_1 : cX6_moves.data.toList.drop 24 = dktX6_moves_1 := dk_seg dksX6_moves_0 24 rfl rfl
theorem dksX6_moves_2 : cX6_moves.data.toList.drop 46 = dktX6_moves_2 := dk_seg dksX6_moves_1 22 rfl rfl
theorem dX6_moves_0 : decode cX6_moves 0 = .ok (.iconst 0, 1) := dk_3 (dk_at dksX6_moves_0 0 rfl rfl)
theorem dX6_moves_1 : decode cX6_moves 1 = .ok (.istore_n 1, 1) := dk_60 (dk_at dksX6_moves_0 1 rfl rfl)
theorem dX6_moves_2 : decode cX6_moves 2 = .ok (.iconst 0, 1) := dk_3 (dk_at dksX6_moves_0 2 rfl rfl)
theorem dX6_moves_3 : decode cX6_moves 3 = .ok (.istore_n 2, 1) := dk_61 (dk_at dksX6_moves_0 3 rfl rfl)
theorem dX6_moves_4 : decode cX6_moves 4 = .ok (.iload_n 2, 1) := dk_28 (dk_at dksX6_moves_0 4 rfl rfl)
theorem dX6_moves_5 : decode cX6_moves 5 = .ok (.aload_n 0, 1) := dk_42 (dk_at dksX6_moves_0 5 rfl rfl)
theorem dX6_moves_6 : decode cX6_moves 6 = .ok (.getfield 15, 3) := dk_180 0 15 (dk_at dksX6_moves_0 6 rfl rfl)
theorem dX6_moves_9 : decode cX6_moves 9 = .ok (.bipush 60, 2) := dk_16 60 (dk_at dksX6_moves_0 9 rfl rfl)
theorem dX6_moves_11 : decode cX6_moves 11 = .ok (.iaload, 1) := dk_46 (dk_at dksX6_moves_0 11 rfl rfl)
theorem dX6_moves_12 : decode cX6_moves 12 = .ok (.if_icmp .ge 54, 3) := dk_162 0 54 (dk_at dksX6_moves_0 12 rfl rfl)
theorem dX6_moves_15 : decode cX6_moves 15 = .ok (.aload_n 0, 1) := dk_42 (dk_at dksX6_moves_0 15 rfl rfl)
theorem dX6_moves_16 : decode cX6_moves 16 = .ok (.iload_n 2, 1) := dk_28 (dk_at dksX6_moves_0 16 rfl rfl)
theorem dX6_moves_17 : decode cX6_moves 17 = .ok (.invokevirtual 179, 3) := dk_182 0 179 (dk_at dksX6_moves_0 17 rfl rfl)
theorem dX6_moves_20 : decode cX6_moves 20 = .ok (.ifCond .eq 40, 3) := dk_153 0 40 (dk_at dksX6_moves_0 20 rfl rfl)
theorem dX6_moves_23 : decode cX6_moves 23 = .ok (.aload_n 0, 1) := dk_42 (dk_at dksX6_moves_0 23 rfl rfl)
theorem dX6_moves_24 : decode cX6_moves 24 = .ok (.iload_n 2, 1) := dk_28 (dk_at dksX6_moves_1 0 rfl rfl)
theorem dX6_moves_25 : decode cX6_moves 25 = .ok (.invokevirtual 107, 3) := dk_182 0 107 (dk_at dksX6_moves_1 1 rfl rfl)
theorem dX6_moves_28 : decode cX6_moves 28 = .ok (.istore_n 3, 1) := dk_62 (dk_at dksX6_moves_1 4 rfl rfl)
theorem dX6_moves_29 : decode cX6_moves 29 = .ok (.aload_n 0, 1) := dk_42 (dk_at dksX6_moves_1 5 rfl rfl)
theorem dX6_moves_30 : decode cX6_moves 30 = .ok (.iload_n 2, 1) := dk_28 (dk_at dksX6_moves_1 6 rfl rfl)
theorem dX6_moves_31 : decode cX6_moves 31 = .ok (.iload_n 3, 1) := dk_29 (dk_at dksX6_moves_1 7 rfl rfl)
theorem dX6_moves_32 : decode cX6_moves 32 = .ok (.invokevirtual 114, 3) := dk_182 0 114 (dk_at dksX6_moves_1 8 rfl rfl)
theorem dX6_moves_35 : decode cX6_moves 35 = .ok (.aload_n 0, 1) := dk_42 (dk_at dksX6_moves_1 11 rfl rfl)
theorem dX6_moves_36 : decode cX6_moves 36 = .ok (.iload_n 2, 1) := dk_28 (dk_at dksX6_moves_1 12 rfl rfl)
theorem dX6_moves_37 : decode cX6_moves 37 = .ok (.aload_n 0, 1) := dk_42 (dk_at dksX6_moves_1 13 rfl rfl)
theorem dX6_moves_38 : decode cX6_moves 38 = .ok (.iload_n 2, 1) := dk_28 (dk_at dksX6_moves_1 14 rfl rfl)
theorem dX6_moves_39 : decode cX6_moves 39 = .ok (.iconst 3, 1) := dk_6 (dk_at dksX6_moves_1 15 rfl rfl)
theorem dX6_moves_40 : decode cX6_moves 40 = .ok (.invokevirtual 89, 3) := dk_182 0 89 (dk_at dksX6_moves_1 16 rfl rfl)
theorem dX6_moves_43 : decode cX6_moves 43 = .ok (.invokevirtual 114, 3) := dk_182 0 114 (dk_at dksX6_moves_1 19 rfl rfl)
theorem dX6_moves_46 : decode cX6_moves 46 = .ok (.if_icmp .le 14, 3) := dk_164 0 14 (dk_at dksX6_moves_2 0 rfl rfl)
theorem dX6_moves_49 : decode cX6_moves 49 = .ok (.aload_n 0, 1) := dk_42 (dk_at dksX6_moves_2 3 rfl rfl)
theorem dX6_moves_50 : decode cX6_moves 50 = .ok (.iload_n 2, 1) := dk_28 (dk_at dksX6_moves_2 4 rfl rfl)
theorem dX6_moves_51 : decode cX6_moves 51 = .ok (.iconst 3, 1) := dk_6 (dk_at dksX6_moves_2 5 rfl rfl)
theorem dX6_moves_52 : decode cX6_moves 52 = .ok (.iload_n 3, 1) := dk_29 (dk_at dksX6_moves_2 6 rfl rfl)
theorem dX6_moves_53 : decode cX6_moves 53 = .ok (.invokevirtual 97, 3) := dk_182 0 97 (dk_at dksX6_moves_2 7 rfl rfl)
theorem dX6_moves_56 : decode cX6_moves 56 = .ok (.pop, 1) := dk_87 (dk_at dksX6_moves_2 10 rfl rfl)
theorem dX6_moves_57 : decode cX6_moves 57 = .ok (.iinc 1 1, 3) := dk_132 1 1 (dk_at dksX6_moves_2 11 rfl rfl)
theorem dX6_moves_60 : decode cX6_moves 60 = .ok (.iinc 2 1, 3) := dk_132 2 1 (dk_at dksX6_moves_2 14 rfl rfl)
theorem dX6_moves_63 : decode cX6_moves 63 = .ok (.goto (-59), 3) := dk_167 255 197 (dk_at dksX6_moves_2 17 rfl rfl)
theorem dX6_moves_66 : decode cX6_moves 66 = .ok (.iload_n 1, 1) := dk_27 (dk_at dksX6_moves_2 20 rfl rfl)
theorem dX6_moves_67 : decode cX6_moves 67 = .ok (.ireturn, 1) := dk_172 (dk_at dksX6_moves_2 21 rfl rfl)
abbrev cX6_lay : ByteArray := prog_23_method_5_code
def yX6_lay : MethodName := ⟨RX6, "lay", "(I)V"⟩
def dkwX6_lay_1 : List UInt8 := [79, 132, 2, 1, 167, 255, 230, 177]
abbrev dktX6_lay_1 : List UInt8 := dkwX6_lay_1 ++ []
def dkwX6_lay_0 : List UInt8 := [3, 61, 28, 16, 109, 162, 0, 26, 42, 180, 0, 15, 28, 42, 180, 0, 19, 16, 109, 27, 104, 28, 96, 46]
abbrev dktX6_lay_0 : List UInt8 := dkwX6_lay_0 ++ dktX6_lay_1
theorem dksX6_lay_0 : cX6_lay.data.toList.drop 0 = dktX6_lay_0 := by decide +kernel
theorem dksX6_lay_1 : cX6_lay.data.toList.drop 24 = dktX6_lay_1 := dk_seg dksX6_lay_0 24 rfl rfl
theorem dX6_lay_0 : decode cX6_lay 0 = .ok (.iconst 0, 1) := dk_3 (dk_at dksX6_lay_0 0 rfl rfl)
theorem dX6_lay_1 : decode cX6_lay 1 = .ok (.istore_n 2, 1) := dk_61 (dk_at dksX6_lay_0 1 rfl rfl)
theorem dX6_lay_2 : decode cX6_lay 2 = .ok (.iload_n 2, 1) := dk_28 (dk_at dksX6_lay_0 2 rfl rfl)
theorem dX6_lay_3 : decode cX6_lay 3 = .ok (.bipush 109, 2) := dk_16 109 (dk_at dksX6_lay_0 3 rfl rfl)
theorem dX6_lay_5 : decode cX6_lay 5 = .ok (.if_icmp .ge 26, 3) := dk_162 0 26 (dk_at dksX6_lay_0 5 rfl rfl)
theorem dX6_lay_8 : decode cX6_lay 8 = .ok (.aload_n 0, 1) := dk_42 (dk_at dksX6_lay_0 8 rfl rfl)
theorem dX6_lay_9 : decode cX6_lay 9 = .ok (.getfield 15, 3) := dk_180 0 15 (dk_at dksX6_lay_0 9 rfl rfl)
theorem dX6_lay_12 : decode cX6_lay 12 = .ok (.iload_n 2, 1) := dk_28 (dk_at dksX6_lay_0 12 rfl rfl)
theorem dX6_lay_13 : decode cX6_lay 13 = .ok (.aload_n 0, 1) := dk_42 (dk_at dksX6_lay_0 13 rfl rfl)
theorem dX6_lay_14 : decode cX6_lay 14 = .ok (.getfield 19, 3) := dk_180 0 19 (dk_at dksX6_lay_0 14 rfl rfl)
theorem dX6_lay_17 : decode cX6_lay 17 = .ok (.bipush 109, 2) := dk_16 109 (dk_at dksX6_lay_0 17 rfl rfl)
theorem dX6_lay_19 : decode cX6_lay 19 = .ok (.iload_n 1, 1) := dk_27 (dk_at dksX6_lay_0 19 rfl rfl)
theorem dX6_lay_20 : decode cX6_lay 20 = .ok (.imul, 1) := dk_104 (dk_at dksX6_lay_0 20 rfl rfl)
theorem dX6_lay_21 : decode cX6_lay 21 = .ok (.iload_n 2, 1) := dk_28 (dk_at dksX6_lay_0 21 rfl rfl)
theorem dX6_lay_22 : decode cX6_lay 22 = .ok (.iadd, 1) := dk_96 (dk_at dksX6_lay_0 22 rfl rfl)
theorem dX6_lay_23 : decode cX6_lay 23 = .ok (.iaload, 1) := dk_46 (dk_at dksX6_lay_0 23 rfl rfl)
theorem dX6_lay_24 : decode cX6_lay 24 = .ok (.iastore, 1) := dk_79 (dk_at dksX6_lay_1 0 rfl rfl)
theorem dX6_lay_25 : decode cX6_lay 25 = .ok (.iinc 2 1, 3) := dk_132 2 1 (dk_at dksX6_lay_1 1 rfl rfl)
theorem dX6_lay_28 : decode cX6_lay 28 = .ok (.goto (-26), 3) := dk_167 255 230 (dk_at dksX6_lay_1 4 rfl rfl)
theorem dX6_lay_31 : decode cX6_lay 31 = .ok (.return_, 1) := dk_177 (dk_at dksX6_lay_1 7 rfl rfl)
abbrev cX6_gains : ByteArray := prog_23_method_39_code
def yX6_gains : MethodName := ⟨RX6, "gains", "()I"⟩
def dkwX6_gains_4 : List UInt8 := [164, 0, 9, 4, 28, 120, 167, 0, 4, 3, 128, 60, 132, 2, 1, 167, 255, 204, 27, 172]
abbrev dktX6_gains_4 : List UInt8 := dkwX6_gains_4 ++ []
def dkwX6_gains_3 : List UInt8 := [182, 0, 179, 153, 0, 29, 42, 180, 0, 56, 28, 46, 42, 28, 42, 28, 6, 182, 0, 89, 182, 0, 114]
abbrev dktX6_gains_3 : List UInt8 := dkwX6_gains_3 ++ dktX6_gains_4
def dkwX6_gains_2 : List UInt8 := [167, 255, 225, 42, 3, 182, 0, 201, 3, 61, 28, 42, 180, 0, 15, 16, 60, 46, 162, 0, 47, 27, 42, 28]
abbrev dktX6_gains_2 : List UInt8 := dkwX6_gains_2 ++ dktX6_gains_3
def dkwX6_gains_1 : List UInt8 := [162, 0, 26, 42, 180, 0, 56, 28, 42, 28, 42, 28, 6, 182, 0, 89, 182, 0, 114, 79, 132, 2, 1]
abbrev dktX6_gains_1 : List UInt8 := dkwX6_gains_1 ++ dktX6_gains_2
def dkwX6_gains_0 : List UInt8 := [42, 3, 182, 0, 194, 42, 182, 0, 187, 87, 3, 60, 3, 61, 28, 42, 180, 0, 15, 16, 60, 46]
abbrev dktX6_gains_0 : List UInt8 := dkwX6_gains_0 ++ dktX6_gains_1
theorem dksX6_gains_0 : cX6_gains.data.toList.drop 0 = dktX6_gains_0 := by decide +kernel
theorem dksX6_gains_1 : cX6_gains.data.toList.drop 22 = dktX6_gains_1 := dk_seg dksX6_gains_0 22 rfl rfl
theorem dksX6_gains_2 : cX6_gains.data.toList.drop 45 = dktX6_gains_2 := dk_seg dksX6_gains_1 23 rfl rfl
theorem dksX6_gains_3 : cX6_gains.data.toList.drop 69 = dktX6_gains_3 := dk_seg dksX6_gains_2 24 rfl rfl
theorem dksX6_gains_4 : cX6_gains.data.toList.drop 92 = dktX6_gains_4 := dk_seg dksX6_gains_3 23 rfl rfl
theorem dX6_gains_0 : decode cX6_gains 0 = .ok (.aload_n 0, 1) := dk_42 (dk_at dksX6_gains_0 0 rfl rfl)
theorem dX6_gains_1 : decode cX6_gains 1 = .ok (.iconst 0, 1) := dk_3 (dk_at dksX6_gains_0 1 rfl rfl)
theorem dX6_gains_2 : decode cX6_gains 2 = .ok (.invokevirtual 194, 3) := dk_182 0 194 (dk_at dksX6_gains_0 2 rfl rfl)
theorem dX6_gains_5 : decode cX6_gains 5 = .ok (.aload_n 0, 1) := dk_42 (dk_at dksX6_gains_0 5 rfl rfl)
theorem dX6_gains_6 : decode cX6_gains 6 = .ok (.invokevirtual 187, 3) := dk_182 0 187 (dk_at dksX6_gains_0 6 rfl rfl)
theorem dX6_gains_9 : decode cX6_gains 9 = .ok (.pop, 1) := dk_87 (dk_at dksX6_gains_0 9 rfl rfl)
theorem dX6_gains_10 : decode cX6_gains 10 = .ok (.iconst 0, 1) := dk_3 (dk_at dksX6_gains_0 10 rfl rfl)
theorem dX6_gains_11 : decode cX6_gains 11 = .ok (.istore_n 1, 1) := dk_60 (dk_at dksX6_gains_0 11 rfl rfl)
theorem dX6_gains_12 : decode cX6_gains 12 = .ok (.iconst 0, 1) := dk_3 (dk_at dksX6_gains_0 12 rfl rfl)
theorem dX6_gains_13 : decode cX6_gains 13 = .ok (.istore_n 2, 1) := dk_61 (dk_at dksX6_gains_0 13 rfl rfl)
theorem dX6_gains_14 : decode cX6_gains 14 = .ok (.iload_n 2, 1) := dk_28 (dk_at dksX6_gains_0 14 rfl rfl)
theorem dX6_gains_15 : decode cX6_gains 15 = .ok (.aload_n 0, 1) := dk_42 (dk_at dksX6_gains_0 15 rfl rfl)
theorem dX6_gains_16 : decode cX6_gains 16 = .ok (.getfield 15, 3) := dk_180 0 15 (dk_at dksX6_gains_0 16 rfl rfl)
theorem dX6_gains_19 : decode cX6_gains 19 = .ok (.bipush 60, 2) := dk_16 60 (dk_at dksX6_gains_0 19 rfl rfl)
theorem dX6_gains_21 : decode cX6_gains 21 = .ok (.iaload, 1) := dk_46 (dk_at dksX6_gains_0 21 rfl rfl)
theorem dX6_gains_22 : decode cX6_gains 22 = .ok (.if_icmp .ge 26, 3) := dk_162 0 26 (dk_at dksX6_gains_1 0 rfl rfl)
theorem dX6_gains_25 : decode cX6_gains 25 = .ok (.aload_n 0, 1) := dk_42 (dk_at dksX6_gains_1 3 rfl rfl)
theorem dX6_gains_26 : decode cX6_gains 26 = .ok (.getfield 56, 3) := dk_180 0 56 (dk_at dksX6_gains_1 4 rfl rfl)
theorem dX6_gains_29 : decode cX6_gains 29 = .ok (.iload_n 2, 1) := dk_28 (dk_at dksX6_gains_1 7 rfl rfl)
theorem dX6_gains_30 : decode cX6_gains 30 = .ok (.aload_n 0, 1) := dk_42 (dk_at dksX6_gains_1 8 rfl rfl)
theorem dX6_gains_31 : decode cX6_gains 31 = .ok (.iload_n 2, 1) := dk_28 (dk_at dksX6_gains_1 9 rfl rfl)
theorem dX6_gains_32 : decode cX6_gains 32 = .ok (.aload_n 0, 1) := dk_42 (dk_at dksX6_gains_1 10 rfl rfl)
theorem dX6_gains_33 : decode cX6_gains 33 = .ok (.iload_n 2, 1) := dk_28 (dk_at dksX6_gains_1 11 rfl rfl)
theorem dX6_gains_34 : decode cX6_gains 34 = .ok (.iconst 3, 1) := dk_6 (dk_at dksX6_gains_1 12 rfl rfl)
theorem dX6_gains_35 : decode cX6_gains 35 = .ok (.invokevirtual 89, 3) := dk_182 0 89 (dk_at dksX6_gains_1 13 rfl rfl)
theorem dX6_gains_38 : decode cX6_gains 38 = .ok (.invokevirtual 114, 3) := dk_182 0 114 (dk_at dksX6_gains_1 16 rfl rfl)
theorem dX6_gains_41 : decode cX6_gains 41 = .ok (.iastore, 1) := dk_79 (dk_at dksX6_gains_1 19 rfl rfl)
theorem dX6_gains_42 : decode cX6_gains 42 = .ok (.iinc 2 1, 3) := dk_132 2 1 (dk_at dksX6_gains_1 20 rfl rfl)
theorem dX6_gains_45 : decode cX6_gains 45 = .ok (.goto (-31), 3) := dk_167 255 225 (dk_at dksX6_gains_2 0 rfl rfl)
theorem dX6_gains_48 : decode cX6_gains 48 = .ok (.aload_n 0, 1) := dk_42 (dk_at dksX6_gains_2 3 rfl rfl)
theorem dX6_gains_49 : decode cX6_gains 49 = .ok (.iconst 0, 1) := dk_3 (dk_at dksX6_gains_2 4 rfl rfl)
theorem dX6_gains_50 : decode cX6_gains 50 = .ok (.invokevirtual 201, 3) := dk_182 0 201 (dk_at dksX6_gains_2 5 rfl rfl)
theorem dX6_gains_53 : decode cX6_gains 53 = .ok (.iconst 0, 1) := dk_3 (dk_at dksX6_gains_2 8 rfl rfl)
theorem dX6_gains_54 : decode cX6_gains 54 = .ok (.istore_n 2, 1) := dk_61 (dk_at dksX6_gains_2 9 rfl rfl)
theorem dX6_gains_55 : decode cX6_gains 55 = .ok (.iload_n 2, 1) := dk_28 (dk_at dksX6_gains_2 10 rfl rfl)
theorem dX6_gains_56 : decode cX6_gains 56 = .ok (.aload_n 0, 1) := dk_42 (dk_at dksX6_gains_2 11 rfl rfl)
theorem dX6_gains_57 : decode cX6_gains 57 = .ok (.getfield 15, 3) := dk_180 0 15 (dk_at dksX6_gains_2 12 rfl rfl)
theorem dX6_gains_60 : decode cX6_gains 60 = .ok (.bipush 60, 2) := dk_16 60 (dk_at dksX6_gains_2 15 rfl rfl)
theorem dX6_gains_62 : decode cX6_gains 62 = .ok (.iaload, 1) := dk_46 (dk_at dksX6_gains_2 17 rfl rfl)
theorem dX6_gains_63 : decode cX6_gains 63 = .ok (.if_icmp .ge 47, 3) := dk_162 0 47 (dk_at dksX6_gains_2 18 rfl rfl)
theorem dX6_gains_66 : decode cX6_gains 66 = .ok (.iload_n 1, 1) := dk_27 (dk_at dksX6_gains_2 21 rfl rfl)
theorem dX6_gains_67 : decode cX6_gains 67 = .ok (.aload_n 0, 1) := dk_42 (dk_at dksX6_gains_2 22 rfl rfl)
theorem dX6_gains_68 : decode cX6_gains 68 = .ok (.iload_n 2, 1) := dk_28 (dk_at dksX6_gains_2 23 rfl rfl)
theorem dX6_gains_69 : decode cX6_gains 69 = .ok (.invokevirtual 179, 3) := dk_182 0 179 (dk_at dksX6_gains_3 0 rfl rfl)
theorem dX6_gains_72 : decode cX6_gains 72 = .ok (.ifCond .eq 29, 3) := dk_153 0 29 (dk_at dksX6_gains_3 3 rfl rfl)
theorem dX6_gains_75 : decode cX6_gains 75 = .ok (.aload_n 0, 1) := dk_42 (dk_at dksX6_gains_3 6 rfl rfl)
theorem dX6_gains_76 : decode cX6_gains 76 = .ok (.getfield 56, 3) := dk_180 0 56 (dk_at dksX6_gains_3 7 rfl rfl)
theorem dX6_gains_79 : decode cX6_gains 79 = .ok (.iload_n 2, 1) := dk_28 (dk_at dksX6_gains_3 10 rfl rfl)
theorem dX6_gains_80 : decode cX6_gains 80 = .ok (.iaload, 1) := dk_46 (dk_at dksX6_gains_3 11 rfl rfl)
theorem dX6_gains_81 : decode cX6_gains 81 = .ok (.aload_n 0, 1) := dk_42 (dk_at dksX6_gains_3 12 rfl rfl)
theorem dX6_gains_82 : decode cX6_gains 82 = .ok (.iload_n 2, 1) := dk_28 (dk_at dksX6_gains_3 13 rfl rfl)
theorem dX6_gains_83 : decode cX6_gains 83 = .ok (.aload_n 0, 1) := dk_42 (dk_at dksX6_gains_3 14 rfl rfl)
theorem dX6_gains_84 : decode cX6_gains 84 = .ok (.iload_n 2, 1) := dk_28 (dk_at dksX6_gains_3 15 rfl rfl)
theorem dX6_gains_85 : decode cX6_gains 85 = .ok (.iconst 3, 1) := dk_6 (dk_at dksX6_gains_3 16 rfl rfl)
theorem dX6_gains_86 : decode cX6_gains 86 = .ok (.invokevirtual 89, 3) := dk_182 0 89 (dk_at dksX6_gains_3 17 rfl rfl)
theorem dX6_gains_89 : decode cX6_gains 89 = .ok (.invokevirtual 114, 3) := dk_182 0 114 (dk_at dksX6_gains_3 20 rfl rfl)
theorem dX6_gains_92 : decode cX6_gains 92 = .ok (.if_icmp .le 9, 3) := dk_164 0 9 (dk_at dksX6_gains_4 0 rfl rfl)
theorem dX6_gains_95 : decode cX6_gains 95 = .ok (.iconst 1, 1) := dk_4 (dk_at dksX6_gains_4 3 rfl rfl)
theorem dX6_gains_96 : decode cX6_gains 96 = .ok (.iload_n 2, 1) := dk_28 (dk_at dksX6_gains_4 4 rfl rfl)
theorem dX6_gains_97 : decode cX6_gains 97 = .ok (.ishl, 1) := dk_120 (dk_at dksX6_gains_4 5 rfl rfl)
theorem dX6_gains_98 : decode cX6_gains 98 = .ok (.goto 4, 3) := dk_167 0 4 (dk_at dksX6_gains_4 6 rfl rfl)
theorem dX6_gains_101 : decode cX6_gains 101 = .ok (.iconst 0, 1) := dk_3 (dk_at dksX6_gains_4 9 rfl rfl)
theorem dX6_gains_102 : decode cX6_gains 102 = .ok (.ior, 1) := dk_128 (dk_at dksX6_gains_4 10 rfl rfl)
theorem dX6_gains_103 : decode cX6_gains 103 = .ok (.istore_n 1, 1) := dk_60 (dk_at dksX6_gains_4 11 rfl rfl)
theorem dX6_gains_104 : decode cX6_gains 104 = .ok (.iinc 2 1, 3) := dk_132 2 1 (dk_at dksX6_gains_4 12 rfl rfl)
theorem dX6_gains_107 : decode cX6_gains 107 = .ok (.goto (-52), 3) := dk_167 255 204 (dk_at dksX6_gains_4 15 rfl rfl)
theorem dX6_gains_110 : decode cX6_gains 110 = .ok (.iload_n 1, 1) := dk_27 (dk_at dksX6_gains_4 18 rfl rfl)
theorem dX6_gains_111 : decode cX6_gains 111 = .ok (.ireturn, 1) := dk_172 (dk_at dksX6_gains_4 19 rfl rfl)
abbrev cX6_owed : ByteArray := prog_23_method_48_code
def yX6_owed : MethodName := ⟨RX6, "owed", "(Z)I"⟩
def dkwX6_owed_3 : List UInt8 := [167, 255, 206, 42, 180, 0, 15, 16, 61, 28, 79, 27, 153, 0, 7, 29, 167, 0, 5, 21, 4, 172]
abbrev dktX6_owed_3 : List UInt8 := dkwX6_owed_3 ++ []
def dkwX6_owed_2 : List UInt8 := [167, 0, 4, 3, 96, 62, 21, 6, 153, 0, 8, 21, 5, 167, 0, 5, 21, 4, 54, 4, 132, 5, 255]
abbrev dktX6_owed_2 : List UInt8 := dkwX6_owed_2 ++ dktX6_owed_3
def dkwX6_owed_1 : List UInt8 := [42, 180, 0, 15, 16, 61, 21, 5, 79, 42, 182, 0, 219, 54, 6, 29, 21, 6, 153, 0, 7, 4]
abbrev dktX6_owed_1 : List UInt8 := dkwX6_owed_1 ++ dktX6_owed_2
def dkwX6_owed_0 : List UInt8 := [42, 180, 0, 15, 16, 61, 46, 61, 3, 62, 16, 251, 54, 4, 17, 3, 231, 54, 5, 21, 5, 155, 0, 51]
abbrev dktX6_owed_0 : List UInt8 := dkwX6_owed_0 ++ dktX6_owed_1
theorem dksX6_owed_0 : cX6_owed.data.toList.drop 0 = dktX6_owed_0 := by decide +kernel
theorem dksX6_owed_1 : cX6_owed.data.toList.drop 24 = dktX6_owed_1 := dk_seg dksX6_owed_0 24 rfl rfl
theorem dksX6_owed_2 : cX6_owed.data.toList.drop 46 = dktX6_owed_2 := dk_seg dksX6_owed_1 22 rfl rfl
theorem dksX6_owed_3 : cX6_owed.data.toList.drop 69 = dktX6_owed_3 := dk_seg dksX6_owed_2 23 rfl rfl
theorem dX6_owed_0 : decode cX6_owed 0 = .ok (.aload_n 0, 1) := dk_42 (dk_at dksX6_owed_0 0 rfl rfl)
theorem dX6_owed_1 : decode cX6_owed 1 = .ok (.getfield 15, 3) := dk_180 0 15 (dk_at dksX6_owed_0 1 rfl rfl)
theorem dX6_owed_4 : decode cX6_owed 4 = .ok (.bipush 61, 2) := dk_16 61 (dk_at dksX6_owed_0 4 rfl rfl)
theorem dX6_owed_6 : decode cX6_owed 6 = .ok (.iaload, 1) := dk_46 (dk_at dksX6_owed_0 6 rfl rfl)
theorem dX6_owed_7 : decode cX6_owed 7 = .ok (.istore_n 2, 1) := dk_61 (dk_at dksX6_owed_0 7 rfl rfl)
theorem dX6_owed_8 : decode cX6_owed 8 = .ok (.iconst 0, 1) := dk_3 (dk_at dksX6_owed_0 8 rfl rfl)
theorem dX6_owed_9 : decode cX6_owed 9 = .ok (.istore_n 3, 1) := dk_62 (dk_at dksX6_owed_0 9 rfl rfl)
theorem dX6_owed_10 : decode cX6_owed 10 = .ok (.bipush (-5), 2) := dk_16 251 (dk_at dksX6_owed_0 10 rfl rfl)
theorem dX6_owed_12 : decode cX6_owed 12 = .ok (.istore 4, 2) := dk_54 4 (dk_at dksX6_owed_0 12 rfl rfl)
theorem dX6_owed_14 : decode cX6_owed 14 = .ok (.sipush 999, 3) := dk_17 3 231 (dk_at dksX6_owed_0 14 rfl rfl)
theorem dX6_owed_17 : decode cX6_owed 17 = .ok (.istore 5, 2) := dk_54 5 (dk_at dksX6_owed_0 17 rfl rfl)
theorem dX6_owed_19 : decode cX6_owed 19 = .ok (.iload 5, 2) := dk_21 5 (dk_at dksX6_owed_0 19 rfl rfl)
theorem dX6_owed_21 : decode cX6_owed 21 = .ok (.ifCond .lt 51, 3) := dk_155 0 51 (dk_at dksX6_owed_0 21 rfl rfl)
theorem dX6_owed_24 : decode cX6_owed 24 = .ok (.aload_n 0, 1) := dk_42 (dk_at dksX6_owed_1 0 rfl rfl)
theorem dX6_owed_25 : decode cX6_owed 25 = .ok (.getfield 15, 3) := dk_180 0 15 (dk_at dksX6_owed_1 1 rfl rfl)
theorem dX6_owed_28 : decode cX6_owed 28 = .ok (.bipush 61, 2) := dk_16 61 (dk_at dksX6_owed_1 4 rfl rfl)
theorem dX6_owed_30 : decode cX6_owed 30 = .ok (.iload 5, 2) := dk_21 5 (dk_at dksX6_owed_1 6 rfl rfl)
theorem dX6_owed_32 : decode cX6_owed 32 = .ok (.iastore, 1) := dk_79 (dk_at dksX6_owed_1 8 rfl rfl)
theorem dX6_owed_33 : decode cX6_owed 33 = .ok (.aload_n 0, 1) := dk_42 (dk_at dksX6_owed_1 9 rfl rfl)
theorem dX6_owed_34 : decode cX6_owed 34 = .ok (.invokevirtual 219, 3) := dk_182 0 219 (dk_at dksX6_owed_1 10 rfl rfl)
theorem dX6_owed_37 : decode cX6_owed 37 = .ok (.istore 6, 2) := dk_54 6 (dk_at dksX6_owed_1 13 rfl rfl)
theorem dX6_owed_39 : decode cX6_owed 39 = .ok (.iload_n 3, 1) := dk_29 (dk_at dksX6_owed_1 15 rfl rfl)
theorem dX6_owed_40 : decode cX6_owed 40 = .ok (.iload 6, 2) := dk_21 6 (dk_at dksX6_owed_1 16 rfl rfl)
theorem dX6_owed_42 : decode cX6_owed 42 = .ok (.ifCond .eq 7, 3) := dk_153 0 7 (dk_at dksX6_owed_1 18 rfl rfl)
theorem dX6_owed_45 : decode cX6_owed 45 = .ok (.iconst 1, 1) := dk_4 (dk_at dksX6_owed_1 21 rfl rfl)
theorem dX6_owed_46 : decode cX6_owed 46 = .ok (.goto 4, 3) := dk_167 0 4 (dk_at dksX6_owed_2 0 rfl rfl)
theorem dX6_owed_49 : decode cX6_owed 49 = .ok (.iconst 0, 1) := dk_3 (dk_at dksX6_owed_2 3 rfl rfl)
theorem dX6_owed_50 : decode cX6_owed 50 = .ok (.iadd, 1) := dk_96 (dk_at dksX6_owed_2 4 rfl rfl)
theorem dX6_owed_51 : decode cX6_owed 51 = .ok (.istore_n 3, 1) := dk_62 (dk_at dksX6_owed_2 5 rfl rfl)
theorem dX6_owed_52 : decode cX6_owed 52 = .ok (.iload 6, 2) := dk_21 6 (dk_at dksX6_owed_2 6 rfl rfl)
theorem dX6_owed_54 : decode cX6_owed 54 = .ok (.ifCond .eq 8, 3) := dk_153 0 8 (dk_at dksX6_owed_2 8 rfl rfl)
theorem dX6_owed_57 : decode cX6_owed 57 = .ok (.iload 5, 2) := dk_21 5 (dk_at dksX6_owed_2 11 rfl rfl)
theorem dX6_owed_59 : decode cX6_owed 59 = .ok (.goto 5, 3) := dk_167 0 5 (dk_at dksX6_owed_2 13 rfl rfl)
theorem dX6_owed_62 : decode cX6_owed 62 = .ok (.iload 4, 2) := dk_21 4 (dk_at dksX6_owed_2 16 rfl rfl)
theorem dX6_owed_64 : decode cX6_owed 64 = .ok (.istore 4, 2) := dk_54 4 (dk_at dksX6_owed_2 18 rfl rfl)
theorem dX6_owed_66 : decode cX6_owed 66 = .ok (.iinc 5 (-1), 3) := dk_132 5 255 (dk_at dksX6_owed_2 20 rfl rfl)
theorem dX6_owed_69 : decode cX6_owed 69 = .ok (.goto (-50), 3) := dk_167 255 206 (dk_at dksX6_owed_3 0 rfl rfl)
theorem dX6_owed_72 : decode cX6_owed 72 = .ok (.aload_n 0, 1) := dk_42 (dk_at dksX6_owed_3 3 rfl rfl)
theorem dX6_owed_73 : decode cX6_owed 73 = .ok (.getfield 15, 3) := dk_180 0 15 (dk_at dksX6_owed_3 4 rfl rfl)
theorem dX6_owed_76 : decode cX6_owed 76 = .ok (.bipush 61, 2) := dk_16 61 (dk_at dksX6_owed_3 7 rfl rfl)
theorem dX6_owed_78 : decode cX6_owed 78 = .ok (.iload_n 2, 1) := dk_28 (dk_at dksX6_owed_3 9 rfl rfl)
theorem dX6_owed_79 : decode cX6_owed 79 = .ok (.iastore, 1) := dk_79 (dk_at dksX6_owed_3 10 rfl rfl)
theorem dX6_owed_80 : decode cX6_owed 80 = .ok (.iload_n 1, 1) := dk_27 (dk_at dksX6_owed_3 11 rfl rfl)
theorem dX6_owed_81 : decode cX6_owed 81 = .ok (.ifCond .eq 7, 3) := dk_153 0 7 (dk_at dksX6_owed_3 12 rfl rfl)
theorem dX6_owed_84 : decode cX6_owed 84 = .ok (.iload_n 3, 1) := dk_29 (dk_at dksX6_owed_3 15 rfl rfl)
theorem dX6_owed_85 : decode cX6_owed 85 = .ok (.goto 5, 3) := dk_167 0 5 (dk_at dksX6_owed_3 16 rfl rfl)
theorem dX6_owed_88 : decode cX6_owed 88 = .ok (.iload 4, 2) := dk_21 4 (dk_at dksX6_owed_3 19 rfl rfl)
theorem dX6_owed_90 : decode cX6_owed 90 = .ok (.ireturn, 1) := dk_172 (dk_at dksX6_owed_3 21 rfl rfl)
abbrev cX6_isAllSeen : ByteArray := prog_23_method_47_code
def yX6_isAllSeen : MethodName := ⟨RX6, "isAllSeen", "()Z"⟩
def dkwX6_isAllSeen_2 : List UInt8 := [46, 160, 0, 7, 4, 167, 0, 4, 3, 60, 132, 2, 1, 167, 255, 203, 27, 172]
abbrev dktX6_isAllSeen_2 : List UInt8 := dkwX6_isAllSeen_2 ++ []
def dkwX6_isAllSeen_1 : List UInt8 := [96, 62, 27, 153, 0, 29, 42, 180, 0, 53, 42, 180, 0, 15, 29, 46, 46, 42, 180, 0, 15, 29, 4, 96]
abbrev dktX6_isAllSeen_1 : List UInt8 := dkwX6_isAllSeen_1 ++ dktX6_isAllSeen_2
def dkwX6_isAllSeen_0 : List UInt8 := [42, 182, 0, 104, 4, 60, 3, 61, 28, 42, 180, 0, 15, 16, 64, 46, 162, 0, 48, 16, 65, 5, 28, 104]
abbrev dktX6_isAllSeen_0 : List UInt8 := dkwX6_isAllSeen_0 ++ dktX6_isAllSeen_1
theorem dksX6_isAllSeen_0 : cX6_isAllSeen.data.toList.drop 0 = dktX6_isAllSeen_0 := by decide +kernel
theorem dksX6_isAllSeen_1 : cX6_isAllSeen.data.toList.drop 24 = dktX6_isAllSeen_1 := dk_seg dksX6_isAllSeen_0 24 rfl rfl
theorem dksX6_isAllSeen_2 : cX6_isAllSeen.data.toList.drop 48 = dktX6_isAllSeen_2 := dk_seg dksX6_isAllSeen_1 24 rfl rfl
theorem dX6_isAllSeen_0 : decode cX6_isAllSeen 0 = .ok (.aload_n 0, 1) := dk_42 (dk_at dksX6_isAllSeen_0 0 rfl rfl)
theorem dX6_isAllSeen_1 : decode cX6_isAllSeen 1 = .ok (.invokevirtual 104, 3) := dk_182 0 104 (dk_at dksX6_isAllSeen_0 1 rfl rfl)
theorem dX6_isAllSeen_4 : decode cX6_isAllSeen 4 = .ok (.iconst 1, 1) := dk_4 (dk_at dksX6_isAllSeen_0 4 rfl rfl)
theorem dX6_isAllSeen_5 : decode cX6_isAllSeen 5 = .ok (.istore_n 1, 1) := dk_60 (dk_at dksX6_isAllSeen_0 5 rfl rfl)
theorem dX6_isAllSeen_6 : decode cX6_isAllSeen 6 = .ok (.iconst 0, 1) := dk_3 (dk_at dksX6_isAllSeen_0 6 rfl rfl)
theorem dX6_isAllSeen_7 : decode cX6_isAllSeen 7 = .ok (.istore_n 2, 1) := dk_61 (dk_at dksX6_isAllSeen_0 7 rfl rfl)
theorem dX6_isAllSeen_8 : decode cX6_isAllSeen 8 = .ok (.iload_n 2, 1) := dk_28 (dk_at dksX6_isAllSeen_0 8 rfl rfl)
theorem dX6_isAllSeen_9 : decode cX6_isAllSeen 9 = .ok (.aload_n 0, 1) := dk_42 (dk_at dksX6_isAllSeen_0 9 rfl rfl)
theorem dX6_isAllSeen_10 : decode cX6_isAllSeen 10 = .ok (.getfield 15, 3) := dk_180 0 15 (dk_at dksX6_isAllSeen_0 10 rfl rfl)
theorem dX6_isAllSeen_13 : decode cX6_isAllSeen 13 = .ok (.bipush 64, 2) := dk_16 64 (dk_at dksX6_isAllSeen_0 13 rfl rfl)
theorem dX6_isAllSeen_15 : decode cX6_isAllSeen 15 = .ok (.iaload, 1) := dk_46 (dk_at dksX6_isAllSeen_0 15 rfl rfl)
theorem dX6_isAllSeen_16 : decode cX6_isAllSeen 16 = .ok (.if_icmp .ge 48, 3) := dk_162 0 48 (dk_at dksX6_isAllSeen_0 16 rfl rfl)
theorem dX6_isAllSeen_19 : decode cX6_isAllSeen 19 = .ok (.bipush 65, 2) := dk_16 65 (dk_at dksX6_isAllSeen_0 19 rfl rfl)
theorem dX6_isAllSeen_21 : decode cX6_isAllSeen 21 = .ok (.iconst 2, 1) := dk_5 (dk_at dksX6_isAllSeen_0 21 rfl rfl)
theorem dX6_isAllSeen_22 : decode cX6_isAllSeen 22 = .ok (.iload_n 2, 1) := dk_28 (dk_at dksX6_isAllSeen_0 22 rfl rfl)
theorem dX6_isAllSeen_23 : decode cX6_isAllSeen 23 = .ok (.imul, 1) := dk_104 (dk_at dksX6_isAllSeen_0 23 rfl rfl)
theorem dX6_isAllSeen_24 : decode cX6_isAllSeen 24 = .ok (.iadd, 1) := dk_96 (dk_at dksX6_isAllSeen_1 0 rfl rfl)
theorem dX6_isAllSeen_25 : decode cX6_isAllSeen 25 = .ok (.istore_n 3, 1) := dk_62 (dk_at dksX6_isAllSeen_1 1 rfl rfl)
theorem dX6_isAllSeen_26 : decode cX6_isAllSeen 26 = .ok (.iload_n 1, 1) := dk_27 (dk_at dksX6_isAllSeen_1 2 rfl rfl)
theorem dX6_isAllSeen_27 : decode cX6_isAllSeen 27 = .ok (.ifCond .eq 29, 3) := dk_153 0 29 (dk_at dksX6_isAllSeen_1 3 rfl rfl)
theorem dX6_isAllSeen_30 : decode cX6_isAllSeen 30 = .ok (.aload_n 0, 1) := dk_42 (dk_at dksX6_isAllSeen_1 6 rfl rfl)
theorem dX6_isAllSeen_31 : decode cX6_isAllSeen 31 = .ok (.getfield 53, 3) := dk_180 0 53 (dk_at dksX6_isAllSeen_1 7 rfl rfl)
theorem dX6_isAllSeen_34 : decode cX6_isAllSeen 34 = .ok (.aload_n 0, 1) := dk_42 (dk_at dksX6_isAllSeen_1 10 rfl rfl)
theorem dX6_isAllSeen_35 : decode cX6_isAllSeen 35 = .ok (.getfield 15, 3) := dk_180 0 15 (dk_at dksX6_isAllSeen_1 11 rfl rfl)
theorem dX6_isAllSeen_38 : decode cX6_isAllSeen 38 = .ok (.iload_n 3, 1) := dk_29 (dk_at dksX6_isAllSeen_1 14 rfl rfl)
theorem dX6_isAllSeen_39 : decode cX6_isAllSeen 39 = .ok (.iaload, 1) := dk_46 (dk_at dksX6_isAllSeen_1 15 rfl rfl)
theorem dX6_isAllSeen_40 : decode cX6_isAllSeen 40 = .ok (.iaload, 1) := dk_46 (dk_at dksX6_isAllSeen_1 16 rfl rfl)
theorem dX6_isAllSeen_41 : decode cX6_isAllSeen 41 = .ok (.aload_n 0, 1) := dk_42 (dk_at dksX6_isAllSeen_1 17 rfl rfl)
theorem dX6_isAllSeen_42 : decode cX6_isAllSeen 42 = .ok (.getfield 15, 3) := dk_180 0 15 (dk_at dksX6_isAllSeen_1 18 rfl rfl)
theorem dX6_isAllSeen_45 : decode cX6_isAllSeen 45 = .ok (.iload_n 3, 1) := dk_29 (dk_at dksX6_isAllSeen_1 21 rfl rfl)
theorem dX6_isAllSeen_46 : decode cX6_isAllSeen 46 = .ok (.iconst 1, 1) := dk_4 (dk_at dksX6_isAllSeen_1 22 rfl rfl)
theorem dX6_isAllSeen_47 : decode cX6_isAllSeen 47 = .ok (.iadd, 1) := dk_96 (dk_at dksX6_isAllSeen_1 23 rfl rfl)
theorem dX6_isAllSeen_48 : decode cX6_isAllSeen 48 = .ok (.iaload, 1) := dk_46 (dk_at dksX6_isAllSeen_2 0 rfl rfl)
theorem dX6_isAllSeen_49 : decode cX6_isAllSeen 49 = .ok (.if_icmp .ne 7, 3) := dk_160 0 7 (dk_at dksX6_isAllSeen_2 1 rfl rfl)
theorem dX6_isAllSeen_52 : decode cX6_isAllSeen 52 = .ok (.iconst 1, 1) := dk_4 (dk_at dksX6_isAllSeen_2 4 rfl rfl)
theorem dX6_isAllSeen_53 : decode cX6_isAllSeen 53 = .ok (.goto 4, 3) := dk_167 0 4 (dk_at dksX6_isAllSeen_2 5 rfl rfl)
theorem dX6_isAllSeen_56 : decode cX6_isAllSeen 56 = .ok (.iconst 0, 1) := dk_3 (dk_at dksX6_isAllSeen_2 8 rfl rfl)
theorem dX6_isAllSeen_57 : decode cX6_isAllSeen 57 = .ok (.istore_n 1, 1) := dk_60 (dk_at dksX6_isAllSeen_2 9 rfl rfl)
theorem dX6_isAllSeen_58 : decode cX6_isAllSeen 58 = .ok (.iinc 2 1, 3) := dk_132 2 1 (dk_at dksX6_isAllSeen_2 10 rfl rfl)
theorem dX6_isAllSeen_61 : decode cX6_isAllSeen 61 = .ok (.goto (-53), 3) := dk_167 255 203 (dk_at dksX6_isAllSeen_2 13 rfl rfl)
theorem dX6_isAllSeen_64 : decode cX6_isAllSeen 64 = .ok (.iload_n 1, 1) := dk_27 (dk_at dksX6_isAllSeen_2 16 rfl rfl)
theorem dX6_isAllSeen_65 : decode cX6_isAllSeen 65 = .ok (.ireturn, 1) := dk_172 (dk_at dksX6_isAllSeen_2 17 rfl rfl)
abbrev cX6_pass : ByteArray := prog_23_method_42_code
def yX6_pass : MethodName := ⟨RX6, "pass", "(I)I"⟩
def dkwX6_pass_2 : List UInt8 := [132, 2, 1, 167, 255, 242, 42, 180, 0, 15, 16, 62, 46, 172]
abbrev dktX6_pass_2 : List UInt8 := dkwX6_pass_2 ++ []
def dkwX6_pass_1 : List UInt8 := [17, 39, 15, 164, 0, 6, 16, 253, 172, 3, 61, 28, 27, 162, 0, 15, 42, 4, 182, 0, 197, 87]
abbrev dktX6_pass_1 : List UInt8 := dkwX6_pass_1 ++ dktX6_pass_2
def dkwX6_pass_0 : List UInt8 := [27, 3, 16, 20, 184, 0, 85, 154, 0, 6, 16, 254, 172, 42, 180, 0, 15, 16, 62, 46, 27, 96]
abbrev dktX6_pass_0 : List UInt8 := dkwX6_pass_0 ++ dktX6_pass_1
theorem dksX6_pass_0 : cX6_pass.data.toList.drop 0 = dktX6_pass_0 := by decide +kernel
theorem dksX6_pass_1 : cX6_pass.data.toList.drop 22 = dktX6_pass_1 := dk_seg dksX6_pass_0 22 rfl rfl
theorem dksX6_pass_2 : cX6_pass.data.toList.drop 44 = dktX6_pass_2 := dk_seg dksX6_pass_1 22 rfl rfl
theorem dX6_pass_0 : decode cX6_pass 0 = .ok (.iload_n 1, 1) := dk_27 (dk_at dksX6_pass_0 0 rfl rfl)
theorem dX6_pass_1 : decode cX6_pass 1 = .ok (.iconst 0, 1) := dk_3 (dk_at dksX6_pass_0 1 rfl rfl)
theorem dX6_pass_2 : decode cX6_pass 2 = .ok (.bipush 20, 2) := dk_16 20 (dk_at dksX6_pass_0 2 rfl rfl)
theorem dX6_pass_4 : decode cX6_pass 4 = .ok (.invokestatic 85, 3) := dk_184 0 85 (dk_at dksX6_pass_0 4 rfl rfl)
theorem dX6_pass_7 : decode cX6_pass 7 = .ok (.ifCond .ne 6, 3) := dk_154 0 6 (dk_at dksX6_pass_0 7 rfl rfl)
theorem dX6_pass_10 : decode cX6_pass 10 = .ok (.bipush (-2), 2) := dk_16 254 (dk_at dksX6_pass_0 10 rfl rfl)
theorem dX6_pass_12 : decode cX6_pass 12 = .ok (.ireturn, 1) := dk_172 (dk_at dksX6_pass_0 12 rfl rfl)
theorem dX6_pass_13 : decode cX6_pass 13 = .ok (.aload_n 0, 1) := dk_42 (dk_at dksX6_pass_0 13 rfl rfl)
theorem dX6_pass_14 : decode cX6_pass 14 = .ok (.getfield 15, 3) := dk_180 0 15 (dk_at dksX6_pass_0 14 rfl rfl)
theorem dX6_pass_17 : decode cX6_pass 17 = .ok (.bipush 62, 2) := dk_16 62 (dk_at dksX6_pass_0 17 rfl rfl)
theorem dX6_pass_19 : decode cX6_pass 19 = .ok (.iaload, 1) := dk_46 (dk_at dksX6_pass_0 19 rfl rfl)
theorem dX6_pass_20 : decode cX6_pass 20 = .ok (.iload_n 1, 1) := dk_27 (dk_at dksX6_pass_0 20 rfl rfl)
theorem dX6_pass_21 : decode cX6_pass 21 = .ok (.iadd, 1) := dk_96 (dk_at dksX6_pass_0 21 rfl rfl)
theorem dX6_pass_22 : decode cX6_pass 22 = .ok (.sipush 9999, 3) := dk_17 39 15 (dk_at dksX6_pass_1 0 rfl rfl)
theorem dX6_pass_25 : decode cX6_pass 25 = .ok (.if_icmp .le 6, 3) := dk_164 0 6 (dk_at dksX6_pass_1 3 rfl rfl)
theorem dX6_pass_28 : decode cX6_pass 28 = .ok (.bipush (-3), 2) := dk_16 253 (dk_at dksX6_pass_1 6 rfl rfl)
theorem dX6_pass_30 : decode cX6_pass 30 = .ok (.ireturn, 1) := dk_172 (dk_at dksX6_pass_1 8 rfl rfl)
theorem dX6_pass_31 : decode cX6_pass 31 = .ok (.iconst 0, 1) := dk_3 (dk_at dksX6_pass_1 9 rfl rfl)
theorem dX6_pass_32 : decode cX6_pass 32 = .ok (.istore_n 2, 1) := dk_61 (dk_at dksX6_pass_1 10 rfl rfl)
theorem dX6_pass_33 : decode cX6_pass 33 = .ok (.iload_n 2, 1) := dk_28 (dk_at dksX6_pass_1 11 rfl rfl)
theorem dX6_pass_34 : decode cX6_pass 34 = .ok (.iload_n 1, 1) := dk_27 (dk_at dksX6_pass_1 12 rfl rfl)
theorem dX6_pass_35 : decode cX6_pass 35 = .ok (.if_icmp .ge 15, 3) := dk_162 0 15 (dk_at dksX6_pass_1 13 rfl rfl)
theorem dX6_pass_38 : decode cX6_pass 38 = .ok (.aload_n 0, 1) := dk_42 (dk_at dksX6_pass_1 16 rfl rfl)
theorem dX6_pass_39 : decode cX6_pass 39 = .ok (.iconst 1, 1) := dk_4 (dk_at dksX6_pass_1 17 rfl rfl)
theorem dX6_pass_40 : decode cX6_pass 40 = .ok (.invokevirtual 197, 3) := dk_182 0 197 (dk_at dksX6_pass_1 18 rfl rfl)
theorem dX6_pass_43 : decode cX6_pass 43 = .ok (.pop, 1) := dk_87 (dk_at dksX6_pass_1 21 rfl rfl)
theorem dX6_pass_44 : decode cX6_pass 44 = .ok (.iinc 2 1, 3) := dk_132 2 1 (dk_at dksX6_pass_2 0 rfl rfl)
theorem dX6_pass_47 : decode cX6_pass 47 = .ok (.goto (-14), 3) := dk_167 255 242 (dk_at dksX6_pass_2 3 rfl rfl)
theorem dX6_pass_50 : decode cX6_pass 50 = .ok (.aload_n 0, 1) := dk_42 (dk_at dksX6_pass_2 6 rfl rfl)
theorem dX6_pass_51 : decode cX6_pass 51 = .ok (.getfield 15, 3) := dk_180 0 15 (dk_at dksX6_pass_2 7 rfl rfl)
theorem dX6_pass_54 : decode cX6_pass 54 = .ok (.bipush 62, 2) := dk_16 62 (dk_at dksX6_pass_2 10 rfl rfl)
theorem dX6_pass_56 : decode cX6_pass 56 = .ok (.iaload, 1) := dk_46 (dk_at dksX6_pass_2 12 rfl rfl)
theorem dX6_pass_57 : decode cX6_pass 57 = .ok (.ireturn, 1) := dk_172 (dk_at dksX6_pass_2 13 rfl rfl)
abbrev cX6_on : ByteArray := prog_23_method_43_code
def yX6_on : MethodName := ⟨RX6, "on", "(II)I"⟩
def dkwX6_on_4 : List UInt8 := [182, 0, 201, 29, 172]
abbrev dktX6_on_4 : List UInt8 := dkwX6_on_4 ++ []
def dkwX6_on_3 : List UInt8 := [16, 10, 100, 6, 182, 0, 89, 167, 0, 12, 42, 28, 16, 20, 100, 8, 182, 0, 89, 62, 42, 3]
abbrev dktX6_on_3 : List UInt8 := dkwX6_on_3 ++ dktX6_on_4
def dkwX6_on_2 : List UInt8 := [162, 0, 15, 42, 3, 182, 0, 197, 87, 132, 3, 1, 167, 255, 242, 28, 16, 20, 162, 0, 15, 42, 28]
abbrev dktX6_on_2 : List UInt8 := dkwX6_on_2 ++ dktX6_on_3
def dkwX6_on_1 : List UInt8 := [27, 3, 16, 20, 184, 0, 85, 154, 0, 6, 16, 254, 172, 42, 3, 182, 0, 194, 3, 62, 29, 27]
abbrev dktX6_on_1 : List UInt8 := dkwX6_on_1 ++ dktX6_on_2
def dkwX6_on_0 : List UInt8 := [42, 28, 16, 10, 100, 182, 0, 101, 154, 0, 16, 42, 28, 16, 20, 100, 182, 0, 101, 154, 0, 5, 2, 172]
abbrev dktX6_on_0 : List UInt8 := dkwX6_on_0 ++ dktX6_on_1
theorem dksX6_on_0 : cX6_on.data.toList.drop 0 = dktX6_on_0 := by decide +kernel
theorem dksX6_on_1 : cX6_on.data.toList.drop 24 = dktX6_on_1 := dk_seg dksX6_on_0 24 rfl rfl
theorem dksX6_on_2 : cX6_on.data.toList.drop 46 = dktX6_on_2 := dk_seg dksX6_on_1 22 rfl rfl
theorem dksX6_on_3 : cX6_on.data.toList.drop 69 = dktX6_on_3 := dk_seg dksX6_on_2 23 rfl rfl
theorem dksX6_on_4 : cX6_on.data.toList.drop 91 = dktX6_on_4 := dk_seg dksX6_on_3 22 rfl rfl
theorem dX6_on_0 : decode cX6_on 0 = .ok (.aload_n 0, 1) := dk_42 (dk_at dksX6_on_0 0 rfl rfl)
theorem dX6_on_1 : decode cX6_on 1 = .ok (.iload_n 2, 1) := dk_28 (dk_at dksX6_on_0 1 rfl rfl)
theorem dX6_on_2 : decode cX6_on 2 = .ok (.bipush 10, 2) := dk_16 10 (dk_at dksX6_on_0 2 rfl rfl)
theorem dX6_on_4 : decode cX6_on 4 = .ok (.isub, 1) := dk_100 (dk_at dksX6_on_0 4 rfl rfl)
theorem dX6_on_5 : decode cX6_on 5 = .ok (.invokevirtual 101, 3) := dk_182 0 101 (dk_at dksX6_on_0 5 rfl rfl)
theorem dX6_on_8 : decode cX6_on 8 = .ok (.ifCond .ne 16, 3) := dk_154 0 16 (dk_at dksX6_on_0 8 rfl rfl)
theorem dX6_on_11 : decode cX6_on 11 = .ok (.aload_n 0, 1) := dk_42 (dk_at dksX6_on_0 11 rfl rfl)
theorem dX6_on_12 : decode cX6_on 12 = .ok (.iload_n 2, 1) := dk_28 (dk_at dksX6_on_0 12 rfl rfl)
theorem dX6_on_13 : decode cX6_on 13 = .ok (.bipush 20, 2) := dk_16 20 (dk_at dksX6_on_0 13 rfl rfl)
theorem dX6_on_15 : decode cX6_on 15 = .ok (.isub, 1) := dk_100 (dk_at dksX6_on_0 15 rfl rfl)
theorem dX6_on_16 : decode cX6_on 16 = .ok (.invokevirtual 101, 3) := dk_182 0 101 (dk_at dksX6_on_0 16 rfl rfl)
theorem dX6_on_19 : decode cX6_on 19 = .ok (.ifCond .ne 5, 3) := dk_154 0 5 (dk_at dksX6_on_0 19 rfl rfl)
theorem dX6_on_22 : decode cX6_on 22 = .ok (.iconst (-1), 1) := dk_2 (dk_at dksX6_on_0 22 rfl rfl)
theorem dX6_on_23 : decode cX6_on 23 = .ok (.ireturn, 1) := dk_172 (dk_at dksX6_on_0 23 rfl rfl)
theorem dX6_on_24 : decode cX6_on 24 = .ok (.iload_n 1, 1) := dk_27 (dk_at dksX6_on_1 0 rfl rfl)
theorem dX6_on_25 : decode cX6_on 25 = .ok (.iconst 0, 1) := dk_3 (dk_at dksX6_on_1 1 rfl rfl)
theorem dX6_on_26 : decode cX6_on 26 = .ok (.bipush 20, 2) := dk_16 20 (dk_at dksX6_on_1 2 rfl rfl)
theorem dX6_on_28 : decode cX6_on 28 = .ok (.invokestatic 85, 3) := dk_184 0 85 (dk_at dksX6_on_1 4 rfl rfl)
theorem dX6_on_31 : decode cX6_on 31 = .ok (.ifCond .ne 6, 3) := dk_154 0 6 (dk_at dksX6_on_1 7 rfl rfl)
theorem dX6_on_34 : decode cX6_on 34 = .ok (.bipush (-2), 2) := dk_16 254 (dk_at dksX6_on_1 10 rfl rfl)
theorem dX6_on_36 : decode cX6_on 36 = .ok (.ireturn, 1) := dk_172 (dk_at dksX6_on_1 12 rfl rfl)
theorem dX6_on_37 : decode cX6_on 37 = .ok (.aload_n 0, 1) := dk_42 (dk_at dksX6_on_1 13 rfl rfl)
theorem dX6_on_38 : decode cX6_on 38 = .ok (.iconst 0, 1) := dk_3 (dk_at dksX6_on_1 14 rfl rfl)
theorem dX6_on_39 : decode cX6_on 39 = .ok (.invokevirtual 194, 3) := dk_182 0 194 (dk_at dksX6_on_1 15 rfl rfl)
theorem dX6_on_42 : decode cX6_on 42 = .ok (.iconst 0, 1) := dk_3 (dk_at dksX6_on_1 18 rfl rfl)
theorem dX6_on_43 : decode cX6_on 43 = .ok (.istore_n 3, 1) := dk_62 (dk_at dksX6_on_1 19 rfl rfl)
theorem dX6_on_44 : decode cX6_on 44 = .ok (.iload_n 3, 1) := dk_29 (dk_at dksX6_on_1 20 rfl rfl)
theorem dX6_on_45 : decode cX6_on 45 = .ok (.iload_n 1, 1) := dk_27 (dk_at dksX6_on_1 21 rfl rfl)
theorem dX6_on_46 : decode cX6_on 46 = .ok (.if_icmp .ge 15, 3) := dk_162 0 15 (dk_at dksX6_on_2 0 rfl rfl)
theorem dX6_on_49 : decode cX6_on 49 = .ok (.aload_n 0, 1) := dk_42 (dk_at dksX6_on_2 3 rfl rfl)
theorem dX6_on_50 : decode cX6_on 50 = .ok (.iconst 0, 1) := dk_3 (dk_at dksX6_on_2 4 rfl rfl)
theorem dX6_on_51 : decode cX6_on 51 = .ok (.invokevirtual 197, 3) := dk_182 0 197 (dk_at dksX6_on_2 5 rfl rfl)
theorem dX6_on_54 : decode cX6_on 54 = .ok (.pop, 1) := dk_87 (dk_at dksX6_on_2 8 rfl rfl)
theorem dX6_on_55 : decode cX6_on 55 = .ok (.iinc 3 1, 3) := dk_132 3 1 (dk_at dksX6_on_2 9 rfl rfl)
theorem dX6_on_58 : decode cX6_on 58 = .ok (.goto (-14), 3) := dk_167 255 242 (dk_at dksX6_on_2 12 rfl rfl)
theorem dX6_on_61 : decode cX6_on 61 = .ok (.iload_n 2, 1) := dk_28 (dk_at dksX6_on_2 15 rfl rfl)
theorem dX6_on_62 : decode cX6_on 62 = .ok (.bipush 20, 2) := dk_16 20 (dk_at dksX6_on_2 16 rfl rfl)
theorem dX6_on_64 : decode cX6_on 64 = .ok (.if_icmp .ge 15, 3) := dk_162 0 15 (dk_at dksX6_on_2 18 rfl rfl)
theorem dX6_on_67 : decode cX6_on 67 = .ok (.aload_n 0, 1) := dk_42 (dk_at dksX6_on_2 21 rfl rfl)
theorem dX6_on_68 : decode cX6_on 68 = .ok (.iload_n 2, 1) := dk_28 (dk_at dksX6_on_2 22 rfl rfl)
theorem dX6_on_69 : decode cX6_on 69 = .ok (.bipush 10, 2) := dk_16 10 (dk_at dksX6_on_3 0 rfl rfl)
theorem dX6_on_71 : decode cX6_on 71 = .ok (.isub, 1) := dk_100 (dk_at dksX6_on_3 2 rfl rfl)
theorem dX6_on_72 : decode cX6_on 72 = .ok (.iconst 3, 1) := dk_6 (dk_at dksX6_on_3 3 rfl rfl)
theorem dX6_on_73 : decode cX6_on 73 = .ok (.invokevirtual 89, 3) := dk_182 0 89 (dk_at dksX6_on_3 4 rfl rfl)
theorem dX6_on_76 : decode cX6_on 76 = .ok (.goto 12, 3) := dk_167 0 12 (dk_at dksX6_on_3 7 rfl rfl)
theorem dX6_on_79 : decode cX6_on 79 = .ok (.aload_n 0, 1) := dk_42 (dk_at dksX6_on_3 10 rfl rfl)
theorem dX6_on_80 : decode cX6_on 80 = .ok (.iload_n 2, 1) := dk_28 (dk_at dksX6_on_3 11 rfl rfl)
theorem dX6_on_81 : decode cX6_on 81 = .ok (.bipush 20, 2) := dk_16 20 (dk_at dksX6_on_3 12 rfl rfl)
theorem dX6_on_83 : decode cX6_on 83 = .ok (.isub, 1) := dk_100 (dk_at dksX6_on_3 14 rfl rfl)
theorem dX6_on_84 : decode cX6_on 84 = .ok (.iconst 5, 1) := dk_8 (dk_at dksX6_on_3 15 rfl rfl)
theorem dX6_on_85 : decode cX6_on 85 = .ok (.invokevirtual 89, 3) := dk_182 0 89 (dk_at dksX6_on_3 16 rfl rfl)
theorem dX6_on_88 : decode cX6_on 88 = .ok (.istore_n 3, 1) := dk_62 (dk_at dksX6_on_3 19 rfl rfl)
theorem dX6_on_89 : decode cX6_on 89 = .ok (.aload_n 0, 1) := dk_42 (dk_at dksX6_on_3 20 rfl rfl)
theorem dX6_on_90 : decode cX6_on 90 = .ok (.iconst 0, 1) := dk_3 (dk_at dksX6_on_3 21 rfl rfl)
theorem dX6_on_91 : decode cX6_on 91 = .ok (.invokevirtual 201, 3) := dk_182 0 201 (dk_at dksX6_on_4 0 rfl rfl)
theorem dX6_on_94 : decode cX6_on 94 = .ok (.iload_n 3, 1) := dk_29 (dk_at dksX6_on_4 3 rfl rfl)
theorem dX6_on_95 : decode cX6_on 95 = .ok (.ireturn, 1) := dk_172 (dk_at dksX6_on_4 4 rfl rfl)
abbrev cX6_kept : ByteArray := prog_23_method_45_code
def yX6_kept : MethodName := ⟨RX6, "kept", "(II)I"⟩
def dkwX6_kept_7 : List UInt8 := [132, 4, 1, 167, 255, 122, 29, 172]
abbrev dktX6_kept_7 : List UInt8 := dkwX6_kept_7 ++ []
def dkwX6_kept_6 : List UInt8 := [42, 180, 0, 53, 27, 46, 28, 161, 0, 8, 21, 4, 167, 0, 4, 29, 62, 42, 3, 182, 0, 201]
abbrev dktX6_kept_6 : List UInt8 := dkwX6_kept_6 ++ dktX6_kept_7
def dkwX6_kept_5 : List UInt8 := [167, 0, 10, 42, 21, 5, 7, 182, 0, 89, 182, 0, 97, 87, 132, 5, 1, 167, 255, 211, 42, 182, 0, 104]
abbrev dktX6_kept_5 : List UInt8 := dkwX6_kept_5 ++ dktX6_kept_6
def dkwX6_kept_4 : List UInt8 := [16, 60, 46, 162, 0, 39, 42, 21, 5, 7, 21, 4, 21, 5, 122, 4, 126, 4, 160, 0, 7, 4]
abbrev dktX6_kept_4 : List UInt8 := dkwX6_kept_4 ++ dktX6_kept_5
def dkwX6_kept_3 : List UInt8 := [184, 0, 216, 29, 184, 0, 216, 162, 0, 85, 42, 3, 182, 0, 194, 3, 54, 5, 21, 5, 42, 180, 0, 15]
abbrev dktX6_kept_3 : List UInt8 := dkwX6_kept_3 ++ dktX6_kept_4
def dkwX6_kept_2 : List UInt8 := [182, 0, 179, 153, 0, 118, 21, 4, 27, 122, 4, 126, 154, 0, 103, 29, 16, 251, 159, 0, 15, 21, 4]
abbrev dktX6_kept_2 : List UInt8 := dkwX6_kept_2 ++ dktX6_kept_3
def dkwX6_kept_1 : List UInt8 := [16, 251, 62, 3, 54, 4, 21, 4, 4, 42, 180, 0, 15, 16, 60, 46, 120, 162, 0, 126, 42, 27]
abbrev dktX6_kept_1 : List UInt8 := dkwX6_kept_1 ++ dktX6_kept_2
def dkwX6_kept_0 : List UInt8 := [42, 27, 182, 0, 101, 154, 0, 5, 2, 172, 28, 3, 17, 3, 231, 184, 0, 85, 154, 0, 6, 16, 254, 172]
abbrev dktX6_kept_0 : List UInt8 := dkwX6_kept_0 ++ dktX6_kept_1
theorem dksX6_kept_0 : cX6_kept.data.toList.drop 0 = dktX6_kept_0 := by decide +kernel
theorem dksX6_kept_1 : cX6_kept.data.toList.drop 24 = dktX6_kept_1 := dk_seg dksX6_kept_0 24 rfl rfl
theorem dksX6_kept_2 : cX6_kept.data.toList.drop 46 = dktX6_kept_2 := dk_seg dksX6_kept_1 22 rfl rfl
theorem dksX6_kept_3 : cX6_kept.data.toList.drop 69 = dktX6_kept_3 := dk_seg dksX6_kept_2 23 rfl rfl
theorem dksX6_kept_4 : cX6_kept.data.toList.drop 93 = dktX6_kept_4 := dk_seg dksX6_kept_3 24 rfl rfl
theorem dksX6_kept_5 : cX6_kept.data.toList.drop 115 = dktX6_kept_5 := dk_seg dksX6_kept_4 22 rfl rfl
theorem dksX6_kept_6 : cX6_kept.data.toList.drop 139 = dktX6_kept_6 := dk_seg dksX6_kept_5 24 rfl rfl
theorem dksX6_kept_7 : cX6_kept.data.toList.drop 161 = dktX6_kept_7 := dk_seg dksX6_kept_6 22 rfl rfl
theorem dX6_kept_0 : decode cX6_kept 0 = .ok (.aload_n 0, 1) := dk_42 (dk_at dksX6_kept_0 0 rfl rfl)
theorem dX6_kept_1 : decode cX6_kept 1 = .ok (.iload_n 1, 1) := dk_27 (dk_at dksX6_kept_0 1 rfl rfl)
theorem dX6_kept_2 : decode cX6_kept 2 = .ok (.invokevirtual 101, 3) := dk_182 0 101 (dk_at dksX6_kept_0 2 rfl rfl)
theorem dX6_kept_5 : decode cX6_kept 5 = .ok (.ifCond .ne 5, 3) := dk_154 0 5 (dk_at dksX6_kept_0 5 rfl rfl)
theorem dX6_kept_8 : decode cX6_kept 8 = .ok (.iconst (-1), 1) := dk_2 (dk_at dksX6_kept_0 8 rfl rfl)
theorem dX6_kept_9 : decode cX6_kept 9 = .ok (.ireturn, 1) := dk_172 (dk_at dksX6_kept_0 9 rfl rfl)
theorem dX6_kept_10 : decode cX6_kept 10 = .ok (.iload_n 2, 1) := dk_28 (dk_at dksX6_kept_0 10 rfl rfl)
theorem dX6_kept_11 : decode cX6_kept 11 = .ok (.iconst 0, 1) := dk_3 (dk_at dksX6_kept_0 11 rfl rfl)
theorem dX6_kept_12 : decode cX6_kept 12 = .ok (.sipush 999, 3) := dk_17 3 231 (dk_at dksX6_kept_0 12 rfl rfl)
theorem dX6_kept_15 : decode cX6_kept 15 = .ok (.invokestatic 85, 3) := dk_184 0 85 (dk_at dksX6_kept_0 15 rfl rfl)
theorem dX6_kept_18 : decode cX6_kept 18 = .ok (.ifCond .ne 6, 3) := dk_154 0 6 (dk_at dksX6_kept_0 18 rfl rfl)
theorem dX6_kept_21 : decode cX6_kept 21 = .ok (.bipush (-2), 2) := dk_16 254 (dk_at dksX6_kept_0 21 rfl rfl)
theorem dX6_kept_23 : decode cX6_kept 23 = .ok (.ireturn, 1) := dk_172 (dk_at dksX6_kept_0 23 rfl rfl)
theorem dX6_kept_24 : decode cX6_kept 24 = .ok (.bipush (-5), 2) := dk_16 251 (dk_at dksX6_kept_1 0 rfl rfl)
theorem dX6_kept_26 : decode cX6_kept 26 = .ok (.istore_n 3, 1) := dk_62 (dk_at dksX6_kept_1 2 rfl rfl)
theorem dX6_kept_27 : decode cX6_kept 27 = .ok (.iconst 0, 1) := dk_3 (dk_at dksX6_kept_1 3 rfl rfl)
theorem dX6_kept_28 : decode cX6_kept 28 = .ok (.istore 4, 2) := dk_54 4 (dk_at dksX6_kept_1 4 rfl rfl)
theorem dX6_kept_30 : decode cX6_kept 30 = .ok (.iload 4, 2) := dk_21 4 (dk_at dksX6_kept_1 6 rfl rfl)
theorem dX6_kept_32 : decode cX6_kept 32 = .ok (.iconst 1, 1) := dk_4 (dk_at dksX6_kept_1 8 rfl rfl)
theorem dX6_kept_33 : decode cX6_kept 33 = .ok (.aload_n 0, 1) := dk_42 (dk_at dksX6_kept_1 9 rfl rfl)
theorem dX6_kept_34 : decode cX6_kept 34 = .ok (.getfield 15, 3) := dk_180 0 15 (dk_at dksX6_kept_1 10 rfl rfl)
theorem dX6_kept_37 : decode cX6_kept 37 = .ok (.bipush 60, 2) := dk_16 60 (dk_at dksX6_kept_1 13 rfl rfl)
theorem dX6_kept_39 : decode cX6_kept 39 = .ok (.iaload, 1) := dk_46 (dk_at dksX6_kept_1 15 rfl rfl)
theorem dX6_kept_40 : decode cX6_kept 40 = .ok (.ishl, 1) := dk_120 (dk_at dksX6_kept_1 16 rfl rfl)
theorem dX6_kept_41 : decode cX6_kept 41 = .ok (.if_icmp .ge 126, 3) := dk_162 0 126 (dk_at dksX6_kept_1 17 rfl rfl)
theorem dX6_kept_44 : decode cX6_kept 44 = .ok (.aload_n 0, 1) := dk_42 (dk_at dksX6_kept_1 20 rfl rfl)
theorem dX6_kept_45 : decode cX6_kept 45 = .ok (.iload_n 1, 1) := dk_27 (dk_at dksX6_kept_1 21 rfl rfl)
theorem dX6_kept_46 : decode cX6_kept 46 = .ok (.invokevirtual 179, 3) := dk_182 0 179 (dk_at dksX6_kept_2 0 rfl rfl)
theorem dX6_kept_49 : decode cX6_kept 49 = .ok (.ifCond .eq 118, 3) := dk_153 0 118 (dk_at dksX6_kept_2 3 rfl rfl)
theorem dX6_kept_52 : decode cX6_kept 52 = .ok (.iload 4, 2) := dk_21 4 (dk_at dksX6_kept_2 6 rfl rfl)
theorem dX6_kept_54 : decode cX6_kept 54 = .ok (.iload_n 1, 1) := dk_27 (dk_at dksX6_kept_2 8 rfl rfl)
theorem dX6_kept_55 : decode cX6_kept 55 = .ok (.ishr, 1) := dk_122 (dk_at dksX6_kept_2 9 rfl rfl)
theorem dX6_kept_56 : decode cX6_kept 56 = .ok (.iconst 1, 1) := dk_4 (dk_at dksX6_kept_2 10 rfl rfl)
theorem dX6_kept_57 : decode cX6_kept 57 = .ok (.iand, 1) := dk_126 (dk_at dksX6_kept_2 11 rfl rfl)
theorem dX6_kept_58 : decode cX6_kept 58 = .ok (.ifCond .ne 103, 3) := dk_154 0 103 (dk_at dksX6_kept_2 12 rfl rfl)
theorem dX6_kept_61 : decode cX6_kept 61 = .ok (.iload_n 3, 1) := dk_29 (dk_at dksX6_kept_2 15 rfl rfl)
theorem dX6_kept_62 : decode cX6_kept 62 = .ok (.bipush (-5), 2) := dk_16 251 (dk_at dksX6_kept_2 16 rfl rfl)
theorem dX6_kept_64 : decode cX6_kept 64 = .ok (.if_icmp .eq 15, 3) := dk_159 0 15 (dk_at dksX6_kept_2 18 rfl rfl)
theorem dX6_kept_67 : decode cX6_kept 67 = .ok (.iload 4, 2) := dk_21 4 (dk_at dksX6_kept_2 21 rfl rfl)
theorem dX6_kept_69 : decode cX6_kept 69 = .ok (.invokestatic 216, 3) := dk_184 0 216 (dk_at dksX6_kept_3 0 rfl rfl)
theorem dX6_kept_72 : decode cX6_kept 72 = .ok (.iload_n 3, 1) := dk_29 (dk_at dksX6_kept_3 3 rfl rfl)
theorem dX6_kept_73 : decode cX6_kept 73 = .ok (.invokestatic 216, 3) := dk_184 0 216 (dk_at dksX6_kept_3 4 rfl rfl)
theorem dX6_kept_76 : decode cX6_kept 76 = .ok (.if_icmp .ge 85, 3) := dk_162 0 85 (dk_at dksX6_kept_3 7 rfl rfl)
theorem dX6_kept_79 : decode cX6_kept 79 = .ok (.aload_n 0, 1) := dk_42 (dk_at dksX6_kept_3 10 rfl rfl)
theorem dX6_kept_80 : decode cX6_kept 80 = .ok (.iconst 0, 1) := dk_3 (dk_at dksX6_kept_3 11 rfl rfl)
theorem dX6_kept_81 : decode cX6_kept 81 = .ok (.invokevirtual 194, 3) := dk_182 0 194 (dk_at dksX6_kept_3 12 rfl rfl)
theorem dX6_kept_84 : decode cX6_kept 84 = .ok (.iconst 0, 1) := dk_3 (dk_at dksX6_kept_3 15 rfl rfl)
theorem dX6_kept_85 : decode cX6_kept 85 = .ok (.istore 5, 2) := dk_54 5 (dk_at dksX6_kept_3 16 rfl rfl)
theorem dX6_kept_87 : decode cX6_kept 87 = .ok (.iload 5, 2) := dk_21 5 (dk_at dksX6_kept_3 18 rfl rfl)
theorem dX6_kept_89 : decode cX6_kept 89 = .ok (.aload_n 0, 1) := dk_42 (dk_at dksX6_kept_3 20 rfl rfl)
theorem dX6_kept_90 : decode cX6_kept 90 = .ok (.getfield 15, 3) := dk_180 0 15 (dk_at dksX6_kept_3 21 rfl rfl)
theorem dX6_kept_93 : decode cX6_kept 93 = .ok (.bipush 60, 2) := dk_16 60 (dk_at dksX6_kept_4 0 rfl rfl)
theorem dX6_kept_95 : decode cX6_kept 95 = .ok (.iaload, 1) := dk_46 (dk_at dksX6_kept_4 2 rfl rfl)
theorem dX6_kept_96 : decode cX6_kept 96 = .ok (.if_icmp .ge 39, 3) := dk_162 0 39 (dk_at dksX6_kept_4 3 rfl rfl)
theorem dX6_kept_99 : decode cX6_kept 99 = .ok (.aload_n 0, 1) := dk_42 (dk_at dksX6_kept_4 6 rfl rfl)
theorem dX6_kept_100 : decode cX6_kept 100 = .ok (.iload 5, 2) := dk_21 5 (dk_at dksX6_kept_4 7 rfl rfl)
theorem dX6_kept_102 : decode cX6_kept 102 = .ok (.iconst 4, 1) := dk_7 (dk_at dksX6_kept_4 9 rfl rfl)
theorem dX6_kept_103 : decode cX6_kept 103 = .ok (.iload 4, 2) := dk_21 4 (dk_at dksX6_kept_4 10 rfl rfl)
theorem dX6_kept_105 : decode cX6_kept 105 = .ok (.iload 5, 2) := dk_21 5 (dk_at dksX6_kept_4 12 rfl rfl)
theorem dX6_kept_107 : decode cX6_kept 107 = .ok (.ishr, 1) := dk_122 (dk_at dksX6_kept_4 14 rfl rfl)
theorem dX6_kept_108 : decode cX6_kept 108 = .ok (.iconst 1, 1) := dk_4 (dk_at dksX6_kept_4 15 rfl rfl)
theorem dX6_kept_109 : decode cX6_kept 109 = .ok (.iand, 1) := dk_126 (dk_at dksX6_kept_4 16 rfl rfl)
theorem dX6_kept_110 : decode cX6_kept 110 = .ok (.iconst 1, 1) := dk_4 (dk_at dksX6_kept_4 17 rfl rfl)
theorem dX6_kept_111 : decode cX6_kept 111 = .ok (.if_icmp .ne 7, 3) := dk_160 0 7 (dk_at dksX6_kept_4 18 rfl rfl)
theorem dX6_kept_114 : decode cX6_kept 114 = .ok (.iconst 1, 1) := dk_4 (dk_at dksX6_kept_4 21 rfl rfl)
theorem dX6_kept_115 : decode cX6_kept 115 = .ok (.goto 10, 3) := dk_167 0 10 (dk_at dksX6_kept_5 0 rfl rfl)
theorem dX6_kept_118 : decode cX6_kept 118 = .ok (.aload_n 0, 1) := dk_42 (dk_at dksX6_kept_5 3 rfl rfl)
theorem dX6_kept_119 : decode cX6_kept 119 = .ok (.iload 5, 2) := dk_21 5 (dk_at dksX6_kept_5 4 rfl rfl)
theorem dX6_kept_121 : decode cX6_kept 121 = .ok (.iconst 4, 1) := dk_7 (dk_at dksX6_kept_5 6 rfl rfl)
theorem dX6_kept_122 : decode cX6_kept 122 = .ok (.invokevirtual 89, 3) := dk_182 0 89 (dk_at dksX6_kept_5 7 rfl rfl)
theorem dX6_kept_125 : decode cX6_kept 125 = .ok (.invokevirtual 97, 3) := dk_182 0 97 (dk_at dksX6_kept_5 10 rfl rfl)
theorem dX6_kept_128 : decode cX6_kept 128 = .ok (.pop, 1) := dk_87 (dk_at dksX6_kept_5 13 rfl rfl)
theorem dX6_kept_129 : decode cX6_kept 129 = .ok (.iinc 5 1, 3) := dk_132 5 1 (dk_at dksX6_kept_5 14 rfl rfl)
theorem dX6_kept_132 : decode cX6_kept 132 = .ok (.goto (-45), 3) := dk_167 255 211 (dk_at dksX6_kept_5 17 rfl rfl)
theorem dX6_kept_135 : decode cX6_kept 135 = .ok (.aload_n 0, 1) := dk_42 (dk_at dksX6_kept_5 20 rfl rfl)
theorem dX6_kept_136 : decode cX6_kept 136 = .ok (.invokevirtual 104, 3) := dk_182 0 104 (dk_at dksX6_kept_5 21 rfl rfl)
theorem dX6_kept_139 : decode cX6_kept 139 = .ok (.aload_n 0, 1) := dk_42 (dk_at dksX6_kept_6 0 rfl rfl)
theorem dX6_kept_140 : decode cX6_kept 140 = .ok (.getfield 53, 3) := dk_180 0 53 (dk_at dksX6_kept_6 1 rfl rfl)
theorem dX6_kept_143 : decode cX6_kept 143 = .ok (.iload_n 1, 1) := dk_27 (dk_at dksX6_kept_6 4 rfl rfl)
theorem dX6_kept_144 : decode cX6_kept 144 = .ok (.iaload, 1) := dk_46 (dk_at dksX6_kept_6 5 rfl rfl)
theorem dX6_kept_145 : decode cX6_kept 145 = .ok (.iload_n 2, 1) := dk_28 (dk_at dksX6_kept_6 6 rfl rfl)
theorem dX6_kept_146 : decode cX6_kept 146 = .ok (.if_icmp .lt 8, 3) := dk_161 0 8 (dk_at dksX6_kept_6 7 rfl rfl)
theorem dX6_kept_149 : decode cX6_kept 149 = .ok (.iload 4, 2) := dk_21 4 (dk_at dksX6_kept_6 10 rfl rfl)
theorem dX6_kept_151 : decode cX6_kept 151 = .ok (.goto 4, 3) := dk_167 0 4 (dk_at dksX6_kept_6 12 rfl rfl)
theorem dX6_kept_154 : decode cX6_kept 154 = .ok (.iload_n 3, 1) := dk_29 (dk_at dksX6_kept_6 15 rfl rfl)
theorem dX6_kept_155 : decode cX6_kept 155 = .ok (.istore_n 3, 1) := dk_62 (dk_at dksX6_kept_6 16 rfl rfl)
theorem dX6_kept_156 : decode cX6_kept 156 = .ok (.aload_n 0, 1) := dk_42 (dk_at dksX6_kept_6 17 rfl rfl)
theorem dX6_kept_157 : decode cX6_kept 157 = .ok (.iconst 0, 1) := dk_3 (dk_at dksX6_kept_6 18 rfl rfl)
theorem dX6_kept_158 : decode cX6_kept 158 = .ok (.invokevirtual 201, 3) := dk_182 0 201 (dk_at dksX6_kept_6 19 rfl rfl)
theorem dX6_kept_161 : decode cX6_kept 161 = .ok (.iinc 4 1, 3) := dk_132 4 1 (dk_at dksX6_kept_7 0 rfl rfl)
theorem dX6_kept_164 : decode cX6_kept 164 = .ok (.goto (-134), 3) := dk_167 255 122 (dk_at dksX6_kept_7 3 rfl rfl)
theorem dX6_kept_167 : decode cX6_kept 167 = .ok (.iload_n 3, 1) := dk_29 (dk_at dksX6_kept_7 6 rfl rfl)
theorem dX6_kept_168 : decode cX6_kept 168 = .ok (.ireturn, 1) := dk_172 (dk_at dksX6_kept_7 7 rfl rfl)
abbrev cX6_many : ByteArray := prog_23_method_44_code
def yX6_many : MethodName := ⟨RX6, "many", "(I)I"⟩
def dkwX6_many_1 : List UInt8 := [27, 172]
abbrev dktX6_many_1 : List UInt8 := dkwX6_many_1 ++ []
def dkwX6_many_0 : List UInt8 := [3, 60, 3, 61, 28, 16, 6, 162, 0, 17, 27, 26, 28, 122, 4, 126, 96, 60, 132, 2, 1, 167, 255, 239]
abbrev dktX6_many_0 : List UInt8 := dkwX6_many_0 ++ dktX6_many_1
theorem dksX6_many_0 : cX6_many.data.toList.drop 0 = dktX6_many_0 := by decide +kernel
theorem dksX6_many_1 : cX6_many.data.toList.drop 24 = dktX6_many_1 := dk_seg dksX6_many_0 24 rfl rfl
theorem dX6_many_0 : decode cX6_many 0 = .ok (.iconst 0, 1) := dk_3 (dk_at dksX6_many_0 0 rfl rfl)
theorem dX6_many_1 : decode cX6_many 1 = .ok (.istore_n 1, 1) := dk_60 (dk_at dksX6_many_0 1 rfl rfl)
theorem dX6_many_2 : decode cX6_many 2 = .ok (.iconst 0, 1) := dk_3 (dk_at dksX6_many_0 2 rfl rfl)
theorem dX6_many_3 : decode cX6_many 3 = .ok (.istore_n 2, 1) := dk_61 (dk_at dksX6_many_0 3 rfl rfl)
theorem dX6_many_4 : decode cX6_many 4 = .ok (.iload_n 2, 1) := dk_28 (dk_at dksX6_many_0 4 rfl rfl)
theorem dX6_many_5 : decode cX6_many 5 = .ok (.bipush 6, 2) := dk_16 6 (dk_at dksX6_many_0 5 rfl rfl)
theorem dX6_many_7 : decode cX6_many 7 = .ok (.if_icmp .ge 17, 3) := dk_162 0 17 (dk_at dksX6_many_0 7 rfl rfl)
theorem dX6_many_10 : decode cX6_many 10 = .ok (.iload_n 1, 1) := dk_27 (dk_at dksX6_many_0 10 rfl rfl)
theorem dX6_many_11 : decode cX6_many 11 = .ok (.iload_n 0, 1) := dk_26 (dk_at dksX6_many_0 11 rfl rfl)
theorem dX6_many_12 : decode cX6_many 12 = .ok (.iload_n 2, 1) := dk_28 (dk_at dksX6_many_0 12 rfl rfl)
theorem dX6_many_13 : decode cX6_many 13 = .ok (.ishr, 1) := dk_122 (dk_at dksX6_many_0 13 rfl rfl)
theorem dX6_many_14 : decode cX6_many 14 = .ok (.iconst 1, 1) := dk_4 (dk_at dksX6_many_0 14 rfl rfl)
theorem dX6_many_15 : decode cX6_many 15 = .ok (.iand, 1) := dk_126 (dk_at dksX6_many_0 15 rfl rfl)
theorem dX6_many_16 : decode cX6_many 16 = .ok (.iadd, 1) := dk_96 (dk_at dksX6_many_0 16 rfl rfl)
theorem dX6_many_17 : decode cX6_many 17 = .ok (.istore_n 1, 1) := dk_60 (dk_at dksX6_many_0 17 rfl rfl)
theorem dX6_many_18 : decode cX6_many 18 = .ok (.iinc 2 1, 3) := dk_132 2 1 (dk_at dksX6_many_0 18 rfl rfl)
theorem dX6_many_21 : decode cX6_many 21 = .ok (.goto (-17), 3) := dk_167 255 239 (dk_at dksX6_many_0 21 rfl rfl)
theorem dX6_many_24 : decode cX6_many 24 = .ok (.iload_n 1, 1) := dk_27 (dk_at dksX6_many_1 0 rfl rfl)
theorem dX6_many_25 : decode cX6_many 25 = .ok (.ireturn, 1) := dk_172 (dk_at dksX6_many_1 1 rfl rfl)
abbrev cX6_see : ByteArray := prog_23_method_46_code
def yX6_see : MethodName := ⟨RX6, "see", "(II)I"⟩
def dkwX6_see_4 : List UInt8 := [180, 0, 15, 16, 64, 46, 172]
abbrev dktX6_see_4 : List UInt8 := dkwX6_see_4 ++ []
def dkwX6_see_3 : List UInt8 := [27, 79, 42, 180, 0, 15, 29, 4, 96, 28, 79, 42, 180, 0, 15, 16, 64, 92, 46, 4, 96, 79, 42]
abbrev dktX6_see_3 : List UInt8 := dkwX6_see_3 ++ dktX6_see_4
def dkwX6_see_2 : List UInt8 := [160, 0, 6, 16, 252, 172, 16, 65, 5, 42, 180, 0, 15, 16, 64, 46, 104, 96, 62, 42, 180, 0, 15, 29]
abbrev dktX6_see_2 : List UInt8 := dkwX6_see_2 ++ dktX6_see_3
def dkwX6_see_1 : List UInt8 := [172, 28, 3, 17, 3, 231, 184, 0, 85, 154, 0, 6, 16, 254, 172, 42, 180, 0, 15, 16, 64, 46, 8]
abbrev dktX6_see_1 : List UInt8 := dkwX6_see_1 ++ dktX6_see_2
def dkwX6_see_0 : List UInt8 := [27, 2, 160, 0, 13, 42, 180, 0, 15, 16, 64, 3, 79, 3, 172, 42, 27, 182, 0, 101, 154, 0, 5, 2]
abbrev dktX6_see_0 : List UInt8 := dkwX6_see_0 ++ dktX6_see_1
theorem dksX6_see_0 : cX6_see.data.toList.drop 0 = dktX6_see_0 := by decide +kernel
theorem dksX6_see_1 : cX6_see.data.toList.drop 24 = dktX6_see_1 := dk_seg dksX6_see_0 24 rfl rfl
theorem dksX6_see_2 : cX6_see.data.toList.drop 47 = dktX6_see_2 := dk_seg dksX6_see_1 23 rfl rfl
theorem dksX6_see_3 : cX6_see.data.toList.drop 71 = dktX6_see_3 := dk_seg dksX6_see_2 24 rfl rfl
theorem dksX6_see_4 : cX6_see.data.toList.drop 94 = dktX6_see_4 := dk_seg dksX6_see_3 23 rfl rfl
theorem dX6_see_0 : decode cX6_see 0 = .ok (.iload_n 1, 1) := dk_27 (dk_at dksX6_see_0 0 rfl rfl)
theorem dX6_see_1 : decode cX6_see 1 = .ok (.iconst (-1), 1) := dk_2 (dk_at dksX6_see_0 1 rfl rfl)
theorem dX6_see_2 : decode cX6_see 2 = .ok (.if_icmp .ne 13, 3) := dk_160 0 13 (dk_at dksX6_see_0 2 rfl rfl)
theorem dX6_see_5 : decode cX6_see 5 = .ok (.aload_n 0, 1) := dk_42 (dk_at dksX6_see_0 5 rfl rfl)
theorem dX6_see_6 : decode cX6_see 6 = .ok (.getfield 15, 3) := dk_180 0 15 (dk_at dksX6_see_0 6 rfl rfl)
theorem dX6_see_9 : decode cX6_see 9 = .ok (.bipush 64, 2) := dk_16 64 (dk_at dksX6_see_0 9 rfl rfl)
theorem dX6_see_11 : decode cX6_see 11 = .ok (.iconst 0, 1) := dk_3 (dk_at dksX6_see_0 11 rfl rfl)
theorem dX6_see_12 : decode cX6_see 12 = .ok (.iastore, 1) := dk_79 (dk_at dksX6_see_0 12 rfl rfl)
theorem dX6_see_13 : decode cX6_see 13 = .ok (.iconst 0, 1) := dk_3 (dk_at dksX6_see_0 13 rfl rfl)
theorem dX6_see_14 : decode cX6_see 14 = .ok (.ireturn, 1) := dk_172 (dk_at dksX6_see_0 14 rfl rfl)
theorem dX6_see_15 : decode cX6_see 15 = .ok (.aload_n 0, 1) := dk_42 (dk_at dksX6_see_0 15 rfl rfl)
theorem dX6_see_16 : decode cX6_see 16 = .ok (.iload_n 1, 1) := dk_27 (dk_at dksX6_see_0 16 rfl rfl)
theorem dX6_see_17 : decode cX6_see 17 = .ok (.invokevirtual 101, 3) := dk_182 0 101 (dk_at dksX6_see_0 17 rfl rfl)
theorem dX6_see_20 : decode cX6_see 20 = .ok (.ifCond .ne 5, 3) := dk_154 0 5 (dk_at dksX6_see_0 20 rfl rfl)
theorem dX6_see_23 : decode cX6_see 23 = .ok (.iconst (-1), 1) := dk_2 (dk_at dksX6_see_0 23 rfl rfl)
theorem dX6_see_24 : decode cX6_see 24 = .ok (.ireturn, 1) := dk_172 (dk_at dksX6_see_1 0 rfl rfl)
theorem dX6_see_25 : decode cX6_see 25 = .ok (.iload_n 2, 1) := dk_28 (dk_at dksX6_see_1 1 rfl rfl)
theorem dX6_see_26 : decode cX6_see 26 = .ok (.iconst 0, 1) := dk_3 (dk_at dksX6_see_1 2 rfl rfl)
theorem dX6_see_27 : decode cX6_see 27 = .ok (.sipush 999, 3) := dk_17 3 231 (dk_at dksX6_see_1 3 rfl rfl)
theorem dX6_see_30 : decode cX6_see 30 = .ok (.invokestatic 85, 3) := dk_184 0 85 (dk_at dksX6_see_1 6 rfl rfl)
theorem dX6_see_33 : decode cX6_see 33 = .ok (.ifCond .ne 6, 3) := dk_154 0 6 (dk_at dksX6_see_1 9 rfl rfl)
theorem dX6_see_36 : decode cX6_see 36 = .ok (.bipush (-2), 2) := dk_16 254 (dk_at dksX6_see_1 12 rfl rfl)
theorem dX6_see_38 : decode cX6_see 38 = .ok (.ireturn, 1) := dk_172 (dk_at dksX6_see_1 14 rfl rfl)
theorem dX6_see_39 : decode cX6_see 39 = .ok (.aload_n 0, 1) := dk_42 (dk_at dksX6_see_1 15 rfl rfl)
theorem dX6_see_40 : decode cX6_see 40 = .ok (.getfield 15, 3) := dk_180 0 15 (dk_at dksX6_see_1 16 rfl rfl)
theorem dX6_see_43 : decode cX6_see 43 = .ok (.bipush 64, 2) := dk_16 64 (dk_at dksX6_see_1 19 rfl rfl)
theorem dX6_see_45 : decode cX6_see 45 = .ok (.iaload, 1) := dk_46 (dk_at dksX6_see_1 21 rfl rfl)
theorem dX6_see_46 : decode cX6_see 46 = .ok (.iconst 5, 1) := dk_8 (dk_at dksX6_see_1 22 rfl rfl)
theorem dX6_see_47 : decode cX6_see 47 = .ok (.if_icmp .ne 6, 3) := dk_160 0 6 (dk_at dksX6_see_2 0 rfl rfl)
theorem dX6_see_50 : decode cX6_see 50 = .ok (.bipush (-4), 2) := dk_16 252 (dk_at dksX6_see_2 3 rfl rfl)
theorem dX6_see_52 : decode cX6_see 52 = .ok (.ireturn, 1) := dk_172 (dk_at dksX6_see_2 5 rfl rfl)
theorem dX6_see_53 : decode cX6_see 53 = .ok (.bipush 65, 2) := dk_16 65 (dk_at dksX6_see_2 6 rfl rfl)
theorem dX6_see_55 : decode cX6_see 55 = .ok (.iconst 2, 1) := dk_5 (dk_at dksX6_see_2 8 rfl rfl)
theorem dX6_see_56 : decode cX6_see 56 = .ok (.aload_n 0, 1) := dk_42 (dk_at dksX6_see_2 9 rfl rfl)
theorem dX6_see_57 : decode cX6_see 57 = .ok (.getfield 15, 3) := dk_180 0 15 (dk_at dksX6_see_2 10 rfl rfl)
theorem dX6_see_60 : decode cX6_see 60 = .ok (.bipush 64, 2) := dk_16 64 (dk_at dksX6_see_2 13 rfl rfl)
theorem dX6_see_62 : decode cX6_see 62 = .ok (.iaload, 1) := dk_46 (dk_at dksX6_see_2 15 rfl rfl)
theorem dX6_see_63 : decode cX6_see 63 = .ok (.imul, 1) := dk_104 (dk_at dksX6_see_2 16 rfl rfl)
theorem dX6_see_64 : decode cX6_see 64 = .ok (.iadd, 1) := dk_96 (dk_at dksX6_see_2 17 rfl rfl)
theorem dX6_see_65 : decode cX6_see 65 = .ok (.istore_n 3, 1) := dk_62 (dk_at dksX6_see_2 18 rfl rfl)
theorem dX6_see_66 : decode cX6_see 66 = .ok (.aload_n 0, 1) := dk_42 (dk_at dksX6_see_2 19 rfl rfl)
theorem dX6_see_67 : decode cX6_see 67 = .ok (.getfield 15, 3) := dk_180 0 15 (dk_at dksX6_see_2 20 rfl rfl)
theorem dX6_see_70 : decode cX6_see 70 = .ok (.iload_n 3, 1) := dk_29 (dk_at dksX6_see_2 23 rfl rfl)
theorem dX6_see_71 : decode cX6_see 71 = .ok (.iload_n 1, 1) := dk_27 (dk_at dksX6_see_3 0 rfl rfl)
theorem dX6_see_72 : decode cX6_see 72 = .ok (.iastore, 1) := dk_79 (dk_at dksX6_see_3 1 rfl rfl)
theorem dX6_see_73 : decode cX6_see 73 = .ok (.aload_n 0, 1) := dk_42 (dk_at dksX6_see_3 2 rfl rfl)
theorem dX6_see_74 : decode cX6_see 74 = .ok (.getfield 15, 3) := dk_180 0 15 (dk_at dksX6_see_3 3 rfl rfl)
theorem dX6_see_77 : decode cX6_see 77 = .ok (.iload_n 3, 1) := dk_29 (dk_at dksX6_see_3 6 rfl rfl)
theorem dX6_see_78 : decode cX6_see 78 = .ok (.iconst 1, 1) := dk_4 (dk_at dksX6_see_3 7 rfl rfl)
theorem dX6_see_79 : decode cX6_see 79 = .ok (.iadd, 1) := dk_96 (dk_at dksX6_see_3 8 rfl rfl)
theorem dX6_see_80 : decode cX6_see 80 = .ok (.iload_n 2, 1) := dk_28 (dk_at dksX6_see_3 9 rfl rfl)
theorem dX6_see_81 : decode cX6_see 81 = .ok (.iastore, 1) := dk_79 (dk_at dksX6_see_3 10 rfl rfl)
theorem dX6_see_82 : decode cX6_see 82 = .ok (.aload_n 0, 1) := dk_42 (dk_at dksX6_see_3 11 rfl rfl)
theorem dX6_see_83 : decode cX6_see 83 = .ok (.getfield 15, 3) := dk_180 0 15 (dk_at dksX6_see_3 12 rfl rfl)
theorem dX6_see_86 : decode cX6_see 86 = .ok (.bipush 64, 2) := dk_16 64 (dk_at dksX6_see_3 15 rfl rfl)
theorem dX6_see_88 : decode cX6_see 88 = .ok (.dup2, 1) := dk_92 (dk_at dksX6_see_3 17 rfl rfl)
theorem dX6_see_89 : decode cX6_see 89 = .ok (.iaload, 1) := dk_46 (dk_at dksX6_see_3 18 rfl rfl)
theorem dX6_see_90 : decode cX6_see 90 = .ok (.iconst 1, 1) := dk_4 (dk_at dksX6_see_3 19 rfl rfl)
theorem dX6_see_91 : decode cX6_see 91 = .ok (.iadd, 1) := dk_96 (dk_at dksX6_see_3 20 rfl rfl)
theorem dX6_see_92 : decode cX6_see 92 = .ok (.iastore, 1) := dk_79 (dk_at dksX6_see_3 21 rfl rfl)
theorem dX6_see_93 : decode cX6_see 93 = .ok (.aload_n 0, 1) := dk_42 (dk_at dksX6_see_3 22 rfl rfl)
theorem dX6_see_94 : decode cX6_see 94 = .ok (.getfield 15, 3) := dk_180 0 15 (dk_at dksX6_see_4 0 rfl rfl)
theorem dX6_see_97 : decode cX6_see 97 = .ok (.bipush 64, 2) := dk_16 64 (dk_at dksX6_see_4 3 rfl rfl)
theorem dX6_see_99 : decode cX6_see 99 = .ok (.iaload, 1) := dk_46 (dk_at dksX6_see_4 5 rfl rfl)
theorem dX6_see_100 : decode cX6_see 100 = .ok (.ireturn, 1) := dk_172 (dk_at dksX6_see_4 6 rfl rfl)
abbrev cX6_can : ByteArray := prog_23_method_49_code
def yX6_can : MethodName := ⟨RX6, "can", "(II)I"⟩
def dkwX6_can_4 : List UInt8 := [27, 4, 29, 182, 0, 97, 87, 28, 154, 0, 8, 21, 4, 167, 0, 5, 21, 5, 172]
abbrev dktX6_can_4 : List UInt8 := dkwX6_can_4 ++ []
def dkwX6_can_3 : List UInt8 := [96, 54, 4, 21, 7, 153, 0, 8, 21, 6, 167, 0, 5, 21, 5, 54, 5, 132, 6, 255, 167, 255, 204, 42]
abbrev dktX6_can_3 : List UInt8 := dkwX6_can_3 ++ dktX6_can_4
def dkwX6_can_2 : List UInt8 := [21, 6, 182, 0, 97, 87, 42, 182, 0, 219, 54, 7, 21, 4, 21, 7, 153, 0, 7, 4, 167, 0, 4, 3]
abbrev dktX6_can_2 : List UInt8 := dkwX6_can_2 ++ dktX6_can_3
def dkwX6_can_1 : List UInt8 := [182, 0, 89, 62, 3, 54, 4, 16, 251, 54, 5, 16, 9, 54, 6, 21, 6, 155, 0, 53, 42, 27, 4]
abbrev dktX6_can_1 : List UInt8 := dkwX6_can_1 ++ dktX6_can_2
def dkwX6_can_0 : List UInt8 := [42, 27, 182, 0, 101, 153, 0, 12, 28, 3, 4, 184, 0, 85, 154, 0, 5, 2, 172, 42, 27, 4]
abbrev dktX6_can_0 : List UInt8 := dkwX6_can_0 ++ dktX6_can_1
theorem dksX6_can_0 : cX6_can.data.toList.drop 0 = dktX6_can_0 := by decide +kernel
theorem dksX6_can_1 : cX6_can.data.toList.drop 22 = dktX6_can_1 := dk_seg dksX6_can_0 22 rfl rfl
theorem dksX6_can_2 : cX6_can.data.toList.drop 45 = dktX6_can_2 := dk_seg dksX6_can_1 23 rfl rfl
theorem dksX6_can_3 : cX6_can.data.toList.drop 69 = dktX6_can_3 := dk_seg dksX6_can_2 24 rfl rfl
theorem dksX6_can_4 : cX6_can.data.toList.drop 93 = dktX6_can_4 := dk_seg dksX6_can_3 24 rfl rfl
theorem dX6_can_0 : decode cX6_can 0 = .ok (.aload_n 0, 1) := dk_42 (dk_at dksX6_can_0 0 rfl rfl)
theorem dX6_can_1 : decode cX6_can 1 = .ok (.iload_n 1, 1) := dk_27 (dk_at dksX6_can_0 1 rfl rfl)
theorem dX6_can_2 : decode cX6_can 2 = .ok (.invokevirtual 101, 3) := dk_182 0 101 (dk_at dksX6_can_0 2 rfl rfl)
theorem dX6_can_5 : decode cX6_can 5 = .ok (.ifCond .eq 12, 3) := dk_153 0 12 (dk_at dksX6_can_0 5 rfl rfl)
theorem dX6_can_8 : decode cX6_can 8 = .ok (.iload_n 2, 1) := dk_28 (dk_at dksX6_can_0 8 rfl rfl)
theorem dX6_can_9 : decode cX6_can 9 = .ok (.iconst 0, 1) := dk_3 (dk_at dksX6_can_0 9 rfl rfl)
theorem dX6_can_10 : decode cX6_can 10 = .ok (.iconst 1, 1) := dk_4 (dk_at dksX6_can_0 10 rfl rfl)
theorem dX6_can_11 : decode cX6_can 11 = .ok (.invokestatic 85, 3) := dk_184 0 85 (dk_at dksX6_can_0 11 rfl rfl)
theorem dX6_can_14 : decode cX6_can 14 = .ok (.ifCond .ne 5, 3) := dk_154 0 5 (dk_at dksX6_can_0 14 rfl rfl)
theorem dX6_can_17 : decode cX6_can 17 = .ok (.iconst (-1), 1) := dk_2 (dk_at dksX6_can_0 17 rfl rfl)
theorem dX6_can_18 : decode cX6_can 18 = .ok (.ireturn, 1) := dk_172 (dk_at dksX6_can_0 18 rfl rfl)
theorem dX6_can_19 : decode cX6_can 19 = .ok (.aload_n 0, 1) := dk_42 (dk_at dksX6_can_0 19 rfl rfl)
theorem dX6_can_20 : decode cX6_can 20 = .ok (.iload_n 1, 1) := dk_27 (dk_at dksX6_can_0 20 rfl rfl)
theorem dX6_can_21 : decode cX6_can 21 = .ok (.iconst 1, 1) := dk_4 (dk_at dksX6_can_0 21 rfl rfl)
theorem dX6_can_22 : decode cX6_can 22 = .ok (.invokevirtual 89, 3) := dk_182 0 89 (dk_at dksX6_can_1 0 rfl rfl)
theorem dX6_can_25 : decode cX6_can 25 = .ok (.istore_n 3, 1) := dk_62 (dk_at dksX6_can_1 3 rfl rfl)
theorem dX6_can_26 : decode cX6_can 26 = .ok (.iconst 0, 1) := dk_3 (dk_at dksX6_can_1 4 rfl rfl)
theorem dX6_can_27 : decode cX6_can 27 = .ok (.istore 4, 2) := dk_54 4 (dk_at dksX6_can_1 5 rfl rfl)
theorem dX6_can_29 : decode cX6_can 29 = .ok (.bipush (-5), 2) := dk_16 251 (dk_at dksX6_can_1 7 rfl rfl)
theorem dX6_can_31 : decode cX6_can 31 = .ok (.istore 5, 2) := dk_54 5 (dk_at dksX6_can_1 9 rfl rfl)
theorem dX6_can_33 : decode cX6_can 33 = .ok (.bipush 9, 2) := dk_16 9 (dk_at dksX6_can_1 11 rfl rfl)
theorem dX6_can_35 : decode cX6_can 35 = .ok (.istore 6, 2) := dk_54 6 (dk_at dksX6_can_1 13 rfl rfl)
theorem dX6_can_37 : decode cX6_can 37 = .ok (.iload 6, 2) := dk_21 6 (dk_at dksX6_can_1 15 rfl rfl)
theorem dX6_can_39 : decode cX6_can 39 = .ok (.ifCond .lt 53, 3) := dk_155 0 53 (dk_at dksX6_can_1 17 rfl rfl)
theorem dX6_can_42 : decode cX6_can 42 = .ok (.aload_n 0, 1) := dk_42 (dk_at dksX6_can_1 20 rfl rfl)
theorem dX6_can_43 : decode cX6_can 43 = .ok (.iload_n 1, 1) := dk_27 (dk_at dksX6_can_1 21 rfl rfl)
theorem dX6_can_44 : decode cX6_can 44 = .ok (.iconst 1, 1) := dk_4 (dk_at dksX6_can_1 22 rfl rfl)
theorem dX6_can_45 : decode cX6_can 45 = .ok (.iload 6, 2) := dk_21 6 (dk_at dksX6_can_2 0 rfl rfl)
theorem dX6_can_47 : decode cX6_can 47 = .ok (.invokevirtual 97, 3) := dk_182 0 97 (dk_at dksX6_can_2 2 rfl rfl)
theorem dX6_can_50 : decode cX6_can 50 = .ok (.pop, 1) := dk_87 (dk_at dksX6_can_2 5 rfl rfl)
theorem dX6_can_51 : decode cX6_can 51 = .ok (.aload_n 0, 1) := dk_42 (dk_at dksX6_can_2 6 rfl rfl)
theorem dX6_can_52 : decode cX6_can 52 = .ok (.invokevirtual 219, 3) := dk_182 0 219 (dk_at dksX6_can_2 7 rfl rfl)
theorem dX6_can_55 : decode cX6_can 55 = .ok (.istore 7, 2) := dk_54 7 (dk_at dksX6_can_2 10 rfl rfl)
theorem dX6_can_57 : decode cX6_can 57 = .ok (.iload 4, 2) := dk_21 4 (dk_at dksX6_can_2 12 rfl rfl)
theorem dX6_can_59 : decode cX6_can 59 = .ok (.iload 7, 2) := dk_21 7 (dk_at dksX6_can_2 14 rfl rfl)
theorem dX6_can_61 : decode cX6_can 61 = .ok (.ifCond .eq 7, 3) := dk_153 0 7 (dk_at dksX6_can_2 16 rfl rfl)
theorem dX6_can_64 : decode cX6_can 64 = .ok (.iconst 1, 1) := dk_4 (dk_at dksX6_can_2 19 rfl rfl)
theorem dX6_can_65 : decode cX6_can 65 = .ok (.goto 4, 3) := dk_167 0 4 (dk_at dksX6_can_2 20 rfl rfl)
theorem dX6_can_68 : decode cX6_can 68 = .ok (.iconst 0, 1) := dk_3 (dk_at dksX6_can_2 23 rfl rfl)
theorem dX6_can_69 : decode cX6_can 69 = .ok (.iadd, 1) := dk_96 (dk_at dksX6_can_3 0 rfl rfl)
theorem dX6_can_70 : decode cX6_can 70 = .ok (.istore 4, 2) := dk_54 4 (dk_at dksX6_can_3 1 rfl rfl)
theorem dX6_can_72 : decode cX6_can 72 = .ok (.iload 7, 2) := dk_21 7 (dk_at dksX6_can_3 3 rfl rfl)
theorem dX6_can_74 : decode cX6_can 74 = .ok (.ifCond .eq 8, 3) := dk_153 0 8 (dk_at dksX6_can_3 5 rfl rfl)
theorem dX6_can_77 : decode cX6_can 77 = .ok (.iload 6, 2) := dk_21 6 (dk_at dksX6_can_3 8 rfl rfl)
theorem dX6_can_79 : decode cX6_can 79 = .ok (.goto 5, 3) := dk_167 0 5 (dk_at dksX6_can_3 10 rfl rfl)
theorem dX6_can_82 : decode cX6_can 82 = .ok (.iload 5, 2) := dk_21 5 (dk_at dksX6_can_3 13 rfl rfl)
theorem dX6_can_84 : decode cX6_can 84 = .ok (.istore 5, 2) := dk_54 5 (dk_at dksX6_can_3 15 rfl rfl)
theorem dX6_can_86 : decode cX6_can 86 = .ok (.iinc 6 (-1), 3) := dk_132 6 255 (dk_at dksX6_can_3 17 rfl rfl)
theorem dX6_can_89 : decode cX6_can 89 = .ok (.goto (-52), 3) := dk_167 255 204 (dk_at dksX6_can_3 20 rfl rfl)
theorem dX6_can_92 : decode cX6_can 92 = .ok (.aload_n 0, 1) := dk_42 (dk_at dksX6_can_3 23 rfl rfl)
theorem dX6_can_93 : decode cX6_can 93 = .ok (.iload_n 1, 1) := dk_27 (dk_at dksX6_can_4 0 rfl rfl)
theorem dX6_can_94 : decode cX6_can 94 = .ok (.iconst 1, 1) := dk_4 (dk_at dksX6_can_4 1 rfl rfl)
theorem dX6_can_95 : decode cX6_can 95 = .ok (.iload_n 3, 1) := dk_29 (dk_at dksX6_can_4 2 rfl rfl)
theorem dX6_can_96 : decode cX6_can 96 = .ok (.invokevirtual 97, 3) := dk_182 0 97 (dk_at dksX6_can_4 3 rfl rfl)
theorem dX6_can_99 : decode cX6_can 99 = .ok (.pop, 1) := dk_87 (dk_at dksX6_can_4 6 rfl rfl)
theorem dX6_can_100 : decode cX6_can 100 = .ok (.iload_n 2, 1) := dk_28 (dk_at dksX6_can_4 7 rfl rfl)
theorem dX6_can_101 : decode cX6_can 101 = .ok (.ifCond .ne 8, 3) := dk_154 0 8 (dk_at dksX6_can_4 8 rfl rfl)
theorem dX6_can_104 : decode cX6_can 104 = .ok (.iload 4, 2) := dk_21 4 (dk_at dksX6_can_4 11 rfl rfl)
theorem dX6_can_106 : decode cX6_can 106 = .ok (.goto 5, 3) := dk_167 0 5 (dk_at dksX6_can_4 13 rfl rfl)
theorem dX6_can_109 : decode cX6_can 109 = .ok (.iload 5, 2) := dk_21 5 (dk_at dksX6_can_4 16 rfl rfl)
theorem dX6_can_111 : decode cX6_can 111 = .ok (.ireturn, 1) := dk_172 (dk_at dksX6_can_4 18 rfl rfl)
abbrev cX6_odds : ByteArray := prog_23_method_51_code
def yX6_odds : MethodName := ⟨RX6, "odds", "(II)J"⟩
def dkwX6_odds_6 : List UInt8 := [21, 4, 133, 28, 184, 0, 224, 173]
abbrev dktX6_odds_6 : List UInt8 := dkwX6_odds_6 ++ []
def dkwX6_odds_5 : List UInt8 := [182, 0, 97, 87, 132, 6, 1, 167, 255, 181, 21, 4, 154, 0, 9, 20, 0, 222, 167, 0, 13, 21, 5, 133]
abbrev dktX6_odds_5 : List UInt8 := dkwX6_odds_5 ++ dktX6_odds_6
def dkwX6_odds_4 : List UInt8 := [42, 180, 0, 53, 27, 46, 29, 164, 0, 7, 4, 167, 0, 4, 3, 96, 54, 5, 42, 21, 6, 7, 3]
abbrev dktX6_odds_4 : List UInt8 := dkwX6_odds_4 ++ dktX6_odds_5
def dkwX6_odds_3 : List UInt8 := [182, 0, 179, 153, 0, 48, 132, 4, 1, 42, 21, 6, 7, 4, 182, 0, 97, 87, 42, 182, 0, 104, 21, 5]
abbrev dktX6_odds_3 : List UInt8 := dkwX6_odds_3 ++ dktX6_odds_4
def dkwX6_odds_2 : List UInt8 := [3, 54, 6, 21, 6, 42, 180, 0, 15, 16, 60, 46, 162, 0, 69, 21, 6, 27, 159, 0, 57, 42, 21, 6]
abbrev dktX6_odds_2 : List UInt8 := dkwX6_odds_2 ++ dktX6_odds_3
def dkwX6_odds_1 : List UInt8 := [154, 0, 7, 20, 0, 222, 173, 42, 182, 0, 104, 42, 180, 0, 53, 27, 46, 62, 3, 54, 4, 3, 54, 5]
abbrev dktX6_odds_1 : List UInt8 := dkwX6_odds_1 ++ dktX6_odds_2
def dkwX6_odds_0 : List UInt8 := [42, 27, 182, 0, 101, 153, 0, 20, 28, 3, 4, 184, 0, 85, 153, 0, 11, 42, 27, 182, 0, 179]
abbrev dktX6_odds_0 : List UInt8 := dkwX6_odds_0 ++ dktX6_odds_1
theorem dksX6_odds_0 : cX6_odds.data.toList.drop 0 = dktX6_odds_0 := by decide +kernel
theorem dksX6_odds_1 : cX6_odds.data.toList.drop 22 = dktX6_odds_1 := dk_seg dksX6_odds_0 22 rfl rfl
theorem dksX6_odds_2 : cX6_odds.data.toList.drop 46 = dktX6_odds_2 := dk_seg dksX6_odds_1 24 rfl rfl
theorem dksX6_odds_3 : cX6_odds.data.toList.drop 70 = dktX6_odds_3 := dk_seg dksX6_odds_2 24 rfl rfl
theorem dksX6_odds_4 : cX6_odds.data.toList.drop 94 = dktX6_odds_4 := dk_seg dksX6_odds_3 24 rfl rfl
theorem dksX6_odds_5 : cX6_odds.data.toList.drop 117 = dktX6_odds_5 := dk_seg dksX6_odds_4 23 rfl rfl
theorem dksX6_odds_6 : cX6_odds.data.toList.drop 141 = dktX6_odds_6 := dk_seg dksX6_odds_5 24 rfl rfl
theorem dX6_odds_0 : decode cX6_odds 0 = .ok (.aload_n 0, 1) := dk_42 (dk_at dksX6_odds_0 0 rfl rfl)
theorem dX6_odds_1 : decode cX6_odds 1 = .ok (.iload_n 1, 1) := dk_27 (dk_at dksX6_odds_0 1 rfl rfl)
theorem dX6_odds_2 : decode cX6_odds 2 = .ok (.invokevirtual 101, 3) := dk_182 0 101 (dk_at dksX6_odds_0 2 rfl rfl)
theorem dX6_odds_5 : decode cX6_odds 5 = .ok (.ifCond .eq 20, 3) := dk_153 0 20 (dk_at dksX6_odds_0 5 rfl rfl)
theorem dX6_odds_8 : decode cX6_odds 8 = .ok (.iload_n 2, 1) := dk_28 (dk_at dksX6_odds_0 8 rfl rfl)
theorem dX6_odds_9 : decode cX6_odds 9 = .ok (.iconst 0, 1) := dk_3 (dk_at dksX6_odds_0 9 rfl rfl)
theorem dX6_odds_10 : decode cX6_odds 10 = .ok (.iconst 1, 1) := dk_4 (dk_at dksX6_odds_0 10 rfl rfl)
theorem dX6_odds_11 : decode cX6_odds 11 = .ok (.invokestatic 85, 3) := dk_184 0 85 (dk_at dksX6_odds_0 11 rfl rfl)
theorem dX6_odds_14 : decode cX6_odds 14 = .ok (.ifCond .eq 11, 3) := dk_153 0 11 (dk_at dksX6_odds_0 14 rfl rfl)
theorem dX6_odds_17 : decode cX6_odds 17 = .ok (.aload_n 0, 1) := dk_42 (dk_at dksX6_odds_0 17 rfl rfl)
theorem dX6_odds_18 : decode cX6_odds 18 = .ok (.iload_n 1, 1) := dk_27 (dk_at dksX6_odds_0 18 rfl rfl)
theorem dX6_odds_19 : decode cX6_odds 19 = .ok (.invokevirtual 179, 3) := dk_182 0 179 (dk_at dksX6_odds_0 19 rfl rfl)
theorem dX6_odds_22 : decode cX6_odds 22 = .ok (.ifCond .ne 7, 3) := dk_154 0 7 (dk_at dksX6_odds_1 0 rfl rfl)
theorem dX6_odds_25 : decode cX6_odds 25 = .ok (.ldc2_w 222, 3) := dk_20 0 222 (dk_at dksX6_odds_1 3 rfl rfl)
theorem dX6_odds_28 : decode cX6_odds 28 = .ok (.lreturn, 1) := dk_173 (dk_at dksX6_odds_1 6 rfl rfl)
theorem dX6_odds_29 : decode cX6_odds 29 = .ok (.aload_n 0, 1) := dk_42 (dk_at dksX6_odds_1 7 rfl rfl)
theorem dX6_odds_30 : decode cX6_odds 30 = .ok (.invokevirtual 104, 3) := dk_182 0 104 (dk_at dksX6_odds_1 8 rfl rfl)
theorem dX6_odds_33 : decode cX6_odds 33 = .ok (.aload_n 0, 1) := dk_42 (dk_at dksX6_odds_1 11 rfl rfl)
theorem dX6_odds_34 : decode cX6_odds 34 = .ok (.getfield 53, 3) := dk_180 0 53 (dk_at dksX6_odds_1 12 rfl rfl)
theorem dX6_odds_37 : decode cX6_odds 37 = .ok (.iload_n 1, 1) := dk_27 (dk_at dksX6_odds_1 15 rfl rfl)
theorem dX6_odds_38 : decode cX6_odds 38 = .ok (.iaload, 1) := dk_46 (dk_at dksX6_odds_1 16 rfl rfl)
theorem dX6_odds_39 : decode cX6_odds 39 = .ok (.istore_n 3, 1) := dk_62 (dk_at dksX6_odds_1 17 rfl rfl)
theorem dX6_odds_40 : decode cX6_odds 40 = .ok (.iconst 0, 1) := dk_3 (dk_at dksX6_odds_1 18 rfl rfl)
theorem dX6_odds_41 : decode cX6_odds 41 = .ok (.istore 4, 2) := dk_54 4 (dk_at dksX6_odds_1 19 rfl rfl)
theorem dX6_odds_43 : decode cX6_odds 43 = .ok (.iconst 0, 1) := dk_3 (dk_at dksX6_odds_1 21 rfl rfl)
theorem dX6_odds_44 : decode cX6_odds 44 = .ok (.istore 5, 2) := dk_54 5 (dk_at dksX6_odds_1 22 rfl rfl)
theorem dX6_odds_46 : decode cX6_odds 46 = .ok (.iconst 0, 1) := dk_3 (dk_at dksX6_odds_2 0 rfl rfl)
theorem dX6_odds_47 : decode cX6_odds 47 = .ok (.istore 6, 2) := dk_54 6 (dk_at dksX6_odds_2 1 rfl rfl)
theorem dX6_odds_49 : decode cX6_odds 49 = .ok (.iload 6, 2) := dk_21 6 (dk_at dksX6_odds_2 3 rfl rfl)
theorem dX6_odds_51 : decode cX6_odds 51 = .ok (.aload_n 0, 1) := dk_42 (dk_at dksX6_odds_2 5 rfl rfl)
theorem dX6_odds_52 : decode cX6_odds 52 = .ok (.getfield 15, 3) := dk_180 0 15 (dk_at dksX6_odds_2 6 rfl rfl)
theorem dX6_odds_55 : decode cX6_odds 55 = .ok (.bipush 60, 2) := dk_16 60 (dk_at dksX6_odds_2 9 rfl rfl)
theorem dX6_odds_57 : decode cX6_odds 57 = .ok (.iaload, 1) := dk_46 (dk_at dksX6_odds_2 11 rfl rfl)
theorem dX6_odds_58 : decode cX6_odds 58 = .ok (.if_icmp .ge 69, 3) := dk_162 0 69 (dk_at dksX6_odds_2 12 rfl rfl)
theorem dX6_odds_61 : decode cX6_odds 61 = .ok (.iload 6, 2) := dk_21 6 (dk_at dksX6_odds_2 15 rfl rfl)
theorem dX6_odds_63 : decode cX6_odds 63 = .ok (.iload_n 1, 1) := dk_27 (dk_at dksX6_odds_2 17 rfl rfl)
theorem dX6_odds_64 : decode cX6_odds 64 = .ok (.if_icmp .eq 57, 3) := dk_159 0 57 (dk_at dksX6_odds_2 18 rfl rfl)
theorem dX6_odds_67 : decode cX6_odds 67 = .ok (.aload_n 0, 1) := dk_42 (dk_at dksX6_odds_2 21 rfl rfl)
theorem dX6_odds_68 : decode cX6_odds 68 = .ok (.iload 6, 2) := dk_21 6 (dk_at dksX6_odds_2 22 rfl rfl)
theorem dX6_odds_70 : decode cX6_odds 70 = .ok (.invokevirtual 179, 3) := dk_182 0 179 (dk_at dksX6_odds_3 0 rfl rfl)
theorem dX6_odds_73 : decode cX6_odds 73 = .ok (.ifCond .eq 48, 3) := dk_153 0 48 (dk_at dksX6_odds_3 3 rfl rfl)
theorem dX6_odds_76 : decode cX6_odds 76 = .ok (.iinc 4 1, 3) := dk_132 4 1 (dk_at dksX6_odds_3 6 rfl rfl)
theorem dX6_odds_79 : decode cX6_odds 79 = .ok (.aload_n 0, 1) := dk_42 (dk_at dksX6_odds_3 9 rfl rfl)
theorem dX6_odds_80 : decode cX6_odds 80 = .ok (.iload 6, 2) := dk_21 6 (dk_at dksX6_odds_3 10 rfl rfl)
theorem dX6_odds_82 : decode cX6_odds 82 = .ok (.iconst 4, 1) := dk_7 (dk_at dksX6_odds_3 12 rfl rfl)
theorem dX6_odds_83 : decode cX6_odds 83 = .ok (.iconst 1, 1) := dk_4 (dk_at dksX6_odds_3 13 rfl rfl)
theorem dX6_odds_84 : decode cX6_odds 84 = .ok (.invokevirtual 97, 3) := dk_182 0 97 (dk_at dksX6_odds_3 14 rfl rfl)
theorem dX6_odds_87 : decode cX6_odds 87 = .ok (.pop, 1) := dk_87 (dk_at dksX6_odds_3 17 rfl rfl)
theorem dX6_odds_88 : decode cX6_odds 88 = .ok (.aload_n 0, 1) := dk_42 (dk_at dksX6_odds_3 18 rfl rfl)
theorem dX6_odds_89 : decode cX6_odds 89 = .ok (.invokevirtual 104, 3) := dk_182 0 104 (dk_at dksX6_odds_3 19 rfl rfl)
theorem dX6_odds_92 : decode cX6_odds 92 = .ok (.iload 5, 2) := dk_21 5 (dk_at dksX6_odds_3 22 rfl rfl)
theorem dX6_odds_94 : decode cX6_odds 94 = .ok (.aload_n 0, 1) := dk_42 (dk_at dksX6_odds_4 0 rfl rfl)
theorem dX6_odds_95 : decode cX6_odds 95 = .ok (.getfield 53, 3) := dk_180 0 53 (dk_at dksX6_odds_4 1 rfl rfl)
theorem dX6_odds_98 : decode cX6_odds 98 = .ok (.iload_n 1, 1) := dk_27 (dk_at dksX6_odds_4 4 rfl rfl)
theorem dX6_odds_99 : decode cX6_odds 99 = .ok (.iaload, 1) := dk_46 (dk_at dksX6_odds_4 5 rfl rfl)
theorem dX6_odds_100 : decode cX6_odds 100 = .ok (.iload_n 3, 1) := dk_29 (dk_at dksX6_odds_4 6 rfl rfl)
theorem dX6_odds_101 : decode cX6_odds 101 = .ok (.if_icmp .le 7, 3) := dk_164 0 7 (dk_at dksX6_odds_4 7 rfl rfl)
theorem dX6_odds_104 : decode cX6_odds 104 = .ok (.iconst 1, 1) := dk_4 (dk_at dksX6_odds_4 10 rfl rfl)
theorem dX6_odds_105 : decode cX6_odds 105 = .ok (.goto 4, 3) := dk_167 0 4 (dk_at dksX6_odds_4 11 rfl rfl)
theorem dX6_odds_108 : decode cX6_odds 108 = .ok (.iconst 0, 1) := dk_3 (dk_at dksX6_odds_4 14 rfl rfl)
theorem dX6_odds_109 : decode cX6_odds 109 = .ok (.iadd, 1) := dk_96 (dk_at dksX6_odds_4 15 rfl rfl)
theorem dX6_odds_110 : decode cX6_odds 110 = .ok (.istore 5, 2) := dk_54 5 (dk_at dksX6_odds_4 16 rfl rfl)
theorem dX6_odds_112 : decode cX6_odds 112 = .ok (.aload_n 0, 1) := dk_42 (dk_at dksX6_odds_4 18 rfl rfl)
theorem dX6_odds_113 : decode cX6_odds 113 = .ok (.iload 6, 2) := dk_21 6 (dk_at dksX6_odds_4 19 rfl rfl)
theorem dX6_odds_115 : decode cX6_odds 115 = .ok (.iconst 4, 1) := dk_7 (dk_at dksX6_odds_4 21 rfl rfl)
theorem dX6_odds_116 : decode cX6_odds 116 = .ok (.iconst 0, 1) := dk_3 (dk_at dksX6_odds_4 22 rfl rfl)
theorem dX6_odds_117 : decode cX6_odds 117 = .ok (.invokevirtual 97, 3) := dk_182 0 97 (dk_at dksX6_odds_5 0 rfl rfl)
theorem dX6_odds_120 : decode cX6_odds 120 = .ok (.pop, 1) := dk_87 (dk_at dksX6_odds_5 3 rfl rfl)
theorem dX6_odds_121 : decode cX6_odds 121 = .ok (.iinc 6 1, 3) := dk_132 6 1 (dk_at dksX6_odds_5 4 rfl rfl)
theorem dX6_odds_124 : decode cX6_odds 124 = .ok (.goto (-75), 3) := dk_167 255 181 (dk_at dksX6_odds_5 7 rfl rfl)
theorem dX6_odds_127 : decode cX6_odds 127 = .ok (.iload 4, 2) := dk_21 4 (dk_at dksX6_odds_5 10 rfl rfl)
theorem dX6_odds_129 : decode cX6_odds 129 = .ok (.ifCond .ne 9, 3) := dk_154 0 9 (dk_at dksX6_odds_5 12 rfl rfl)
theorem dX6_odds_132 : decode cX6_odds 132 = .ok (.ldc2_w 222, 3) := dk_20 0 222 (dk_at dksX6_odds_5 15 rfl rfl)
theorem dX6_odds_135 : decode cX6_odds 135 = .ok (.goto 13, 3) := dk_167 0 13 (dk_at dksX6_odds_5 18 rfl rfl)
theorem dX6_odds_138 : decode cX6_odds 138 = .ok (.iload 5, 2) := dk_21 5 (dk_at dksX6_odds_5 21 rfl rfl)
theorem dX6_odds_140 : decode cX6_odds 140 = .ok (.i2l, 1) := dk_133 (dk_at dksX6_odds_5 23 rfl rfl)
theorem dX6_odds_141 : decode cX6_odds 141 = .ok (.iload 4, 2) := dk_21 4 (dk_at dksX6_odds_6 0 rfl rfl)
theorem dX6_odds_143 : decode cX6_odds 143 = .ok (.i2l, 1) := dk_133 (dk_at dksX6_odds_6 2 rfl rfl)
theorem dX6_odds_144 : decode cX6_odds 144 = .ok (.iload_n 2, 1) := dk_28 (dk_at dksX6_odds_6 3 rfl rfl)
theorem dX6_odds_145 : decode cX6_odds 145 = .ok (.invokestatic 224, 3) := dk_184 0 224 (dk_at dksX6_odds_6 4 rfl rfl)
theorem dX6_odds_148 : decode cX6_odds 148 = .ok (.lreturn, 1) := dk_173 (dk_at dksX6_odds_6 7 rfl rfl)
abbrev cX6_fraction : ByteArray := prog_23_method_50_code
def yX6_fraction : MethodName := ⟨RX6, "fraction", "(JJI)J"⟩
def dkwX6_fraction_1 : List UInt8 := [22, 9, 55, 7, 167, 255, 234, 21, 4, 154, 0, 10, 30, 22, 5, 109, 167, 0, 7, 32, 22, 5, 109, 173]
abbrev dktX6_fraction_1 : List UInt8 := dkwX6_fraction_1 ++ []
def dkwX6_fraction_0 : List UInt8 := [30, 55, 5, 32, 55, 7, 22, 7, 9, 148, 153, 0, 21, 22, 5, 22, 7, 113, 55, 9, 22, 7, 55, 5]
abbrev dktX6_fraction_0 : List UInt8 := dkwX6_fraction_0 ++ dktX6_fraction_1
theorem dksX6_fraction_0 : cX6_fraction.data.toList.drop 0 = dktX6_fraction_0 := by decide +kernel
theorem dksX6_fraction_1 : cX6_fraction.data.toList.drop 24 = dktX6_fraction_1 := dk_seg dksX6_fraction_0 24 rfl rfl
theorem dX6_fraction_0 : decode cX6_fraction 0 = .ok (.lload_n 0, 1) := dk_30 (dk_at dksX6_fraction_0 0 rfl rfl)
theorem dX6_fraction_1 : decode cX6_fraction 1 = .ok (.lstore 5, 2) := dk_55 5 (dk_at dksX6_fraction_0 1 rfl rfl)
theorem dX6_fraction_3 : decode cX6_fraction 3 = .ok (.lload_n 2, 1) := dk_32 (dk_at dksX6_fraction_0 3 rfl rfl)
theorem dX6_fraction_4 : decode cX6_fraction 4 = .ok (.lstore 7, 2) := dk_55 7 (dk_at dksX6_fraction_0 4 rfl rfl)
theorem dX6_fraction_6 : decode cX6_fraction 6 = .ok (.lload 7, 2) := dk_22 7 (dk_at dksX6_fraction_0 6 rfl rfl)
theorem dX6_fraction_8 : decode cX6_fraction 8 = .ok (.lconst 0, 1) := dk_9 (dk_at dksX6_fraction_0 8 rfl rfl)
theorem dX6_fraction_9 : decode cX6_fraction 9 = .ok (.lcmp, 1) := dk_148 (dk_at dksX6_fraction_0 9 rfl rfl)
theorem dX6_fraction_10 : decode cX6_fraction 10 = .ok (.ifCond .eq 21, 3) := dk_153 0 21 (dk_at dksX6_fraction_0 10 rfl rfl)
theorem dX6_fraction_13 : decode cX6_fraction 13 = .ok (.lload 5, 2) := dk_22 5 (dk_at dksX6_fraction_0 13 rfl rfl)
theorem dX6_fraction_15 : decode cX6_fraction 15 = .ok (.lload 7, 2) := dk_22 7 (dk_at dksX6_fraction_0 15 rfl rfl)
theorem dX6_fraction_17 : decode cX6_fraction 17 = .ok (.lrem, 1) := dk_113 (dk_at dksX6_fraction_0 17 rfl rfl)
theorem dX6_fraction_18 : decode cX6_fraction 18 = .ok (.lstore 9, 2) := dk_55 9 (dk_at dksX6_fraction_0 18 rfl rfl)
theorem dX6_fraction_20 : decode cX6_fraction 20 = .ok (.lload 7, 2) := dk_22 7 (dk_at dksX6_fraction_0 20 rfl rfl)
theorem dX6_fraction_22 : decode cX6_fraction 22 = .ok (.lstore 5, 2) := dk_55 5 (dk_at dksX6_fraction_0 22 rfl rfl)
theorem dX6_fraction_24 : decode cX6_fraction 24 = .ok (.lload 9, 2) := dk_22 9 (dk_at dksX6_fraction_1 0 rfl rfl)
theorem dX6_fraction_26 : decode cX6_fraction 26 = .ok (.lstore 7, 2) := dk_55 7 (dk_at dksX6_fraction_1 2 rfl rfl)
theorem dX6_fraction_28 : decode cX6_fraction 28 = .ok (.goto (-22), 3) := dk_167 255 234 (dk_at dksX6_fraction_1 4 rfl rfl)
theorem dX6_fraction_31 : decode cX6_fraction 31 = .ok (.iload 4, 2) := dk_21 4 (dk_at dksX6_fraction_1 7 rfl rfl)
theorem dX6_fraction_33 : decode cX6_fraction 33 = .ok (.ifCond .ne 10, 3) := dk_154 0 10 (dk_at dksX6_fraction_1 9 rfl rfl)
theorem dX6_fraction_36 : decode cX6_fraction 36 = .ok (.lload_n 0, 1) := dk_30 (dk_at dksX6_fraction_1 12 rfl rfl)
theorem dX6_fraction_37 : decode cX6_fraction 37 = .ok (.lload 5, 2) := dk_22 5 (dk_at dksX6_fraction_1 13 rfl rfl)
theorem dX6_fraction_39 : decode cX6_fraction 39 = .ok (.ldiv, 1) := dk_109 (dk_at dksX6_fraction_1 15 rfl rfl)
theorem dX6_fraction_40 : decode cX6_fraction 40 = .ok (.goto 7, 3) := dk_167 0 7 (dk_at dksX6_fraction_1 16 rfl rfl)
theorem dX6_fraction_43 : decode cX6_fraction 43 = .ok (.lload_n 2, 1) := dk_32 (dk_at dksX6_fraction_1 19 rfl rfl)
theorem dX6_fraction_44 : decode cX6_fraction 44 = .ok (.lload 5, 2) := dk_22 5 (dk_at dksX6_fraction_1 20 rfl rfl)
theorem dX6_fraction_46 : decode cX6_fraction 46 = .ok (.ldiv, 1) := dk_109 (dk_at dksX6_fraction_1 22 rfl rfl)
theorem dX6_fraction_47 : decode cX6_fraction 47 = .ok (.lreturn, 1) := dk_173 (dk_at dksX6_fraction_1 23 rfl rfl)
abbrev cX6_mean : ByteArray := prog_23_method_52_code
def yX6_mean : MethodName := ⟨RX6, "mean", "(I)J"⟩
def dkwX6_mean_2 : List UInt8 := [20, 0, 222, 173]
abbrev dktX6_mean_2 : List UInt8 := dkwX6_mean_2 ++ []
def dkwX6_mean_1 : List UInt8 := [153, 0, 24, 28, 158, 0, 20, 42, 180, 0, 15, 16, 61, 46, 133, 28, 133, 27, 184, 0, 224, 167, 0, 6]
abbrev dktX6_mean_1 : List UInt8 := dkwX6_mean_1 ++ dktX6_mean_2
def dkwX6_mean_0 : List UInt8 := [42, 180, 0, 15, 16, 60, 46, 42, 182, 0, 204, 184, 0, 216, 100, 61, 27, 3, 4, 184, 0, 85]
abbrev dktX6_mean_0 : List UInt8 := dkwX6_mean_0 ++ dktX6_mean_1
theorem dksX6_mean_0 : cX6_mean.data.toList.drop 0 = dktX6_mean_0 := by decide +kernel
theorem dksX6_mean_1 : cX6_mean.data.toList.drop 22 = dktX6_mean_1 := dk_seg dksX6_mean_0 22 rfl rfl
theorem dksX6_mean_2 : cX6_mean.data.toList.drop 46 = dktX6_mean_2 := dk_seg dksX6_mean_1 24 rfl rfl
theorem dX6_mean_0 : decode cX6_mean 0 = .ok (.aload_n 0, 1) := dk_42 (dk_at dksX6_mean_0 0 rfl rfl)
theorem dX6_mean_1 : decode cX6_mean 1 = .ok (.getfield 15, 3) := dk_180 0 15 (dk_at dksX6_mean_0 1 rfl rfl)
theorem dX6_mean_4 : decode cX6_mean 4 = .ok (.bipush 60, 2) := dk_16 60 (dk_at dksX6_mean_0 4 rfl rfl)
theorem dX6_mean_6 : decode cX6_mean 6 = .ok (.iaload, 1) := dk_46 (dk_at dksX6_mean_0 6 rfl rfl)
theorem dX6_mean_7 : decode cX6_mean 7 = .ok (.aload_n 0, 1) := dk_42 (dk_at dksX6_mean_0 7 rfl rfl)
theorem dX6_mean_8 : decode cX6_mean 8 = .ok (.invokevirtual 204, 3) := dk_182 0 204 (dk_at dksX6_mean_0 8 rfl rfl)
theorem dX6_mean_11 : decode cX6_mean 11 = .ok (.invokestatic 216, 3) := dk_184 0 216 (dk_at dksX6_mean_0 11 rfl rfl)
theorem dX6_mean_14 : decode cX6_mean 14 = .ok (.isub, 1) := dk_100 (dk_at dksX6_mean_0 14 rfl rfl)
theorem dX6_mean_15 : decode cX6_mean 15 = .ok (.istore_n 2, 1) := dk_61 (dk_at dksX6_mean_0 15 rfl rfl)
theorem dX6_mean_16 : decode cX6_mean 16 = .ok (.iload_n 1, 1) := dk_27 (dk_at dksX6_mean_0 16 rfl rfl)
theorem dX6_mean_17 : decode cX6_mean 17 = .ok (.iconst 0, 1) := dk_3 (dk_at dksX6_mean_0 17 rfl rfl)
theorem dX6_mean_18 : decode cX6_mean 18 = .ok (.iconst 1, 1) := dk_4 (dk_at dksX6_mean_0 18 rfl rfl)
theorem dX6_mean_19 : decode cX6_mean 19 = .ok (.invokestatic 85, 3) := dk_184 0 85 (dk_at dksX6_mean_0 19 rfl rfl)
theorem dX6_mean_22 : decode cX6_mean 22 = .ok (.ifCond .eq 24, 3) := dk_153 0 24 (dk_at dksX6_mean_1 0 rfl rfl)
theorem dX6_mean_25 : decode cX6_mean 25 = .ok (.iload_n 2, 1) := dk_28 (dk_at dksX6_mean_1 3 rfl rfl)
theorem dX6_mean_26 : decode cX6_mean 26 = .ok (.ifCond .le 20, 3) := dk_158 0 20 (dk_at dksX6_mean_1 4 rfl rfl)
theorem dX6_mean_29 : decode cX6_mean 29 = .ok (.aload_n 0, 1) := dk_42 (dk_at dksX6_mean_1 7 rfl rfl)
theorem dX6_mean_30 : decode cX6_mean 30 = .ok (.getfield 15, 3) := dk_180 0 15 (dk_at dksX6_mean_1 8 rfl rfl)
theorem dX6_mean_33 : decode cX6_mean 33 = .ok (.bipush 61, 2) := dk_16 61 (dk_at dksX6_mean_1 11 rfl rfl)
theorem dX6_mean_35 : decode cX6_mean 35 = .ok (.iaload, 1) := dk_46 (dk_at dksX6_mean_1 13 rfl rfl)
theorem dX6_mean_36 : decode cX6_mean 36 = .ok (.i2l, 1) := dk_133 (dk_at dksX6_mean_1 14 rfl rfl)
theorem dX6_mean_37 : decode cX6_mean 37 = .ok (.iload_n 2, 1) := dk_28 (dk_at dksX6_mean_1 15 rfl rfl)
theorem dX6_mean_38 : decode cX6_mean 38 = .ok (.i2l, 1) := dk_133 (dk_at dksX6_mean_1 16 rfl rfl)
theorem dX6_mean_39 : decode cX6_mean 39 = .ok (.iload_n 1, 1) := dk_27 (dk_at dksX6_mean_1 17 rfl rfl)
theorem dX6_mean_40 : decode cX6_mean 40 = .ok (.invokestatic 224, 3) := dk_184 0 224 (dk_at dksX6_mean_1 18 rfl rfl)
theorem dX6_mean_43 : decode cX6_mean 43 = .ok (.goto 6, 3) := dk_167 0 6 (dk_at dksX6_mean_1 21 rfl rfl)
theorem dX6_mean_46 : decode cX6_mean 46 = .ok (.ldc2_w 222, 3) := dk_20 0 222 (dk_at dksX6_mean_2 0 rfl rfl)
theorem dX6_mean_49 : decode cX6_mean 49 = .ok (.lreturn, 1) := dk_173 (dk_at dksX6_mean_2 3 rfl rfl)
abbrev cX6_plan : ByteArray := prog_23_method_53_code
def yX6_plan : MethodName := ⟨RX6, "plan", "(II)I"⟩
def dkwX6_plan_4 : List UInt8 := [92, 46, 4, 96, 79, 42, 180, 0, 15, 16, 75, 46, 172]
abbrev dktX6_plan_4 : List UInt8 := dkwX6_plan_4 ++ []
def dkwX6_plan_3 : List UInt8 := [42, 180, 0, 15, 16, 77, 5, 42, 180, 0, 15, 16, 75, 46, 104, 96, 28, 79, 42, 180, 0, 15, 16, 75]
abbrev dktX6_plan_3 : List UInt8 := dkwX6_plan_3 ++ dktX6_plan_4
def dkwX6_plan_2 : List UInt8 := [160, 0, 6, 16, 252, 172, 42, 180, 0, 15, 16, 76, 5, 42, 180, 0, 15, 16, 75, 46, 104, 96, 27, 79]
abbrev dktX6_plan_2 : List UInt8 := dkwX6_plan_2 ++ dktX6_plan_3
def dkwX6_plan_1 : List UInt8 := [27, 158, 0, 13, 42, 28, 182, 0, 101, 154, 0, 5, 2, 172, 42, 180, 0, 15, 16, 75, 46, 16, 8]
abbrev dktX6_plan_1 : List UInt8 := dkwX6_plan_1 ++ dktX6_plan_2
def dkwX6_plan_0 : List UInt8 := [27, 2, 160, 0, 13, 42, 180, 0, 15, 16, 75, 3, 79, 3, 172, 27, 3, 6, 184, 0, 85, 153, 0, 15]
abbrev dktX6_plan_0 : List UInt8 := dkwX6_plan_0 ++ dktX6_plan_1
theorem dksX6_plan_0 : cX6_plan.data.toList.drop 0 = dktX6_plan_0 := by decide +kernel
theorem dksX6_plan_1 : cX6_plan.data.toList.drop 24 = dktX6_plan_1 := dk_seg dksX6_plan_0 24 rfl rfl
theorem dksX6_plan_2 : cX6_plan.data.toList.drop 47 = dktX6_plan_2 := dk_seg dksX6_plan_1 23 rfl rfl
theorem dksX6_plan_3 : cX6_plan.data.toList.drop 71 = dktX6_plan_3 := dk_seg dksX6_plan_2 24 rfl rfl
theorem dksX6_plan_4 : cX6_plan.data.toList.drop 95 = dktX6_plan_4 := dk_seg dksX6_plan_3 24 rfl rfl
theorem dX6_plan_0 : decode cX6_plan 0 = .ok (.iload_n 1, 1) := dk_27 (dk_at dksX6_plan_0 0 rfl rfl)
theorem dX6_plan_1 : decode cX6_plan 1 = .ok (.iconst (-1), 1) := dk_2 (dk_at dksX6_plan_0 1 rfl rfl)
theorem dX6_plan_2 : decode cX6_plan 2 = .ok (.if_icmp .ne 13, 3) := dk_160 0 13 (dk_at dksX6_plan_0 2 rfl rfl)
theorem dX6_plan_5 : decode cX6_plan 5 = .ok (.aload_n 0, 1) := dk_42 (dk_at dksX6_plan_0 5 rfl rfl)
theorem dX6_plan_6 : decode cX6_plan 6 = .ok (.getfield 15, 3) := dk_180 0 15 (dk_at dksX6_plan_0 6 rfl rfl)
theorem dX6_plan_9 : decode cX6_plan 9 = .ok (.bipush 75, 2) := dk_16 75 (dk_at dksX6_plan_0 9 rfl rfl)
theorem dX6_plan_11 : decode cX6_plan 11 = .ok (.iconst 0, 1) := dk_3 (dk_at dksX6_plan_0 11 rfl rfl)
theorem dX6_plan_12 : decode cX6_plan 12 = .ok (.iastore, 1) := dk_79 (dk_at dksX6_plan_0 12 rfl rfl)
theorem dX6_plan_13 : decode cX6_plan 13 = .ok (.iconst 0, 1) := dk_3 (dk_at dksX6_plan_0 13 rfl rfl)
theorem dX6_plan_14 : decode cX6_plan 14 = .ok (.ireturn, 1) := dk_172 (dk_at dksX6_plan_0 14 rfl rfl)
theorem dX6_plan_15 : decode cX6_plan 15 = .ok (.iload_n 1, 1) := dk_27 (dk_at dksX6_plan_0 15 rfl rfl)
theorem dX6_plan_16 : decode cX6_plan 16 = .ok (.iconst 0, 1) := dk_3 (dk_at dksX6_plan_0 16 rfl rfl)
theorem dX6_plan_17 : decode cX6_plan 17 = .ok (.iconst 3, 1) := dk_6 (dk_at dksX6_plan_0 17 rfl rfl)
theorem dX6_plan_18 : decode cX6_plan 18 = .ok (.invokestatic 85, 3) := dk_184 0 85 (dk_at dksX6_plan_0 18 rfl rfl)
theorem dX6_plan_21 : decode cX6_plan 21 = .ok (.ifCond .eq 15, 3) := dk_153 0 15 (dk_at dksX6_plan_0 21 rfl rfl)
theorem dX6_plan_24 : decode cX6_plan 24 = .ok (.iload_n 1, 1) := dk_27 (dk_at dksX6_plan_1 0 rfl rfl)
theorem dX6_plan_25 : decode cX6_plan 25 = .ok (.ifCond .le 13, 3) := dk_158 0 13 (dk_at dksX6_plan_1 1 rfl rfl)
theorem dX6_plan_28 : decode cX6_plan 28 = .ok (.aload_n 0, 1) := dk_42 (dk_at dksX6_plan_1 4 rfl rfl)
theorem dX6_plan_29 : decode cX6_plan 29 = .ok (.iload_n 2, 1) := dk_28 (dk_at dksX6_plan_1 5 rfl rfl)
theorem dX6_plan_30 : decode cX6_plan 30 = .ok (.invokevirtual 101, 3) := dk_182 0 101 (dk_at dksX6_plan_1 6 rfl rfl)
theorem dX6_plan_33 : decode cX6_plan 33 = .ok (.ifCond .ne 5, 3) := dk_154 0 5 (dk_at dksX6_plan_1 9 rfl rfl)
theorem dX6_plan_36 : decode cX6_plan 36 = .ok (.iconst (-1), 1) := dk_2 (dk_at dksX6_plan_1 12 rfl rfl)
theorem dX6_plan_37 : decode cX6_plan 37 = .ok (.ireturn, 1) := dk_172 (dk_at dksX6_plan_1 13 rfl rfl)
theorem dX6_plan_38 : decode cX6_plan 38 = .ok (.aload_n 0, 1) := dk_42 (dk_at dksX6_plan_1 14 rfl rfl)
theorem dX6_plan_39 : decode cX6_plan 39 = .ok (.getfield 15, 3) := dk_180 0 15 (dk_at dksX6_plan_1 15 rfl rfl)
theorem dX6_plan_42 : decode cX6_plan 42 = .ok (.bipush 75, 2) := dk_16 75 (dk_at dksX6_plan_1 18 rfl rfl)
theorem dX6_plan_44 : decode cX6_plan 44 = .ok (.iaload, 1) := dk_46 (dk_at dksX6_plan_1 20 rfl rfl)
theorem dX6_plan_45 : decode cX6_plan 45 = .ok (.bipush 8, 2) := dk_16 8 (dk_at dksX6_plan_1 21 rfl rfl)
theorem dX6_plan_47 : decode cX6_plan 47 = .ok (.if_icmp .ne 6, 3) := dk_160 0 6 (dk_at dksX6_plan_2 0 rfl rfl)
theorem dX6_plan_50 : decode cX6_plan 50 = .ok (.bipush (-4), 2) := dk_16 252 (dk_at dksX6_plan_2 3 rfl rfl)
theorem dX6_plan_52 : decode cX6_plan 52 = .ok (.ireturn, 1) := dk_172 (dk_at dksX6_plan_2 5 rfl rfl)
theorem dX6_plan_53 : decode cX6_plan 53 = .ok (.aload_n 0, 1) := dk_42 (dk_at dksX6_plan_2 6 rfl rfl)
theorem dX6_plan_54 : decode cX6_plan 54 = .ok (.getfield 15, 3) := dk_180 0 15 (dk_at dksX6_plan_2 7 rfl rfl)
theorem dX6_plan_57 : decode cX6_plan 57 = .ok (.bipush 76, 2) := dk_16 76 (dk_at dksX6_plan_2 10 rfl rfl)
theorem dX6_plan_59 : decode cX6_plan 59 = .ok (.iconst 2, 1) := dk_5 (dk_at dksX6_plan_2 12 rfl rfl)
theorem dX6_plan_60 : decode cX6_plan 60 = .ok (.aload_n 0, 1) := dk_42 (dk_at dksX6_plan_2 13 rfl rfl)
theorem dX6_plan_61 : decode cX6_plan 61 = .ok (.getfield 15, 3) := dk_180 0 15 (dk_at dksX6_plan_2 14 rfl rfl)
theorem dX6_plan_64 : decode cX6_plan 64 = .ok (.bipush 75, 2) := dk_16 75 (dk_at dksX6_plan_2 17 rfl rfl)
theorem dX6_plan_66 : decode cX6_plan 66 = .ok (.iaload, 1) := dk_46 (dk_at dksX6_plan_2 19 rfl rfl)
theorem dX6_plan_67 : decode cX6_plan 67 = .ok (.imul, 1) := dk_104 (dk_at dksX6_plan_2 20 rfl rfl)
theorem dX6_plan_68 : decode cX6_plan 68 = .ok (.iadd, 1) := dk_96 (dk_at dksX6_plan_2 21 rfl rfl)
theorem dX6_plan_69 : decode cX6_plan 69 = .ok (.iload_n 1, 1) := dk_27 (dk_at dksX6_plan_2 22 rfl rfl)
theorem dX6_plan_70 : decode cX6_plan 70 = .ok (.iastore, 1) := dk_79 (dk_at dksX6_plan_2 23 rfl rfl)
theorem dX6_plan_71 : decode cX6_plan 71 = .ok (.aload_n 0, 1) := dk_42 (dk_at dksX6_plan_3 0 rfl rfl)
theorem dX6_plan_72 : decode cX6_plan 72 = .ok (.getfield 15, 3) := dk_180 0 15 (dk_at dksX6_plan_3 1 rfl rfl)
theorem dX6_plan_75 : decode cX6_plan 75 = .ok (.bipush 77, 2) := dk_16 77 (dk_at dksX6_plan_3 4 rfl rfl)
theorem dX6_plan_77 : decode cX6_plan 77 = .ok (.iconst 2, 1) := dk_5 (dk_at dksX6_plan_3 6 rfl rfl)
theorem dX6_plan_78 : decode cX6_plan 78 = .ok (.aload_n 0, 1) := dk_42 (dk_at dksX6_plan_3 7 rfl rfl)
theorem dX6_plan_79 : decode cX6_plan 79 = .ok (.getfield 15, 3) := dk_180 0 15 (dk_at dksX6_plan_3 8 rfl rfl)
theorem dX6_plan_82 : decode cX6_plan 82 = .ok (.bipush 75, 2) := dk_16 75 (dk_at dksX6_plan_3 11 rfl rfl)
theorem dX6_plan_84 : decode cX6_plan 84 = .ok (.iaload, 1) := dk_46 (dk_at dksX6_plan_3 13 rfl rfl)
theorem dX6_plan_85 : decode cX6_plan 85 = .ok (.imul, 1) := dk_104 (dk_at dksX6_plan_3 14 rfl rfl)
theorem dX6_plan_86 : decode cX6_plan 86 = .ok (.iadd, 1) := dk_96 (dk_at dksX6_plan_3 15 rfl rfl)
theorem dX6_plan_87 : decode cX6_plan 87 = .ok (.iload_n 2, 1) := dk_28 (dk_at dksX6_plan_3 16 rfl rfl)
theorem dX6_plan_88 : decode cX6_plan 88 = .ok (.iastore, 1) := dk_79 (dk_at dksX6_plan_3 17 rfl rfl)
theorem dX6_plan_89 : decode cX6_plan 89 = .ok (.aload_n 0, 1) := dk_42 (dk_at dksX6_plan_3 18 rfl rfl)
theorem dX6_plan_90 : decode cX6_plan 90 = .ok (.getfield 15, 3) := dk_180 0 15 (dk_at dksX6_plan_3 19 rfl rfl)
theorem dX6_plan_93 : decode cX6_plan 93 = .ok (.bipush 75, 2) := dk_16 75 (dk_at dksX6_plan_3 22 rfl rfl)
theorem dX6_plan_95 : decode cX6_plan 95 = .ok (.dup2, 1) := dk_92 (dk_at dksX6_plan_4 0 rfl rfl)
theorem dX6_plan_96 : decode cX6_plan 96 = .ok (.iaload, 1) := dk_46 (dk_at dksX6_plan_4 1 rfl rfl)
theorem dX6_plan_97 : decode cX6_plan 97 = .ok (.iconst 1, 1) := dk_4 (dk_at dksX6_plan_4 2 rfl rfl)
theorem dX6_plan_98 : decode cX6_plan 98 = .ok (.iadd, 1) := dk_96 (dk_at dksX6_plan_4 3 rfl rfl)
theorem dX6_plan_99 : decode cX6_plan 99 = .ok (.iastore, 1) := dk_79 (dk_at dksX6_plan_4 4 rfl rfl)
theorem dX6_plan_100 : decode cX6_plan 100 = .ok (.aload_n 0, 1) := dk_42 (dk_at dksX6_plan_4 5 rfl rfl)
theorem dX6_plan_101 : decode cX6_plan 101 = .ok (.getfield 15, 3) := dk_180 0 15 (dk_at dksX6_plan_4 6 rfl rfl)
theorem dX6_plan_104 : decode cX6_plan 104 = .ok (.bipush 75, 2) := dk_16 75 (dk_at dksX6_plan_4 9 rfl rfl)
theorem dX6_plan_106 : decode cX6_plan 106 = .ok (.iaload, 1) := dk_46 (dk_at dksX6_plan_4 11 rfl rfl)
theorem dX6_plan_107 : decode cX6_plan 107 = .ok (.ireturn, 1) := dk_172 (dk_at dksX6_plan_4 12 rfl rfl)
abbrev cX6_ends : ByteArray := prog_23_method_54_code
def yX6_ends : MethodName := ⟨RX6, "ends", "(I)I"⟩
def dkwX6_ends_6 : List UInt8 := [167, 255, 225, 42, 3, 182, 0, 201, 28, 172]
abbrev dktX6_ends_6 : List UInt8 := dkwX6_ends_6 ++ []
def dkwX6_ends_5 : List UInt8 := [162, 0, 26, 28, 42, 29, 27, 154, 0, 7, 8, 167, 0, 4, 6, 182, 0, 89, 96, 61, 132, 3, 1]
abbrev dktX6_ends_5 : List UInt8 := dkwX6_ends_5 ++ dktX6_ends_6
def dkwX6_ends_4 : List UInt8 := [182, 0, 97, 87, 132, 2, 1, 167, 255, 176, 3, 61, 3, 62, 29, 42, 180, 0, 15, 16, 60, 46]
abbrev dktX6_ends_4 : List UInt8 := dkwX6_ends_4 ++ dktX6_ends_5
def dkwX6_ends_3 : List UInt8 := [160, 0, 15, 42, 21, 4, 6, 3, 182, 0, 97, 87, 167, 0, 14, 42, 21, 4, 7, 5, 29, 100]
abbrev dktX6_ends_3 : List UInt8 := dkwX6_ends_3 ++ dktX6_ends_4
def dkwX6_ends_2 : List UInt8 := [5, 28, 104, 96, 46, 54, 4, 29, 154, 0, 12, 42, 3, 182, 0, 197, 87, 167, 0, 31, 29, 6]
abbrev dktX6_ends_2 : List UInt8 := dkwX6_ends_2 ++ dktX6_ends_3
def dkwX6_ends_1 : List UInt8 := [16, 75, 46, 162, 0, 75, 42, 180, 0, 15, 16, 76, 5, 28, 104, 96, 46, 62, 42, 180, 0, 15, 16, 77]
abbrev dktX6_ends_1 : List UInt8 := dkwX6_ends_1 ++ dktX6_ends_2
def dkwX6_ends_0 : List UInt8 := [27, 3, 4, 184, 0, 85, 154, 0, 5, 2, 172, 42, 3, 182, 0, 194, 3, 61, 28, 42, 180, 0, 15]
abbrev dktX6_ends_0 : List UInt8 := dkwX6_ends_0 ++ dktX6_ends_1
theorem dksX6_ends_0 : cX6_ends.data.toList.drop 0 = dktX6_ends_0 := by decide +kernel
theorem dksX6_ends_1 : cX6_ends.data.toList.drop 23 = dktX6_ends_1 := dk_seg dksX6_ends_0 23 rfl rfl
theorem dksX6_ends_2 : cX6_ends.data.toList.drop 47 = dktX6_ends_2 := dk_seg dksX6_ends_1 24 rfl rfl
theorem dksX6_ends_3 : cX6_ends.data.toList.drop 69 = dktX6_ends_3 := dk_seg dksX6_ends_2 22 rfl rfl
theorem dksX6_ends_4 : cX6_ends.data.toList.drop 91 = dktX6_ends_4 := dk_seg dksX6_ends_3 22 rfl rfl
theorem dksX6_ends_5 : cX6_ends.data.toList.drop 113 = dktX6_ends_5 := dk_seg dksX6_ends_4 22 rfl rfl
theorem dksX6_ends_6 : cX6_ends.data.toList.drop 136 = dktX6_ends_6 := dk_seg dksX6_ends_5 23 rfl rfl
theorem dX6_ends_0 : decode cX6_ends 0 = .ok (.iload_n 1, 1) := dk_27 (dk_at dksX6_ends_0 0 rfl rfl)
theorem dX6_ends_1 : decode cX6_ends 1 = .ok (.iconst 0, 1) := dk_3 (dk_at dksX6_ends_0 1 rfl rfl)
theorem dX6_ends_2 : decode cX6_ends 2 = .ok (.iconst 1, 1) := dk_4 (dk_at dksX6_ends_0 2 rfl rfl)
theorem dX6_ends_3 : decode cX6_ends 3 = .ok (.invokestatic 85, 3) := dk_184 0 85 (dk_at dksX6_ends_0 3 rfl rfl)
theorem dX6_ends_6 : decode cX6_ends 6 = .ok (.ifCond .ne 5, 3) := dk_154 0 5 (dk_at dksX6_ends_0 6 rfl rfl)
theorem dX6_ends_9 : decode cX6_ends 9 = .ok (.iconst (-1), 1) := dk_2 (dk_at dksX6_ends_0 9 rfl rfl)
theorem dX6_ends_10 : decode cX6_ends 10 = .ok (.ireturn, 1) := dk_172 (dk_at dksX6_ends_0 10 rfl rfl)
theorem dX6_ends_11 : decode cX6_ends 11 = .ok (.aload_n 0, 1) := dk_42 (dk_at dksX6_ends_0 11 rfl rfl)
theorem dX6_ends_12 : decode cX6_ends 12 = .ok (.iconst 0, 1) := dk_3 (dk_at dksX6_ends_0 12 rfl rfl)
theorem dX6_ends_13 : decode cX6_ends 13 = .ok (.invokevirtual 194, 3) := dk_182 0 194 (dk_at dksX6_ends_0 13 rfl rfl)
theorem dX6_ends_16 : decode cX6_ends 16 = .ok (.iconst 0, 1) := dk_3 (dk_at dksX6_ends_0 16 rfl rfl)
theorem dX6_ends_17 : decode cX6_ends 17 = .ok (.istore_n 2, 1) := dk_61 (dk_at dksX6_ends_0 17 rfl rfl)
theorem dX6_ends_18 : decode cX6_ends 18 = .ok (.iload_n 2, 1) := dk_28 (dk_at dksX6_ends_0 18 rfl rfl)
theorem dX6_ends_19 : decode cX6_ends 19 = .ok (.aload_n 0, 1) := dk_42 (dk_at dksX6_ends_0 19 rfl rfl)
theorem dX6_ends_20 : decode cX6_ends 20 = .ok (.getfield 15, 3) := dk_180 0 15 (dk_at dksX6_ends_0 20 rfl rfl)
theorem dX6_ends_23 : decode cX6_ends 23 = .ok (.bipush 75, 2) := dk_16 75 (dk_at dksX6_ends_1 0 rfl rfl)
theorem dX6_ends_25 : decode cX6_ends 25 = .ok (.iaload, 1) := dk_46 (dk_at dksX6_ends_1 2 rfl rfl)
theorem dX6_ends_26 : decode cX6_ends 26 = .ok (.if_icmp .ge 75, 3) := dk_162 0 75 (dk_at dksX6_ends_1 3 rfl rfl)
theorem dX6_ends_29 : decode cX6_ends 29 = .ok (.aload_n 0, 1) := dk_42 (dk_at dksX6_ends_1 6 rfl rfl)
theorem dX6_ends_30 : decode cX6_ends 30 = .ok (.getfield 15, 3) := dk_180 0 15 (dk_at dksX6_ends_1 7 rfl rfl)
theorem dX6_ends_33 : decode cX6_ends 33 = .ok (.bipush 76, 2) := dk_16 76 (dk_at dksX6_ends_1 10 rfl rfl)
theorem dX6_ends_35 : decode cX6_ends 35 = .ok (.iconst 2, 1) := dk_5 (dk_at dksX6_ends_1 12 rfl rfl)
theorem dX6_ends_36 : decode cX6_ends 36 = .ok (.iload_n 2, 1) := dk_28 (dk_at dksX6_ends_1 13 rfl rfl)
theorem dX6_ends_37 : decode cX6_ends 37 = .ok (.imul, 1) := dk_104 (dk_at dksX6_ends_1 14 rfl rfl)
theorem dX6_ends_38 : decode cX6_ends 38 = .ok (.iadd, 1) := dk_96 (dk_at dksX6_ends_1 15 rfl rfl)
theorem dX6_ends_39 : decode cX6_ends 39 = .ok (.iaload, 1) := dk_46 (dk_at dksX6_ends_1 16 rfl rfl)
theorem dX6_ends_40 : decode cX6_ends 40 = .ok (.istore_n 3, 1) := dk_62 (dk_at dksX6_ends_1 17 rfl rfl)
theorem dX6_ends_41 : decode cX6_ends 41 = .ok (.aload_n 0, 1) := dk_42 (dk_at dksX6_ends_1 18 rfl rfl)
theorem dX6_ends_42 : decode cX6_ends 42 = .ok (.getfield 15, 3) := dk_180 0 15 (dk_at dksX6_ends_1 19 rfl rfl)
theorem dX6_ends_45 : decode cX6_ends 45 = .ok (.bipush 77, 2) := dk_16 77 (dk_at dksX6_ends_1 22 rfl rfl)
theorem dX6_ends_47 : decode cX6_ends 47 = .ok (.iconst 2, 1) := dk_5 (dk_at dksX6_ends_2 0 rfl rfl)
theorem dX6_ends_48 : decode cX6_ends 48 = .ok (.iload_n 2, 1) := dk_28 (dk_at dksX6_ends_2 1 rfl rfl)
theorem dX6_ends_49 : decode cX6_ends 49 = .ok (.imul, 1) := dk_104 (dk_at dksX6_ends_2 2 rfl rfl)
theorem dX6_ends_50 : decode cX6_ends 50 = .ok (.iadd, 1) := dk_96 (dk_at dksX6_ends_2 3 rfl rfl)
theorem dX6_ends_51 : decode cX6_ends 51 = .ok (.iaload, 1) := dk_46 (dk_at dksX6_ends_2 4 rfl rfl)
theorem dX6_ends_52 : decode cX6_ends 52 = .ok (.istore 4, 2) := dk_54 4 (dk_at dksX6_ends_2 5 rfl rfl)
theorem dX6_ends_54 : decode cX6_ends 54 = .ok (.iload_n 3, 1) := dk_29 (dk_at dksX6_ends_2 7 rfl rfl)
theorem dX6_ends_55 : decode cX6_ends 55 = .ok (.ifCond .ne 12, 3) := dk_154 0 12 (dk_at dksX6_ends_2 8 rfl rfl)
theorem dX6_ends_58 : decode cX6_ends 58 = .ok (.aload_n 0, 1) := dk_42 (dk_at dksX6_ends_2 11 rfl rfl)
theorem dX6_ends_59 : decode cX6_ends 59 = .ok (.iconst 0, 1) := dk_3 (dk_at dksX6_ends_2 12 rfl rfl)
theorem dX6_ends_60 : decode cX6_ends 60 = .ok (.invokevirtual 197, 3) := dk_182 0 197 (dk_at dksX6_ends_2 13 rfl rfl)
theorem dX6_ends_63 : decode cX6_ends 63 = .ok (.pop, 1) := dk_87 (dk_at dksX6_ends_2 16 rfl rfl)
theorem dX6_ends_64 : decode cX6_ends 64 = .ok (.goto 31, 3) := dk_167 0 31 (dk_at dksX6_ends_2 17 rfl rfl)
theorem dX6_ends_67 : decode cX6_ends 67 = .ok (.iload_n 3, 1) := dk_29 (dk_at dksX6_ends_2 20 rfl rfl)
theorem dX6_ends_68 : decode cX6_ends 68 = .ok (.iconst 3, 1) := dk_6 (dk_at dksX6_ends_2 21 rfl rfl)
theorem dX6_ends_69 : decode cX6_ends 69 = .ok (.if_icmp .ne 15, 3) := dk_160 0 15 (dk_at dksX6_ends_3 0 rfl rfl)
theorem dX6_ends_72 : decode cX6_ends 72 = .ok (.aload_n 0, 1) := dk_42 (dk_at dksX6_ends_3 3 rfl rfl)
theorem dX6_ends_73 : decode cX6_ends 73 = .ok (.iload 4, 2) := dk_21 4 (dk_at dksX6_ends_3 4 rfl rfl)
theorem dX6_ends_75 : decode cX6_ends 75 = .ok (.iconst 3, 1) := dk_6 (dk_at dksX6_ends_3 6 rfl rfl)
theorem dX6_ends_76 : decode cX6_ends 76 = .ok (.iconst 0, 1) := dk_3 (dk_at dksX6_ends_3 7 rfl rfl)
theorem dX6_ends_77 : decode cX6_ends 77 = .ok (.invokevirtual 97, 3) := dk_182 0 97 (dk_at dksX6_ends_3 8 rfl rfl)
theorem dX6_ends_80 : decode cX6_ends 80 = .ok (.pop, 1) := dk_87 (dk_at dksX6_ends_3 11 rfl rfl)
theorem dX6_ends_81 : decode cX6_ends 81 = .ok (.goto 14, 3) := dk_167 0 14 (dk_at dksX6_ends_3 12 rfl rfl)
theorem dX6_ends_84 : decode cX6_ends 84 = .ok (.aload_n 0, 1) := dk_42 (dk_at dksX6_ends_3 15 rfl rfl)
theorem dX6_ends_85 : decode cX6_ends 85 = .ok (.iload 4, 2) := dk_21 4 (dk_at dksX6_ends_3 16 rfl rfl)
theorem dX6_ends_87 : decode cX6_ends 87 = .ok (.iconst 4, 1) := dk_7 (dk_at dksX6_ends_3 18 rfl rfl)
theorem dX6_ends_88 : decode cX6_ends 88 = .ok (.iconst 2, 1) := dk_5 (dk_at dksX6_ends_3 19 rfl rfl)
theorem dX6_ends_89 : decode cX6_ends 89 = .ok (.iload_n 3, 1) := dk_29 (dk_at dksX6_ends_3 20 rfl rfl)
theorem dX6_ends_90 : decode cX6_ends 90 = .ok (.isub, 1) := dk_100 (dk_at dksX6_ends_3 21 rfl rfl)
theorem dX6_ends_91 : decode cX6_ends 91 = .ok (.invokevirtual 97, 3) := dk_182 0 97 (dk_at dksX6_ends_4 0 rfl rfl)
theorem dX6_ends_94 : decode cX6_ends 94 = .ok (.pop, 1) := dk_87 (dk_at dksX6_ends_4 3 rfl rfl)
theorem dX6_ends_95 : decode cX6_ends 95 = .ok (.iinc 2 1, 3) := dk_132 2 1 (dk_at dksX6_ends_4 4 rfl rfl)
theorem dX6_ends_98 : decode cX6_ends 98 = .ok (.goto (-80), 3) := dk_167 255 176 (dk_at dksX6_ends_4 7 rfl rfl)
theorem dX6_ends_101 : decode cX6_ends 101 = .ok (.iconst 0, 1) := dk_3 (dk_at dksX6_ends_4 10 rfl rfl)
theorem dX6_ends_102 : decode cX6_ends 102 = .ok (.istore_n 2, 1) := dk_61 (dk_at dksX6_ends_4 11 rfl rfl)
theorem dX6_ends_103 : decode cX6_ends 103 = .ok (.iconst 0, 1) := dk_3 (dk_at dksX6_ends_4 12 rfl rfl)
theorem dX6_ends_104 : decode cX6_ends 104 = .ok (.istore_n 3, 1) := dk_62 (dk_at dksX6_ends_4 13 rfl rfl)
theorem dX6_ends_105 : decode cX6_ends 105 = .ok (.iload_n 3, 1) := dk_29 (dk_at dksX6_ends_4 14 rfl rfl)
theorem dX6_ends_106 : decode cX6_ends 106 = .ok (.aload_n 0, 1) := dk_42 (dk_at dksX6_ends_4 15 rfl rfl)
theorem dX6_ends_107 : decode cX6_ends 107 = .ok (.getfield 15, 3) := dk_180 0 15 (dk_at dksX6_ends_4 16 rfl rfl)
theorem dX6_ends_110 : decode cX6_ends 110 = .ok (.bipush 60, 2) := dk_16 60 (dk_at dksX6_ends_4 19 rfl rfl)
theorem dX6_ends_112 : decode cX6_ends 112 = .ok (.iaload, 1) := dk_46 (dk_at dksX6_ends_4 21 rfl rfl)
theorem dX6_ends_113 : decode cX6_ends 113 = .ok (.if_icmp .ge 26, 3) := dk_162 0 26 (dk_at dksX6_ends_5 0 rfl rfl)
theorem dX6_ends_116 : decode cX6_ends 116 = .ok (.iload_n 2, 1) := dk_28 (dk_at dksX6_ends_5 3 rfl rfl)
theorem dX6_ends_117 : decode cX6_ends 117 = .ok (.aload_n 0, 1) := dk_42 (dk_at dksX6_ends_5 4 rfl rfl)
theorem dX6_ends_118 : decode cX6_ends 118 = .ok (.iload_n 3, 1) := dk_29 (dk_at dksX6_ends_5 5 rfl rfl)
theorem dX6_ends_119 : decode cX6_ends 119 = .ok (.iload_n 1, 1) := dk_27 (dk_at dksX6_ends_5 6 rfl rfl)
theorem dX6_ends_120 : decode cX6_ends 120 = .ok (.ifCond .ne 7, 3) := dk_154 0 7 (dk_at dksX6_ends_5 7 rfl rfl)
theorem dX6_ends_123 : decode cX6_ends 123 = .ok (.iconst 5, 1) := dk_8 (dk_at dksX6_ends_5 10 rfl rfl)
theorem dX6_ends_124 : decode cX6_ends 124 = .ok (.goto 4, 3) := dk_167 0 4 (dk_at dksX6_ends_5 11 rfl rfl)
theorem dX6_ends_127 : decode cX6_ends 127 = .ok (.iconst 3, 1) := dk_6 (dk_at dksX6_ends_5 14 rfl rfl)
theorem dX6_ends_128 : decode cX6_ends 128 = .ok (.invokevirtual 89, 3) := dk_182 0 89 (dk_at dksX6_ends_5 15 rfl rfl)
theorem dX6_ends_131 : decode cX6_ends 131 = .ok (.iadd, 1) := dk_96 (dk_at dksX6_ends_5 18 rfl rfl)
theorem dX6_ends_132 : decode cX6_ends 132 = .ok (.istore_n 2, 1) := dk_61 (dk_at dksX6_ends_5 19 rfl rfl)
theorem dX6_ends_133 : decode cX6_ends 133 = .ok (.iinc 3 1, 3) := dk_132 3 1 (dk_at dksX6_ends_5 20 rfl rfl)
theorem dX6_ends_136 : decode cX6_ends 136 = .ok (.goto (-31), 3) := dk_167 255 225 (dk_at dksX6_ends_6 0 rfl rfl)
theorem dX6_ends_139 : decode cX6_ends 139 = .ok (.aload_n 0, 1) := dk_42 (dk_at dksX6_ends_6 3 rfl rfl)
theorem dX6_ends_140 : decode cX6_ends 140 = .ok (.iconst 0, 1) := dk_3 (dk_at dksX6_ends_6 4 rfl rfl)
theorem dX6_ends_141 : decode cX6_ends 141 = .ok (.invokevirtual 201, 3) := dk_182 0 201 (dk_at dksX6_ends_6 5 rfl rfl)
theorem dX6_ends_144 : decode cX6_ends 144 = .ok (.iload_n 2, 1) := dk_28 (dk_at dksX6_ends_6 8 rfl rfl)
theorem dX6_ends_145 : decode cX6_ends 145 = .ok (.ireturn, 1) := dk_172 (dk_at dksX6_ends_6 9 rfl rfl)
abbrev cX6_book : ByteArray := prog_23_method_55_code
def yX6_book : MethodName := ⟨RX6, "book", "(II)I"⟩
def dkwX6_book_4 : List UInt8 := [180, 0, 15, 16, 92, 46, 172]
abbrev dktX6_book_4 : List UInt8 := dkwX6_book_4 ++ []
def dkwX6_book_3 : List UInt8 := [42, 180, 0, 15, 16, 92, 46, 104, 96, 28, 79, 42, 180, 0, 15, 16, 92, 92, 46, 4, 96, 79, 42]
abbrev dktX6_book_3 : List UInt8 := dkwX6_book_3 ++ dktX6_book_4
def dkwX6_book_2 : List UInt8 := [180, 0, 15, 16, 93, 5, 42, 180, 0, 15, 16, 92, 46, 104, 96, 27, 79, 42, 180, 0, 15, 16, 94, 5]
abbrev dktX6_book_2 : List UInt8 := dkwX6_book_2 ++ dktX6_book_3
def dkwX6_book_1 : List UInt8 := [184, 0, 93, 154, 0, 5, 2, 172, 42, 180, 0, 15, 16, 92, 46, 16, 8, 160, 0, 6, 16, 252, 172, 42]
abbrev dktX6_book_1 : List UInt8 := dkwX6_book_1 ++ dktX6_book_2
def dkwX6_book_0 : List UInt8 := [27, 2, 160, 0, 13, 42, 180, 0, 15, 16, 92, 3, 79, 3, 172, 42, 27, 182, 0, 101, 153, 0, 10, 28]
abbrev dktX6_book_0 : List UInt8 := dkwX6_book_0 ++ dktX6_book_1
theorem dksX6_book_0 : cX6_book.data.toList.drop 0 = dktX6_book_0 := by decide +kernel
theorem dksX6_book_1 : cX6_book.data.toList.drop 24 = dktX6_book_1 := dk_seg dksX6_book_0 24 rfl rfl
theorem dksX6_book_2 : cX6_book.data.toList.drop 48 = dktX6_book_2 := dk_seg dksX6_book_1 24 rfl rfl
theorem dksX6_book_3 : cX6_book.data.toList.drop 72 = dktX6_book_3 := dk_seg dksX6_book_2 24 rfl rfl
theorem dksX6_book_4 : cX6_book.data.toList.drop 95 = dktX6_book_4 := dk_seg dksX6_book_3 23 rfl rfl
theorem dX6_book_0 : decode cX6_book 0 = .ok (.iload_n 1, 1) := dk_27 (dk_at dksX6_book_0 0 rfl rfl)
theorem dX6_book_1 : decode cX6_book 1 = .ok (.iconst (-1), 1) := dk_2 (dk_at dksX6_book_0 1 rfl rfl)
theorem dX6_book_2 : decode cX6_book 2 = .ok (.if_icmp .ne 13, 3) := dk_160 0 13 (dk_at dksX6_book_0 2 rfl rfl)
theorem dX6_book_5 : decode cX6_book 5 = .ok (.aload_n 0, 1) := dk_42 (dk_at dksX6_book_0 5 rfl rfl)
theorem dX6_book_6 : decode cX6_book 6 = .ok (.getfield 15, 3) := dk_180 0 15 (dk_at dksX6_book_0 6 rfl rfl)
theorem dX6_book_9 : decode cX6_book 9 = .ok (.bipush 92, 2) := dk_16 92 (dk_at dksX6_book_0 9 rfl rfl)
theorem dX6_book_11 : decode cX6_book 11 = .ok (.iconst 0, 1) := dk_3 (dk_at dksX6_book_0 11 rfl rfl)
theorem dX6_book_12 : decode cX6_book 12 = .ok (.iastore, 1) := dk_79 (dk_at dksX6_book_0 12 rfl rfl)
theorem dX6_book_13 : decode cX6_book 13 = .ok (.iconst 0, 1) := dk_3 (dk_at dksX6_book_0 13 rfl rfl)
theorem dX6_book_14 : decode cX6_book 14 = .ok (.ireturn, 1) := dk_172 (dk_at dksX6_book_0 14 rfl rfl)
theorem dX6_book_15 : decode cX6_book 15 = .ok (.aload_n 0, 1) := dk_42 (dk_at dksX6_book_0 15 rfl rfl)
theorem dX6_book_16 : decode cX6_book 16 = .ok (.iload_n 1, 1) := dk_27 (dk_at dksX6_book_0 16 rfl rfl)
theorem dX6_book_17 : decode cX6_book 17 = .ok (.invokevirtual 101, 3) := dk_182 0 101 (dk_at dksX6_book_0 17 rfl rfl)
theorem dX6_book_20 : decode cX6_book 20 = .ok (.ifCond .eq 10, 3) := dk_153 0 10 (dk_at dksX6_book_0 20 rfl rfl)
theorem dX6_book_23 : decode cX6_book 23 = .ok (.iload_n 2, 1) := dk_28 (dk_at dksX6_book_0 23 rfl rfl)
theorem dX6_book_24 : decode cX6_book 24 = .ok (.invokestatic 93, 3) := dk_184 0 93 (dk_at dksX6_book_1 0 rfl rfl)
theorem dX6_book_27 : decode cX6_book 27 = .ok (.ifCond .ne 5, 3) := dk_154 0 5 (dk_at dksX6_book_1 3 rfl rfl)
theorem dX6_book_30 : decode cX6_book 30 = .ok (.iconst (-1), 1) := dk_2 (dk_at dksX6_book_1 6 rfl rfl)
theorem dX6_book_31 : decode cX6_book 31 = .ok (.ireturn, 1) := dk_172 (dk_at dksX6_book_1 7 rfl rfl)
theorem dX6_book_32 : decode cX6_book 32 = .ok (.aload_n 0, 1) := dk_42 (dk_at dksX6_book_1 8 rfl rfl)
theorem dX6_book_33 : decode cX6_book 33 = .ok (.getfield 15, 3) := dk_180 0 15 (dk_at dksX6_book_1 9 rfl rfl)
theorem dX6_book_36 : decode cX6_book 36 = .ok (.bipush 92, 2) := dk_16 92 (dk_at dksX6_book_1 12 rfl rfl)
theorem dX6_book_38 : decode cX6_book 38 = .ok (.iaload, 1) := dk_46 (dk_at dksX6_book_1 14 rfl rfl)
theorem dX6_book_39 : decode cX6_book 39 = .ok (.bipush 8, 2) := dk_16 8 (dk_at dksX6_book_1 15 rfl rfl)
theorem dX6_book_41 : decode cX6_book 41 = .ok (.if_icmp .ne 6, 3) := dk_160 0 6 (dk_at dksX6_book_1 17 rfl rfl)
theorem dX6_book_44 : decode cX6_book 44 = .ok (.bipush (-4), 2) := dk_16 252 (dk_at dksX6_book_1 20 rfl rfl)
theorem dX6_book_46 : decode cX6_book 46 = .ok (.ireturn, 1) := dk_172 (dk_at dksX6_book_1 22 rfl rfl)
theorem dX6_book_47 : decode cX6_book 47 = .ok (.aload_n 0, 1) := dk_42 (dk_at dksX6_book_1 23 rfl rfl)
theorem dX6_book_48 : decode cX6_book 48 = .ok (.getfield 15, 3) := dk_180 0 15 (dk_at dksX6_book_2 0 rfl rfl)
theorem dX6_book_51 : decode cX6_book 51 = .ok (.bipush 93, 2) := dk_16 93 (dk_at dksX6_book_2 3 rfl rfl)
theorem dX6_book_53 : decode cX6_book 53 = .ok (.iconst 2, 1) := dk_5 (dk_at dksX6_book_2 5 rfl rfl)
theorem dX6_book_54 : decode cX6_book 54 = .ok (.aload_n 0, 1) := dk_42 (dk_at dksX6_book_2 6 rfl rfl)
theorem dX6_book_55 : decode cX6_book 55 = .ok (.getfield 15, 3) := dk_180 0 15 (dk_at dksX6_book_2 7 rfl rfl)
theorem dX6_book_58 : decode cX6_book 58 = .ok (.bipush 92, 2) := dk_16 92 (dk_at dksX6_book_2 10 rfl rfl)
theorem dX6_book_60 : decode cX6_book 60 = .ok (.iaload, 1) := dk_46 (dk_at dksX6_book_2 12 rfl rfl)
theorem dX6_book_61 : decode cX6_book 61 = .ok (.imul, 1) := dk_104 (dk_at dksX6_book_2 13 rfl rfl)
theorem dX6_book_62 : decode cX6_book 62 = .ok (.iadd, 1) := dk_96 (dk_at dksX6_book_2 14 rfl rfl)
theorem dX6_book_63 : decode cX6_book 63 = .ok (.iload_n 1, 1) := dk_27 (dk_at dksX6_book_2 15 rfl rfl)
theorem dX6_book_64 : decode cX6_book 64 = .ok (.iastore, 1) := dk_79 (dk_at dksX6_book_2 16 rfl rfl)
theorem dX6_book_65 : decode cX6_book 65 = .ok (.aload_n 0, 1) := dk_42 (dk_at dksX6_book_2 17 rfl rfl)
theorem dX6_book_66 : decode cX6_book 66 = .ok (.getfield 15, 3) := dk_180 0 15 (dk_at dksX6_book_2 18 rfl rfl)
theorem dX6_book_69 : decode cX6_book 69 = .ok (.bipush 94, 2) := dk_16 94 (dk_at dksX6_book_2 21 rfl rfl)
theorem dX6_book_71 : decode cX6_book 71 = .ok (.iconst 2, 1) := dk_5 (dk_at dksX6_book_2 23 rfl rfl)
theorem dX6_book_72 : decode cX6_book 72 = .ok (.aload_n 0, 1) := dk_42 (dk_at dksX6_book_3 0 rfl rfl)
theorem dX6_book_73 : decode cX6_book 73 = .ok (.getfield 15, 3) := dk_180 0 15 (dk_at dksX6_book_3 1 rfl rfl)
theorem dX6_book_76 : decode cX6_book 76 = .ok (.bipush 92, 2) := dk_16 92 (dk_at dksX6_book_3 4 rfl rfl)
theorem dX6_book_78 : decode cX6_book 78 = .ok (.iaload, 1) := dk_46 (dk_at dksX6_book_3 6 rfl rfl)
theorem dX6_book_79 : decode cX6_book 79 = .ok (.imul, 1) := dk_104 (dk_at dksX6_book_3 7 rfl rfl)
theorem dX6_book_80 : decode cX6_book 80 = .ok (.iadd, 1) := dk_96 (dk_at dksX6_book_3 8 rfl rfl)
theorem dX6_book_81 : decode cX6_book 81 = .ok (.iload_n 2, 1) := dk_28 (dk_at dksX6_book_3 9 rfl rfl)
theorem dX6_book_82 : decode cX6_book 82 = .ok (.iastore, 1) := dk_79 (dk_at dksX6_book_3 10 rfl rfl)
theorem dX6_book_83 : decode cX6_book 83 = .ok (.aload_n 0, 1) := dk_42 (dk_at dksX6_book_3 11 rfl rfl)
theorem dX6_book_84 : decode cX6_book 84 = .ok (.getfield 15, 3) := dk_180 0 15 (dk_at dksX6_book_3 12 rfl rfl)
theorem dX6_book_87 : decode cX6_book 87 = .ok (.bipush 92, 2) := dk_16 92 (dk_at dksX6_book_3 15 rfl rfl)
theorem dX6_book_89 : decode cX6_book 89 = .ok (.dup2, 1) := dk_92 (dk_at dksX6_book_3 17 rfl rfl)
theorem dX6_book_90 : decode cX6_book 90 = .ok (.iaload, 1) := dk_46 (dk_at dksX6_book_3 18 rfl rfl)
theorem dX6_book_91 : decode cX6_book 91 = .ok (.iconst 1, 1) := dk_4 (dk_at dksX6_book_3 19 rfl rfl)
theorem dX6_book_92 : decode cX6_book 92 = .ok (.iadd, 1) := dk_96 (dk_at dksX6_book_3 20 rfl rfl)
theorem dX6_book_93 : decode cX6_book 93 = .ok (.iastore, 1) := dk_79 (dk_at dksX6_book_3 21 rfl rfl)
theorem dX6_book_94 : decode cX6_book 94 = .ok (.aload_n 0, 1) := dk_42 (dk_at dksX6_book_3 22 rfl rfl)
theorem dX6_book_95 : decode cX6_book 95 = .ok (.getfield 15, 3) := dk_180 0 15 (dk_at dksX6_book_4 0 rfl rfl)
theorem dX6_book_98 : decode cX6_book 98 = .ok (.bipush 92, 2) := dk_16 92 (dk_at dksX6_book_4 3 rfl rfl)
theorem dX6_book_100 : decode cX6_book 100 = .ok (.iaload, 1) := dk_46 (dk_at dksX6_book_4 5 rfl rfl)
theorem dX6_book_101 : decode cX6_book 101 = .ok (.ireturn, 1) := dk_172 (dk_at dksX6_book_4 6 rfl rfl)
abbrev cX6_looked : ByteArray := prog_23_method_56_code
def yX6_looked : MethodName := ⟨RX6, "looked", "()I"⟩
def dkwX6_looked_2 : List UInt8 := [167, 255, 210, 16, 251, 172]
abbrev dktX6_looked_2 : List UInt8 := dkwX6_looked_2 ++ []
def dkwX6_looked_1 : List UInt8 := [46, 6, 182, 0, 89, 42, 180, 0, 15, 16, 94, 5, 27, 104, 96, 46, 159, 0, 5, 27, 172, 132, 1, 1]
abbrev dktX6_looked_1 : List UInt8 := dkwX6_looked_1 ++ dktX6_looked_2
def dkwX6_looked_0 : List UInt8 := [3, 60, 27, 42, 180, 0, 15, 16, 92, 46, 162, 0, 41, 42, 42, 180, 0, 15, 16, 93, 5, 27, 104, 96]
abbrev dktX6_looked_0 : List UInt8 := dkwX6_looked_0 ++ dktX6_looked_1
theorem dksX6_looked_0 : cX6_looked.data.toList.drop 0 = dktX6_looked_0 := by decide +kernel
theorem dksX6_looked_1 : cX6_looked.data.toList.drop 24 = dktX6_looked_1 := dk_seg dksX6_looked_0 24 rfl rfl
theorem dksX6_looked_2 : cX6_looked.data.toList.drop 48 = dktX6_looked_2 := dk_seg dksX6_looked_1 24 rfl rfl
theorem dX6_looked_0 : decode cX6_looked 0 = .ok (.iconst 0, 1) := dk_3 (dk_at dksX6_looked_0 0 rfl rfl)
theorem dX6_looked_1 : decode cX6_looked 1 = .ok (.istore_n 1, 1) := dk_60 (dk_at dksX6_looked_0 1 rfl rfl)
theorem dX6_looked_2 : decode cX6_looked 2 = .ok (.iload_n 1, 1) := dk_27 (dk_at dksX6_looked_0 2 rfl rfl)
theorem dX6_looked_3 : decode cX6_looked 3 = .ok (.aload_n 0, 1) := dk_42 (dk_at dksX6_looked_0 3 rfl rfl)
theorem dX6_looked_4 : decode cX6_looked 4 = .ok (.getfield 15, 3) := dk_180 0 15 (dk_at dksX6_looked_0 4 rfl rfl)
theorem dX6_looked_7 : decode cX6_looked 7 = .ok (.bipush 92, 2) := dk_16 92 (dk_at dksX6_looked_0 7 rfl rfl)
theorem dX6_looked_9 : decode cX6_looked 9 = .ok (.iaload, 1) := dk_46 (dk_at dksX6_looked_0 9 rfl rfl)
theorem dX6_looked_10 : decode cX6_looked 10 = .ok (.if_icmp .ge 41, 3) := dk_162 0 41 (dk_at dksX6_looked_0 10 rfl rfl)
theorem dX6_looked_13 : decode cX6_looked 13 = .ok (.aload_n 0, 1) := dk_42 (dk_at dksX6_looked_0 13 rfl rfl)
theorem dX6_looked_14 : decode cX6_looked 14 = .ok (.aload_n 0, 1) := dk_42 (dk_at dksX6_looked_0 14 rfl rfl)
theorem dX6_looked_15 : decode cX6_looked 15 = .ok (.getfield 15, 3) := dk_180 0 15 (dk_at dksX6_looked_0 15 rfl rfl)
theorem dX6_looked_18 : decode cX6_looked 18 = .ok (.bipush 93, 2) := dk_16 93 (dk_at dksX6_looked_0 18 rfl rfl)
theorem dX6_looked_20 : decode cX6_looked 20 = .ok (.iconst 2, 1) := dk_5 (dk_at dksX6_looked_0 20 rfl rfl)
theorem dX6_looked_21 : decode cX6_looked 21 = .ok (.iload_n 1, 1) := dk_27 (dk_at dksX6_looked_0 21 rfl rfl)
theorem dX6_looked_22 : decode cX6_looked 22 = .ok (.imul, 1) := dk_104 (dk_at dksX6_looked_0 22 rfl rfl)
theorem dX6_looked_23 : decode cX6_looked 23 = .ok (.iadd, 1) := dk_96 (dk_at dksX6_looked_0 23 rfl rfl)
theorem dX6_looked_24 : decode cX6_looked 24 = .ok (.iaload, 1) := dk_46 (dk_at dksX6_looked_1 0 rfl rfl)
theorem dX6_looked_25 : decode cX6_looked 25 = .ok (.iconst 3, 1) := dk_6 (dk_at dksX6_looked_1 1 rfl rfl)
theorem dX6_looked_26 : decode cX6_looked 26 = .ok (.invokevirtual 89, 3) := dk_182 0 89 (dk_at dksX6_looked_1 2 rfl rfl)
theorem dX6_looked_29 : decode cX6_looked 29 = .ok (.aload_n 0, 1) := dk_42 (dk_at dksX6_looked_1 5 rfl rfl)
theorem dX6_looked_30 : decode cX6_looked 30 = .ok (.getfield 15, 3) := dk_180 0 15 (dk_at dksX6_looked_1 6 rfl rfl)
theorem dX6_looked_33 : decode cX6_looked 33 = .ok (.bipush 94, 2) := dk_16 94 (dk_at dksX6_looked_1 9 rfl rfl)
theorem dX6_looked_35 : decode cX6_looked 35 = .ok (.iconst 2, 1) := dk_5 (dk_at dksX6_looked_1 11 rfl rfl)
theorem dX6_looked_36 : decode cX6_looked 36 = .ok (.iload_n 1, 1) := dk_27 (dk_at dksX6_looked_1 12 rfl rfl)
theorem dX6_looked_37 : decode cX6_looked 37 = .ok (.imul, 1) := dk_104 (dk_at dksX6_looked_1 13 rfl rfl)
theorem dX6_looked_38 : decode cX6_looked 38 = .ok (.iadd, 1) := dk_96 (dk_at dksX6_looked_1 14 rfl rfl)
theorem dX6_looked_39 : decode cX6_looked 39 = .ok (.iaload, 1) := dk_46 (dk_at dksX6_looked_1 15 rfl rfl)
theorem dX6_looked_40 : decode cX6_looked 40 = .ok (.if_icmp .eq 5, 3) := dk_159 0 5 (dk_at dksX6_looked_1 16 rfl rfl)
theorem dX6_looked_43 : decode cX6_looked 43 = .ok (.iload_n 1, 1) := dk_27 (dk_at dksX6_looked_1 19 rfl rfl)
theorem dX6_looked_44 : decode cX6_looked 44 = .ok (.ireturn, 1) := dk_172 (dk_at dksX6_looked_1 20 rfl rfl)
theorem dX6_looked_45 : decode cX6_looked 45 = .ok (.iinc 1 1, 3) := dk_132 1 1 (dk_at dksX6_looked_1 21 rfl rfl)
theorem dX6_looked_48 : decode cX6_looked 48 = .ok (.goto (-46), 3) := dk_167 255 210 (dk_at dksX6_looked_2 0 rfl rfl)
theorem dX6_looked_51 : decode cX6_looked 51 = .ok (.bipush (-5), 2) := dk_16 251 (dk_at dksX6_looked_2 3 rfl rfl)
theorem dX6_looked_53 : decode cX6_looked 53 = .ok (.ireturn, 1) := dk_172 (dk_at dksX6_looked_2 5 rfl rfl)
abbrev cX6_act : ByteArray := prog_23_method_60_code
def yX6_act : MethodName := ⟨RX6, "act", "(III)I"⟩
def dkwX6_act_1 : List UInt8 := [28, 29, 182, 0, 238, 167, 0, 4, 3, 172]
abbrev dktX6_act_1 : List UInt8 := dkwX6_act_1 ++ []
def dkwX6_act_0 : List UInt8 := [42, 3, 181, 0, 228, 42, 27, 182, 0, 101, 153, 0, 22, 28, 3, 5, 184, 0, 85, 153, 0, 13, 42, 27]
abbrev dktX6_act_0 : List UInt8 := dkwX6_act_0 ++ dktX6_act_1
theorem dksX6_act_0 : cX6_act.data.toList.drop 0 = dktX6_act_0 := by decide +kernel
theorem dksX6_act_1 : cX6_act.data.toList.drop 24 = dktX6_act_1 := dk_seg dksX6_act_0 24 rfl rfl
theorem dX6_act_0 : decode cX6_act 0 = .ok (.aload_n 0, 1) := dk_42 (dk_at dksX6_act_0 0 rfl rfl)
theorem dX6_act_1 : decode cX6_act 1 = .ok (.iconst 0, 1) := dk_3 (dk_at dksX6_act_0 1 rfl rfl)
theorem dX6_act_2 : decode cX6_act 2 = .ok (.putfield 228, 3) := dk_181 0 228 (dk_at dksX6_act_0 2 rfl rfl)
theorem dX6_act_5 : decode cX6_act 5 = .ok (.aload_n 0, 1) := dk_42 (dk_at dksX6_act_0 5 rfl rfl)
theorem dX6_act_6 : decode cX6_act 6 = .ok (.iload_n 1, 1) := dk_27 (dk_at dksX6_act_0 6 rfl rfl)
theorem dX6_act_7 : decode cX6_act 7 = .ok (.invokevirtual 101, 3) := dk_182 0 101 (dk_at dksX6_act_0 7 rfl rfl)
theorem dX6_act_10 : decode cX6_act 10 = .ok (.ifCond .eq 22, 3) := dk_153 0 22 (dk_at dksX6_act_0 10 rfl rfl)
theorem dX6_act_13 : decode cX6_act 13 = .ok (.iload_n 2, 1) := dk_28 (dk_at dksX6_act_0 13 rfl rfl)
theorem dX6_act_14 : decode cX6_act 14 = .ok (.iconst 0, 1) := dk_3 (dk_at dksX6_act_0 14 rfl rfl)
theorem dX6_act_15 : decode cX6_act 15 = .ok (.iconst 2, 1) := dk_5 (dk_at dksX6_act_0 15 rfl rfl)
theorem dX6_act_16 : decode cX6_act 16 = .ok (.invokestatic 85, 3) := dk_184 0 85 (dk_at dksX6_act_0 16 rfl rfl)
theorem dX6_act_19 : decode cX6_act 19 = .ok (.ifCond .eq 13, 3) := dk_153 0 13 (dk_at dksX6_act_0 19 rfl rfl)
theorem dX6_act_22 : decode cX6_act 22 = .ok (.aload_n 0, 1) := dk_42 (dk_at dksX6_act_0 22 rfl rfl)
theorem dX6_act_23 : decode cX6_act 23 = .ok (.iload_n 1, 1) := dk_27 (dk_at dksX6_act_0 23 rfl rfl)
theorem dX6_act_24 : decode cX6_act 24 = .ok (.iload_n 2, 1) := dk_28 (dk_at dksX6_act_1 0 rfl rfl)
theorem dX6_act_25 : decode cX6_act 25 = .ok (.iload_n 3, 1) := dk_29 (dk_at dksX6_act_1 1 rfl rfl)
theorem dX6_act_26 : decode cX6_act 26 = .ok (.invokevirtual 238, 3) := dk_182 0 238 (dk_at dksX6_act_1 2 rfl rfl)
theorem dX6_act_29 : decode cX6_act 29 = .ok (.goto 4, 3) := dk_167 0 4 (dk_at dksX6_act_1 5 rfl rfl)
theorem dX6_act_32 : decode cX6_act 32 = .ok (.iconst 0, 1) := dk_3 (dk_at dksX6_act_1 8 rfl rfl)
theorem dX6_act_33 : decode cX6_act 33 = .ok (.ireturn, 1) := dk_172 (dk_at dksX6_act_1 9 rfl rfl)
abbrev cX6_all : ByteArray := prog_23_method_58_code
def yX6_all : MethodName := ⟨RX6, "all", "(III)I"⟩
def dkwX6_all_0 : List UInt8 := [42, 42, 27, 3, 182, 0, 89, 27, 28, 29, 182, 0, 231, 172]
abbrev dktX6_all_0 : List UInt8 := dkwX6_all_0 ++ []
theorem dksX6_all_0 : cX6_all.data.toList.drop 0 = dktX6_all_0 := by decide +kernel
theorem dX6_all_0 : decode cX6_all 0 = .ok (.aload_n 0, 1) := dk_42 (dk_at dksX6_all_0 0 rfl rfl)
theorem dX6_all_1 : decode cX6_all 1 = .ok (.aload_n 0, 1) := dk_42 (dk_at dksX6_all_0 1 rfl rfl)
theorem dX6_all_2 : decode cX6_all 2 = .ok (.iload_n 1, 1) := dk_27 (dk_at dksX6_all_0 2 rfl rfl)
theorem dX6_all_3 : decode cX6_all 3 = .ok (.iconst 0, 1) := dk_3 (dk_at dksX6_all_0 3 rfl rfl)
theorem dX6_all_4 : decode cX6_all 4 = .ok (.invokevirtual 89, 3) := dk_182 0 89 (dk_at dksX6_all_0 4 rfl rfl)
theorem dX6_all_7 : decode cX6_all 7 = .ok (.iload_n 1, 1) := dk_27 (dk_at dksX6_all_0 7 rfl rfl)
theorem dX6_all_8 : decode cX6_all 8 = .ok (.iload_n 2, 1) := dk_28 (dk_at dksX6_all_0 8 rfl rfl)
theorem dX6_all_9 : decode cX6_all 9 = .ok (.iload_n 3, 1) := dk_29 (dk_at dksX6_all_0 9 rfl rfl)
theorem dX6_all_10 : decode cX6_all 10 = .ok (.invokevirtual 231, 3) := dk_182 0 231 (dk_at dksX6_all_0 10 rfl rfl)
theorem dX6_all_13 : decode cX6_all 13 = .ok (.ireturn, 1) := dk_172 (dk_at dksX6_all_0 13 rfl rfl)
abbrev cX6_byKind : ByteArray := prog_23_method_59_code
def yX6_byKind : MethodName := ⟨RX6, "byKind", "(IIII)I"⟩
def dkwX6_byKind_10 : List UInt8 := [21, 4, 182, 0, 231, 42, 28, 4, 182, 0, 89, 130, 172]
abbrev dktX6_byKind_10 : List UInt8 := dkwX6_byKind_10 ++ []
def dkwX6_byKind_9 : List UInt8 := [28, 4, 21, 4, 182, 0, 231, 42, 21, 6, 28, 3, 5, 182, 0, 231, 96, 172, 42, 21, 6, 28, 3]
abbrev dktX6_byKind_9 : List UInt8 := dkwX6_byKind_9 ++ dktX6_byKind_10
def dkwX6_byKind_8 : List UInt8 := [21, 4, 4, 96, 182, 0, 231, 172, 42, 21, 6, 28, 5, 21, 4, 28, 100, 182, 0, 231, 172, 42, 21, 6]
abbrev dktX6_byKind_8 : List UInt8 := dkwX6_byKind_8 ++ dktX6_byKind_9
def dkwX6_byKind_7 : List UInt8 := [4, 4, 182, 0, 238, 96, 172, 42, 21, 6, 28, 3, 21, 4, 182, 0, 231, 116, 172, 42, 21, 6, 28, 4]
abbrev dktX6_byKind_7 : List UInt8 := dkwX6_byKind_7 ++ dktX6_byKind_8
def dkwX6_byKind_6 : List UInt8 := [21, 6, 28, 3, 21, 4, 6, 104, 182, 0, 231, 172, 42, 21, 6, 28, 5, 21, 4, 182, 0, 231, 42, 28]
abbrev dktX6_byKind_6 : List UInt8 := dkwX6_byKind_6 ++ dktX6_byKind_7
def dkwX6_byKind_5 : List UInt8 := [21, 4, 182, 0, 238, 5, 104, 172, 42, 21, 6, 28, 4, 21, 4, 182, 0, 231, 16, 6, 130, 172, 42]
abbrev dktX6_byKind_5 : List UInt8 := dkwX6_byKind_5 ++ dktX6_byKind_6
def dkwX6_byKind_4 : List UInt8 := [21, 4, 28, 96, 172, 42, 28, 3, 21, 4, 182, 0, 238, 42, 28, 4, 182, 0, 89, 100, 172, 42, 28, 4]
abbrev dktX6_byKind_4 : List UInt8 := dkwX6_byKind_4 ++ dktX6_byKind_5
def dkwX6_byKind_3 : List UInt8 := [171, 0, 0, 0, 0, 0, 228, 0, 0, 0, 10, 0, 0, 0, 10, 0, 0, 0, 91, 0, 0, 0, 11, 0, 0, 0, 96, 0, 0, 0, 12, 0, 0, 0, 112, 0, 0, 0, 20, 0, 0, 0, 123, 0, 0, 0, 30, 0, 0, 0, 137, 0, 0, 0, 40, 0, 0, 0, 150, 0, 0, 0, 50, 0, 0, 0, 169, 0, 0, 0, 51, 0, 0, 0, 181, 0, 0, 0, 60, 0, 0, 0, 194, 0, 0, 0, 70, 0, 0, 0, 207]
abbrev dktX6_byKind_3 : List UInt8 := dkwX6_byKind_3 ++ dktX6_byKind_4
def dkwX6_byKind_2 : List UInt8 := [96, 46, 182, 0, 235]
abbrev dktX6_byKind_2 : List UInt8 := dkwX6_byKind_2 ++ dktX6_byKind_3
def dkwX6_byKind_1 : List UInt8 := [54, 5, 167, 255, 233, 42, 180, 0, 59, 21, 5, 46, 54, 6, 42, 42, 180, 0, 62, 6, 21, 5, 104, 29]
abbrev dktX6_byKind_1 : List UInt8 := dkwX6_byKind_1 ++ dktX6_byKind_2
def dkwX6_byKind_0 : List UInt8 := [27, 54, 5, 42, 180, 0, 62, 6, 21, 5, 104, 29, 96, 46, 154, 0, 15, 42, 180, 0, 59, 21, 5, 46]
abbrev dktX6_byKind_0 : List UInt8 := dkwX6_byKind_0 ++ dktX6_byKind_1
theorem dksX6_byKind_0 : cX6_byKind.data.toList.drop 0 = dktX6_byKind_0 := by decide +kernel
theorem dksX6_byKind_1 : cX6_byKind.data.toList.drop 24 = dktX6_byKind_1 := dk_seg dksX6_byKind_0 24 rfl rfl
theorem dksX6_byKind_2 : cX6_byKind.data.toList.drop 48 = dktX6_byKind_2 := dk_seg dksX6_byKind_1 24 rfl rfl
theorem dksX6_byKind_3 : cX6_byKind.data.toList.drop 53 = dktX6_byKind_3 := dk_seg dksX6_byKind_2 5 rfl rfl
theorem dksX6_byKind_4 : cX6_byKind.data.toList.drop 144 = dktX6_byKind_4 := dk_seg dksX6_byKind_3 91 rfl rfl
theorem dksX6_byKind_5 : cX6_byKind.data.toList.drop 168 = dktX6_byKind_5 := dk_seg dksX6_byKind_4 24 rfl rfl
theorem dksX6_byKind_6 : cX6_byKind.data.toList.drop 191 = dktX6_byKind_6 := dk_seg dksX6_byKind_5 23 rfl rfl
theorem dksX6_byKind_7 : cX6_byKind.data.toList.drop 215 = dktX6_byKind_7 := dk_seg dksX6_byKind_6 24 rfl rfl
theorem dksX6_byKind_8 : cX6_byKind.data.toList.drop 239 = dktX6_byKind_8 := dk_seg dksX6_byKind_7 24 rfl rfl
theorem dksX6_byKind_9 : cX6_byKind.data.toList.drop 263 = dktX6_byKind_9 := dk_seg dksX6_byKind_8 24 rfl rfl
theorem dksX6_byKind_10 : cX6_byKind.data.toList.drop 286 = dktX6_byKind_10 := dk_seg dksX6_byKind_9 23 rfl rfl
theorem dX6_byKind_0 : decode cX6_byKind 0 = .ok (.iload_n 1, 1) := dk_27 (dk_at dksX6_byKind_0 0 rfl rfl)
theorem dX6_byKind_1 : decode cX6_byKind 1 = .ok (.istore 5, 2) := dk_54 5 (dk_at dksX6_byKind_0 1 rfl rfl)
theorem dX6_byKind_3 : decode cX6_byKind 3 = .ok (.aload_n 0, 1) := dk_42 (dk_at dksX6_byKind_0 3 rfl rfl)
theorem dX6_byKind_4 : decode cX6_byKind 4 = .ok (.getfield 62, 3) := dk_180 0 62 (dk_at dksX6_byKind_0 4 rfl rfl)
theorem dX6_byKind_7 : decode cX6_byKind 7 = .ok (.iconst 3, 1) := dk_6 (dk_at dksX6_byKind_0 7 rfl rfl)
theorem dX6_byKind_8 : decode cX6_byKind 8 = .ok (.iload 5, 2) := dk_21 5 (dk_at dksX6_byKind_0 8 rfl rfl)
theorem dX6_byKind_10 : decode cX6_byKind 10 = .ok (.imul, 1) := dk_104 (dk_at dksX6_byKind_0 10 rfl rfl)
theorem dX6_byKind_11 : decode cX6_byKind 11 = .ok (.iload_n 3, 1) := dk_29 (dk_at dksX6_byKind_0 11 rfl rfl)
theorem dX6_byKind_12 : decode cX6_byKind 12 = .ok (.iadd, 1) := dk_96 (dk_at dksX6_byKind_0 12 rfl rfl)
theorem dX6_byKind_13 : decode cX6_byKind 13 = .ok (.iaload, 1) := dk_46 (dk_at dksX6_byKind_0 13 rfl rfl)
theorem dX6_byKind_14 : decode cX6_byKind 14 = .ok (.ifCond .ne 15, 3) := dk_154 0 15 (dk_at dksX6_byKind_0 14 rfl rfl)
theorem dX6_byKind_17 : decode cX6_byKind 17 = .ok (.aload_n 0, 1) := dk_42 (dk_at dksX6_byKind_0 17 rfl rfl)
theorem dX6_byKind_18 : decode cX6_byKind 18 = .ok (.getfield 59, 3) := dk_180 0 59 (dk_at dksX6_byKind_0 18 rfl rfl)
theorem dX6_byKind_21 : decode cX6_byKind 21 = .ok (.iload 5, 2) := dk_21 5 (dk_at dksX6_byKind_0 21 rfl rfl)
theorem dX6_byKind_23 : decode cX6_byKind 23 = .ok (.iaload, 1) := dk_46 (dk_at dksX6_byKind_0 23 rfl rfl)
theorem dX6_byKind_24 : decode cX6_byKind 24 = .ok (.istore 5, 2) := dk_54 5 (dk_at dksX6_byKind_1 0 rfl rfl)
theorem dX6_byKind_26 : decode cX6_byKind 26 = .ok (.goto (-23), 3) := dk_167 255 233 (dk_at dksX6_byKind_1 2 rfl rfl)
theorem dX6_byKind_29 : decode cX6_byKind 29 = .ok (.aload_n 0, 1) := dk_42 (dk_at dksX6_byKind_1 5 rfl rfl)
theorem dX6_byKind_30 : decode cX6_byKind 30 = .ok (.getfield 59, 3) := dk_180 0 59 (dk_at dksX6_byKind_1 6 rfl rfl)
theorem dX6_byKind_33 : decode cX6_byKind 33 = .ok (.iload 5, 2) := dk_21 5 (dk_at dksX6_byKind_1 9 rfl rfl)
theorem dX6_byKind_35 : decode cX6_byKind 35 = .ok (.iaload, 1) := dk_46 (dk_at dksX6_byKind_1 11 rfl rfl)
theorem dX6_byKind_36 : decode cX6_byKind 36 = .ok (.istore 6, 2) := dk_54 6 (dk_at dksX6_byKind_1 12 rfl rfl)
theorem dX6_byKind_38 : decode cX6_byKind 38 = .ok (.aload_n 0, 1) := dk_42 (dk_at dksX6_byKind_1 14 rfl rfl)
theorem dX6_byKind_39 : decode cX6_byKind 39 = .ok (.aload_n 0, 1) := dk_42 (dk_at dksX6_byKind_1 15 rfl rfl)
theorem dX6_byKind_40 : decode cX6_byKind 40 = .ok (.getfield 62, 3) := dk_180 0 62 (dk_at dksX6_byKind_1 16 rfl rfl)
theorem dX6_byKind_43 : decode cX6_byKind 43 = .ok (.iconst 3, 1) := dk_6 (dk_at dksX6_byKind_1 19 rfl rfl)
theorem dX6_byKind_44 : decode cX6_byKind 44 = .ok (.iload 5, 2) := dk_21 5 (dk_at dksX6_byKind_1 20 rfl rfl)
theorem dX6_byKind_46 : decode cX6_byKind 46 = .ok (.imul, 1) := dk_104 (dk_at dksX6_byKind_1 22 rfl rfl)
theorem dX6_byKind_47 : decode cX6_byKind 47 = .ok (.iload_n 3, 1) := dk_29 (dk_at dksX6_byKind_1 23 rfl rfl)
theorem dX6_byKind_48 : decode cX6_byKind 48 = .ok (.iadd, 1) := dk_96 (dk_at dksX6_byKind_2 0 rfl rfl)
theorem dX6_byKind_49 : decode cX6_byKind 49 = .ok (.iaload, 1) := dk_46 (dk_at dksX6_byKind_2 1 rfl rfl)
theorem dX6_byKind_50 : decode cX6_byKind 50 = .ok (.invokevirtual 235, 3) := dk_182 0 235 (dk_at dksX6_byKind_2 2 rfl rfl)
theorem dX6_byKind_53 : decode cX6_byKind 53 = .ok (.lookupswitch 228 #[(10, 91), (11, 96), (12, 112), (20, 123), (30, 137), (40, 150), (50, 169), (51, 181), (60, 194), (70, 207)], 91) := by decide +kernel
theorem dX6_byKind_144 : decode cX6_byKind 144 = .ok (.iload 4, 2) := dk_21 4 (dk_at dksX6_byKind_4 0 rfl rfl)
theorem dX6_byKind_146 : decode cX6_byKind 146 = .ok (.iload_n 2, 1) := dk_28 (dk_at dksX6_byKind_4 2 rfl rfl)
theorem dX6_byKind_147 : decode cX6_byKind 147 = .ok (.iadd, 1) := dk_96 (dk_at dksX6_byKind_4 3 rfl rfl)
theorem dX6_byKind_148 : decode cX6_byKind 148 = .ok (.ireturn, 1) := dk_172 (dk_at dksX6_byKind_4 4 rfl rfl)
theorem dX6_byKind_149 : decode cX6_byKind 149 = .ok (.aload_n 0, 1) := dk_42 (dk_at dksX6_byKind_4 5 rfl rfl)
theorem dX6_byKind_150 : decode cX6_byKind 150 = .ok (.iload_n 2, 1) := dk_28 (dk_at dksX6_byKind_4 6 rfl rfl)
theorem dX6_byKind_151 : decode cX6_byKind 151 = .ok (.iconst 0, 1) := dk_3 (dk_at dksX6_byKind_4 7 rfl rfl)
theorem dX6_byKind_152 : decode cX6_byKind 152 = .ok (.iload 4, 2) := dk_21 4 (dk_at dksX6_byKind_4 8 rfl rfl)
theorem dX6_byKind_154 : decode cX6_byKind 154 = .ok (.invokevirtual 238, 3) := dk_182 0 238 (dk_at dksX6_byKind_4 10 rfl rfl)
theorem dX6_byKind_157 : decode cX6_byKind 157 = .ok (.aload_n 0, 1) := dk_42 (dk_at dksX6_byKind_4 13 rfl rfl)
theorem dX6_byKind_158 : decode cX6_byKind 158 = .ok (.iload_n 2, 1) := dk_28 (dk_at dksX6_byKind_4 14 rfl rfl)
theorem dX6_byKind_159 : decode cX6_byKind 159 = .ok (.iconst 1, 1) := dk_4 (dk_at dksX6_byKind_4 15 rfl rfl)
theorem dX6_byKind_160 : decode cX6_byKind 160 = .ok (.invokevirtual 89, 3) := dk_182 0 89 (dk_at dksX6_byKind_4 16 rfl rfl)
theorem dX6_byKind_163 : decode cX6_byKind 163 = .ok (.isub, 1) := dk_100 (dk_at dksX6_byKind_4 19 rfl rfl)
theorem dX6_byKind_164 : decode cX6_byKind 164 = .ok (.ireturn, 1) := dk_172 (dk_at dksX6_byKind_4 20 rfl rfl)
theorem dX6_byKind_165 : decode cX6_byKind 165 = .ok (.aload_n 0, 1) := dk_42 (dk_at dksX6_byKind_4 21 rfl rfl)
theorem dX6_byKind_166 : decode cX6_byKind 166 = .ok (.iload_n 2, 1) := dk_28 (dk_at dksX6_byKind_4 22 rfl rfl)
theorem dX6_byKind_167 : decode cX6_byKind 167 = .ok (.iconst 1, 1) := dk_4 (dk_at dksX6_byKind_4 23 rfl rfl)
theorem dX6_byKind_168 : decode cX6_byKind 168 = .ok (.iload 4, 2) := dk_21 4 (dk_at dksX6_byKind_5 0 rfl rfl)
theorem dX6_byKind_170 : decode cX6_byKind 170 = .ok (.invokevirtual 238, 3) := dk_182 0 238 (dk_at dksX6_byKind_5 2 rfl rfl)
theorem dX6_byKind_173 : decode cX6_byKind 173 = .ok (.iconst 2, 1) := dk_5 (dk_at dksX6_byKind_5 5 rfl rfl)
theorem dX6_byKind_174 : decode cX6_byKind 174 = .ok (.imul, 1) := dk_104 (dk_at dksX6_byKind_5 6 rfl rfl)
theorem dX6_byKind_175 : decode cX6_byKind 175 = .ok (.ireturn, 1) := dk_172 (dk_at dksX6_byKind_5 7 rfl rfl)
theorem dX6_byKind_176 : decode cX6_byKind 176 = .ok (.aload_n 0, 1) := dk_42 (dk_at dksX6_byKind_5 8 rfl rfl)
theorem dX6_byKind_177 : decode cX6_byKind 177 = .ok (.iload 6, 2) := dk_21 6 (dk_at dksX6_byKind_5 9 rfl rfl)
theorem dX6_byKind_179 : decode cX6_byKind 179 = .ok (.iload_n 2, 1) := dk_28 (dk_at dksX6_byKind_5 11 rfl rfl)
theorem dX6_byKind_180 : decode cX6_byKind 180 = .ok (.iconst 1, 1) := dk_4 (dk_at dksX6_byKind_5 12 rfl rfl)
theorem dX6_byKind_181 : decode cX6_byKind 181 = .ok (.iload 4, 2) := dk_21 4 (dk_at dksX6_byKind_5 13 rfl rfl)
theorem dX6_byKind_183 : decode cX6_byKind 183 = .ok (.invokevirtual 231, 3) := dk_182 0 231 (dk_at dksX6_byKind_5 15 rfl rfl)
theorem dX6_byKind_186 : decode cX6_byKind 186 = .ok (.bipush 6, 2) := dk_16 6 (dk_at dksX6_byKind_5 18 rfl rfl)
theorem dX6_byKind_188 : decode cX6_byKind 188 = .ok (.ixor, 1) := dk_130 (dk_at dksX6_byKind_5 20 rfl rfl)
theorem dX6_byKind_189 : decode cX6_byKind 189 = .ok (.ireturn, 1) := dk_172 (dk_at dksX6_byKind_5 21 rfl rfl)
theorem dX6_byKind_190 : decode cX6_byKind 190 = .ok (.aload_n 0, 1) := dk_42 (dk_at dksX6_byKind_5 22 rfl rfl)
theorem dX6_byKind_191 : decode cX6_byKind 191 = .ok (.iload 6, 2) := dk_21 6 (dk_at dksX6_byKind_6 0 rfl rfl)
theorem dX6_byKind_193 : decode cX6_byKind 193 = .ok (.iload_n 2, 1) := dk_28 (dk_at dksX6_byKind_6 2 rfl rfl)
theorem dX6_byKind_194 : decode cX6_byKind 194 = .ok (.iconst 0, 1) := dk_3 (dk_at dksX6_byKind_6 3 rfl rfl)
theorem dX6_byKind_195 : decode cX6_byKind 195 = .ok (.iload 4, 2) := dk_21 4 (dk_at dksX6_byKind_6 4 rfl rfl)
theorem dX6_byKind_197 : decode cX6_byKind 197 = .ok (.iconst 3, 1) := dk_6 (dk_at dksX6_byKind_6 6 rfl rfl)
theorem dX6_byKind_198 : decode cX6_byKind 198 = .ok (.imul, 1) := dk_104 (dk_at dksX6_byKind_6 7 rfl rfl)
theorem dX6_byKind_199 : decode cX6_byKind 199 = .ok (.invokevirtual 231, 3) := dk_182 0 231 (dk_at dksX6_byKind_6 8 rfl rfl)
theorem dX6_byKind_202 : decode cX6_byKind 202 = .ok (.ireturn, 1) := dk_172 (dk_at dksX6_byKind_6 11 rfl rfl)
theorem dX6_byKind_203 : decode cX6_byKind 203 = .ok (.aload_n 0, 1) := dk_42 (dk_at dksX6_byKind_6 12 rfl rfl)
theorem dX6_byKind_204 : decode cX6_byKind 204 = .ok (.iload 6, 2) := dk_21 6 (dk_at dksX6_byKind_6 13 rfl rfl)
theorem dX6_byKind_206 : decode cX6_byKind 206 = .ok (.iload_n 2, 1) := dk_28 (dk_at dksX6_byKind_6 15 rfl rfl)
theorem dX6_byKind_207 : decode cX6_byKind 207 = .ok (.iconst 2, 1) := dk_5 (dk_at dksX6_byKind_6 16 rfl rfl)
theorem dX6_byKind_208 : decode cX6_byKind 208 = .ok (.iload 4, 2) := dk_21 4 (dk_at dksX6_byKind_6 17 rfl rfl)
theorem dX6_byKind_210 : decode cX6_byKind 210 = .ok (.invokevirtual 231, 3) := dk_182 0 231 (dk_at dksX6_byKind_6 19 rfl rfl)
theorem dX6_byKind_213 : decode cX6_byKind 213 = .ok (.aload_n 0, 1) := dk_42 (dk_at dksX6_byKind_6 22 rfl rfl)
theorem dX6_byKind_214 : decode cX6_byKind 214 = .ok (.iload_n 2, 1) := dk_28 (dk_at dksX6_byKind_6 23 rfl rfl)
theorem dX6_byKind_215 : decode cX6_byKind 215 = .ok (.iconst 1, 1) := dk_4 (dk_at dksX6_byKind_7 0 rfl rfl)
theorem dX6_byKind_216 : decode cX6_byKind 216 = .ok (.iconst 1, 1) := dk_4 (dk_at dksX6_byKind_7 1 rfl rfl)
theorem dX6_byKind_217 : decode cX6_byKind 217 = .ok (.invokevirtual 238, 3) := dk_182 0 238 (dk_at dksX6_byKind_7 2 rfl rfl)
theorem dX6_byKind_220 : decode cX6_byKind 220 = .ok (.iadd, 1) := dk_96 (dk_at dksX6_byKind_7 5 rfl rfl)
theorem dX6_byKind_221 : decode cX6_byKind 221 = .ok (.ireturn, 1) := dk_172 (dk_at dksX6_byKind_7 6 rfl rfl)
theorem dX6_byKind_222 : decode cX6_byKind 222 = .ok (.aload_n 0, 1) := dk_42 (dk_at dksX6_byKind_7 7 rfl rfl)
theorem dX6_byKind_223 : decode cX6_byKind 223 = .ok (.iload 6, 2) := dk_21 6 (dk_at dksX6_byKind_7 8 rfl rfl)
theorem dX6_byKind_225 : decode cX6_byKind 225 = .ok (.iload_n 2, 1) := dk_28 (dk_at dksX6_byKind_7 10 rfl rfl)
theorem dX6_byKind_226 : decode cX6_byKind 226 = .ok (.iconst 0, 1) := dk_3 (dk_at dksX6_byKind_7 11 rfl rfl)
theorem dX6_byKind_227 : decode cX6_byKind 227 = .ok (.iload 4, 2) := dk_21 4 (dk_at dksX6_byKind_7 12 rfl rfl)
theorem dX6_byKind_229 : decode cX6_byKind 229 = .ok (.invokevirtual 231, 3) := dk_182 0 231 (dk_at dksX6_byKind_7 14 rfl rfl)
theorem dX6_byKind_232 : decode cX6_byKind 232 = .ok (.ineg, 1) := dk_116 (dk_at dksX6_byKind_7 17 rfl rfl)
theorem dX6_byKind_233 : decode cX6_byKind 233 = .ok (.ireturn, 1) := dk_172 (dk_at dksX6_byKind_7 18 rfl rfl)
theorem dX6_byKind_234 : decode cX6_byKind 234 = .ok (.aload_n 0, 1) := dk_42 (dk_at dksX6_byKind_7 19 rfl rfl)
theorem dX6_byKind_235 : decode cX6_byKind 235 = .ok (.iload 6, 2) := dk_21 6 (dk_at dksX6_byKind_7 20 rfl rfl)
theorem dX6_byKind_237 : decode cX6_byKind 237 = .ok (.iload_n 2, 1) := dk_28 (dk_at dksX6_byKind_7 22 rfl rfl)
theorem dX6_byKind_238 : decode cX6_byKind 238 = .ok (.iconst 1, 1) := dk_4 (dk_at dksX6_byKind_7 23 rfl rfl)
theorem dX6_byKind_239 : decode cX6_byKind 239 = .ok (.iload 4, 2) := dk_21 4 (dk_at dksX6_byKind_8 0 rfl rfl)
theorem dX6_byKind_241 : decode cX6_byKind 241 = .ok (.iconst 1, 1) := dk_4 (dk_at dksX6_byKind_8 2 rfl rfl)
theorem dX6_byKind_242 : decode cX6_byKind 242 = .ok (.iadd, 1) := dk_96 (dk_at dksX6_byKind_8 3 rfl rfl)
theorem dX6_byKind_243 : decode cX6_byKind 243 = .ok (.invokevirtual 231, 3) := dk_182 0 231 (dk_at dksX6_byKind_8 4 rfl rfl)
theorem dX6_byKind_246 : decode cX6_byKind 246 = .ok (.ireturn, 1) := dk_172 (dk_at dksX6_byKind_8 7 rfl rfl)
theorem dX6_byKind_247 : decode cX6_byKind 247 = .ok (.aload_n 0, 1) := dk_42 (dk_at dksX6_byKind_8 8 rfl rfl)
theorem dX6_byKind_248 : decode cX6_byKind 248 = .ok (.iload 6, 2) := dk_21 6 (dk_at dksX6_byKind_8 9 rfl rfl)
theorem dX6_byKind_250 : decode cX6_byKind 250 = .ok (.iload_n 2, 1) := dk_28 (dk_at dksX6_byKind_8 11 rfl rfl)
theorem dX6_byKind_251 : decode cX6_byKind 251 = .ok (.iconst 2, 1) := dk_5 (dk_at dksX6_byKind_8 12 rfl rfl)
theorem dX6_byKind_252 : decode cX6_byKind 252 = .ok (.iload 4, 2) := dk_21 4 (dk_at dksX6_byKind_8 13 rfl rfl)
theorem dX6_byKind_254 : decode cX6_byKind 254 = .ok (.iload_n 2, 1) := dk_28 (dk_at dksX6_byKind_8 15 rfl rfl)
theorem dX6_byKind_255 : decode cX6_byKind 255 = .ok (.isub, 1) := dk_100 (dk_at dksX6_byKind_8 16 rfl rfl)
theorem dX6_byKind_256 : decode cX6_byKind 256 = .ok (.invokevirtual 231, 3) := dk_182 0 231 (dk_at dksX6_byKind_8 17 rfl rfl)
theorem dX6_byKind_259 : decode cX6_byKind 259 = .ok (.ireturn, 1) := dk_172 (dk_at dksX6_byKind_8 20 rfl rfl)
theorem dX6_byKind_260 : decode cX6_byKind 260 = .ok (.aload_n 0, 1) := dk_42 (dk_at dksX6_byKind_8 21 rfl rfl)
theorem dX6_byKind_261 : decode cX6_byKind 261 = .ok (.iload 6, 2) := dk_21 6 (dk_at dksX6_byKind_8 22 rfl rfl)
theorem dX6_byKind_263 : decode cX6_byKind 263 = .ok (.iload_n 2, 1) := dk_28 (dk_at dksX6_byKind_9 0 rfl rfl)
theorem dX6_byKind_264 : decode cX6_byKind 264 = .ok (.iconst 1, 1) := dk_4 (dk_at dksX6_byKind_9 1 rfl rfl)
theorem dX6_byKind_265 : decode cX6_byKind 265 = .ok (.iload 4, 2) := dk_21 4 (dk_at dksX6_byKind_9 2 rfl rfl)
theorem dX6_byKind_267 : decode cX6_byKind 267 = .ok (.invokevirtual 231, 3) := dk_182 0 231 (dk_at dksX6_byKind_9 4 rfl rfl)
theorem dX6_byKind_270 : decode cX6_byKind 270 = .ok (.aload_n 0, 1) := dk_42 (dk_at dksX6_byKind_9 7 rfl rfl)
theorem dX6_byKind_271 : decode cX6_byKind 271 = .ok (.iload 6, 2) := dk_21 6 (dk_at dksX6_byKind_9 8 rfl rfl)
theorem dX6_byKind_273 : decode cX6_byKind 273 = .ok (.iload_n 2, 1) := dk_28 (dk_at dksX6_byKind_9 10 rfl rfl)
theorem dX6_byKind_274 : decode cX6_byKind 274 = .ok (.iconst 0, 1) := dk_3 (dk_at dksX6_byKind_9 11 rfl rfl)
theorem dX6_byKind_275 : decode cX6_byKind 275 = .ok (.iconst 2, 1) := dk_5 (dk_at dksX6_byKind_9 12 rfl rfl)
theorem dX6_byKind_276 : decode cX6_byKind 276 = .ok (.invokevirtual 231, 3) := dk_182 0 231 (dk_at dksX6_byKind_9 13 rfl rfl)
theorem dX6_byKind_279 : decode cX6_byKind 279 = .ok (.iadd, 1) := dk_96 (dk_at dksX6_byKind_9 16 rfl rfl)
theorem dX6_byKind_280 : decode cX6_byKind 280 = .ok (.ireturn, 1) := dk_172 (dk_at dksX6_byKind_9 17 rfl rfl)
theorem dX6_byKind_281 : decode cX6_byKind 281 = .ok (.aload_n 0, 1) := dk_42 (dk_at dksX6_byKind_9 18 rfl rfl)
theorem dX6_byKind_282 : decode cX6_byKind 282 = .ok (.iload 6, 2) := dk_21 6 (dk_at dksX6_byKind_9 19 rfl rfl)
theorem dX6_byKind_284 : decode cX6_byKind 284 = .ok (.iload_n 2, 1) := dk_28 (dk_at dksX6_byKind_9 21 rfl rfl)
theorem dX6_byKind_285 : decode cX6_byKind 285 = .ok (.iconst 0, 1) := dk_3 (dk_at dksX6_byKind_9 22 rfl rfl)
theorem dX6_byKind_286 : decode cX6_byKind 286 = .ok (.iload 4, 2) := dk_21 4 (dk_at dksX6_byKind_10 0 rfl rfl)
theorem dX6_byKind_288 : decode cX6_byKind 288 = .ok (.invokevirtual 231, 3) := dk_182 0 231 (dk_at dksX6_byKind_10 2 rfl rfl)
theorem dX6_byKind_291 : decode cX6_byKind 291 = .ok (.aload_n 0, 1) := dk_42 (dk_at dksX6_byKind_10 5 rfl rfl)
theorem dX6_byKind_292 : decode cX6_byKind 292 = .ok (.iload_n 2, 1) := dk_28 (dk_at dksX6_byKind_10 6 rfl rfl)
theorem dX6_byKind_293 : decode cX6_byKind 293 = .ok (.iconst 1, 1) := dk_4 (dk_at dksX6_byKind_10 7 rfl rfl)
theorem dX6_byKind_294 : decode cX6_byKind 294 = .ok (.invokevirtual 89, 3) := dk_182 0 89 (dk_at dksX6_byKind_10 8 rfl rfl)
theorem dX6_byKind_297 : decode cX6_byKind 297 = .ok (.ixor, 1) := dk_130 (dk_at dksX6_byKind_10 11 rfl rfl)
theorem dX6_byKind_298 : decode cX6_byKind 298 = .ok (.ireturn, 1) := dk_172 (dk_at dksX6_byKind_10 12 rfl rfl)
abbrev cX6_body : ByteArray := prog_23_method_57_code
def yX6_body : MethodName := ⟨RX6, "body", "(I)I"⟩
def dkwX6_body_1 : List UInt8 := [4, 96, 181, 0, 228, 27, 172]
abbrev dktX6_body_1 : List UInt8 := dkwX6_body_1 ++ []
def dkwX6_body_0 : List UInt8 := [42, 180, 0, 228, 16, 20, 162, 0, 13, 42, 180, 0, 65, 42, 180, 0, 228, 27, 79, 42, 89, 180, 0, 228]
abbrev dktX6_body_0 : List UInt8 := dkwX6_body_0 ++ dktX6_body_1
theorem dksX6_body_0 : cX6_body.data.toList.drop 0 = dktX6_body_0 := by decide +kernel
theorem dksX6_body_1 : cX6_body.data.toList.drop 24 = dktX6_body_1 := dk_seg dksX6_body_0 24 rfl rfl
theorem dX6_body_0 : decode cX6_body 0 = .ok (.aload_n 0, 1) := dk_42 (dk_at dksX6_body_0 0 rfl rfl)
theorem dX6_body_1 : decode cX6_body 1 = .ok (.getfield 228, 3) := dk_180 0 228 (dk_at dksX6_body_0 1 rfl rfl)
theorem dX6_body_4 : decode cX6_body 4 = .ok (.bipush 20, 2) := dk_16 20 (dk_at dksX6_body_0 4 rfl rfl)
theorem dX6_body_6 : decode cX6_body 6 = .ok (.if_icmp .ge 13, 3) := dk_162 0 13 (dk_at dksX6_body_0 6 rfl rfl)
theorem dX6_body_9 : decode cX6_body 9 = .ok (.aload_n 0, 1) := dk_42 (dk_at dksX6_body_0 9 rfl rfl)
theorem dX6_body_10 : decode cX6_body 10 = .ok (.getfield 65, 3) := dk_180 0 65 (dk_at dksX6_body_0 10 rfl rfl)
theorem dX6_body_13 : decode cX6_body 13 = .ok (.aload_n 0, 1) := dk_42 (dk_at dksX6_body_0 13 rfl rfl)
theorem dX6_body_14 : decode cX6_body 14 = .ok (.getfield 228, 3) := dk_180 0 228 (dk_at dksX6_body_0 14 rfl rfl)
theorem dX6_body_17 : decode cX6_body 17 = .ok (.iload_n 1, 1) := dk_27 (dk_at dksX6_body_0 17 rfl rfl)
theorem dX6_body_18 : decode cX6_body 18 = .ok (.iastore, 1) := dk_79 (dk_at dksX6_body_0 18 rfl rfl)
theorem dX6_body_19 : decode cX6_body 19 = .ok (.aload_n 0, 1) := dk_42 (dk_at dksX6_body_0 19 rfl rfl)
theorem dX6_body_20 : decode cX6_body 20 = .ok (.dup, 1) := dk_89 (dk_at dksX6_body_0 20 rfl rfl)
theorem dX6_body_21 : decode cX6_body 21 = .ok (.getfield 228, 3) := dk_180 0 228 (dk_at dksX6_body_0 21 rfl rfl)
theorem dX6_body_24 : decode cX6_body 24 = .ok (.iconst 1, 1) := dk_4 (dk_at dksX6_body_1 0 rfl rfl)
theorem dX6_body_25 : decode cX6_body 25 = .ok (.iadd, 1) := dk_96 (dk_at dksX6_body_1 1 rfl rfl)
theorem dX6_body_26 : decode cX6_body 26 = .ok (.putfield 228, 3) := dk_181 0 228 (dk_at dksX6_body_1 2 rfl rfl)
theorem dX6_body_29 : decode cX6_body 29 = .ok (.iload_n 1, 1) := dk_27 (dk_at dksX6_body_1 5 rfl rfl)
theorem dX6_body_30 : decode cX6_body 30 = .ok (.ireturn, 1) := dk_172 (dk_at dksX6_body_1 6 rfl rfl)
abbrev cX6_trace : ByteArray := prog_23_method_61_code
def yX6_trace : MethodName := ⟨RX6, "trace", "(I)I"⟩
def dkwX6_trace_1 : List UInt8 := [46, 167, 0, 4, 2, 172]
abbrev dktX6_trace_1 : List UInt8 := dkwX6_trace_1 ++ []
def dkwX6_trace_0 : List UInt8 := [27, 3, 16, 20, 42, 180, 0, 228, 184, 0, 191, 4, 100, 184, 0, 85, 153, 0, 12, 42, 180, 0, 65, 27]
abbrev dktX6_trace_0 : List UInt8 := dkwX6_trace_0 ++ dktX6_trace_1
theorem dksX6_trace_0 : cX6_trace.data.toList.drop 0 = dktX6_trace_0 := by decide +kernel
theorem dksX6_trace_1 : cX6_trace.data.toList.drop 24 = dktX6_trace_1 := dk_seg dksX6_trace_0 24 rfl rfl
theorem dX6_trace_0 : decode cX6_trace 0 = .ok (.iload_n 1, 1) := dk_27 (dk_at dksX6_trace_0 0 rfl rfl)
theorem dX6_trace_1 : decode cX6_trace 1 = .ok (.iconst 0, 1) := dk_3 (dk_at dksX6_trace_0 1 rfl rfl)
theorem dX6_trace_2 : decode cX6_trace 2 = .ok (.bipush 20, 2) := dk_16 20 (dk_at dksX6_trace_0 2 rfl rfl)
theorem dX6_trace_4 : decode cX6_trace 4 = .ok (.aload_n 0, 1) := dk_42 (dk_at dksX6_trace_0 4 rfl rfl)
theorem dX6_trace_5 : decode cX6_trace 5 = .ok (.getfield 228, 3) := dk_180 0 228 (dk_at dksX6_trace_0 5 rfl rfl)
theorem dX6_trace_8 : decode cX6_trace 8 = .ok (.invokestatic 191, 3) := dk_184 0 191 (dk_at dksX6_trace_0 8 rfl rfl)
theorem dX6_trace_11 : decode cX6_trace 11 = .ok (.iconst 1, 1) := dk_4 (dk_at dksX6_trace_0 11 rfl rfl)
theorem dX6_trace_12 : decode cX6_trace 12 = .ok (.isub, 1) := dk_100 (dk_at dksX6_trace_0 12 rfl rfl)
theorem dX6_trace_13 : decode cX6_trace 13 = .ok (.invokestatic 85, 3) := dk_184 0 85 (dk_at dksX6_trace_0 13 rfl rfl)
theorem dX6_trace_16 : decode cX6_trace 16 = .ok (.ifCond .eq 12, 3) := dk_153 0 12 (dk_at dksX6_trace_0 16 rfl rfl)
theorem dX6_trace_19 : decode cX6_trace 19 = .ok (.aload_n 0, 1) := dk_42 (dk_at dksX6_trace_0 19 rfl rfl)
theorem dX6_trace_20 : decode cX6_trace 20 = .ok (.getfield 65, 3) := dk_180 0 65 (dk_at dksX6_trace_0 20 rfl rfl)
theorem dX6_trace_23 : decode cX6_trace 23 = .ok (.iload_n 1, 1) := dk_27 (dk_at dksX6_trace_0 23 rfl rfl)
theorem dX6_trace_24 : decode cX6_trace 24 = .ok (.iaload, 1) := dk_46 (dk_at dksX6_trace_1 0 rfl rfl)
theorem dX6_trace_25 : decode cX6_trace 25 = .ok (.goto 4, 3) := dk_167 0 4 (dk_at dksX6_trace_1 1 rfl rfl)
theorem dX6_trace_28 : decode cX6_trace 28 = .ok (.iconst (-1), 1) := dk_2 (dk_at dksX6_trace_1 4 rfl rfl)
theorem dX6_trace_29 : decode cX6_trace 29 = .ok (.ireturn, 1) := dk_172 (dk_at dksX6_trace_1 5 rfl rfl)
abbrev cX6_taken : ByteArray := prog_23_method_62_code
def yX6_taken : MethodName := ⟨RX6, "taken", "(II)I"⟩
def dkwX6_taken_2 : List UInt8 := [167, 255, 239, 29, 28, 160, 0, 12, 42, 27, 3, 182, 0, 89, 167, 0, 5, 16, 244, 172]
abbrev dktX6_taken_2 : List UInt8 := dkwX6_taken_2 ++ []
def dkwX6_taken_1 : List UInt8 := [42, 27, 3, 182, 0, 89, 62, 29, 2, 159, 0, 18, 29, 28, 159, 0, 13, 42, 180, 0, 59, 29, 46, 62]
abbrev dktX6_taken_1 : List UInt8 := dkwX6_taken_1 ++ dktX6_taken_2
def dkwX6_taken_0 : List UInt8 := [28, 3, 16, 6, 184, 0, 85, 154, 0, 6, 16, 254, 172, 42, 27, 182, 0, 101, 154, 0, 6, 16, 245, 172]
abbrev dktX6_taken_0 : List UInt8 := dkwX6_taken_0 ++ dktX6_taken_1
theorem dksX6_taken_0 : cX6_taken.data.toList.drop 0 = dktX6_taken_0 := by decide +kernel
theorem dksX6_taken_1 : cX6_taken.data.toList.drop 24 = dktX6_taken_1 := dk_seg dksX6_taken_0 24 rfl rfl
theorem dksX6_taken_2 : cX6_taken.data.toList.drop 48 = dktX6_taken_2 := dk_seg dksX6_taken_1 24 rfl rfl
theorem dX6_taken_0 : decode cX6_taken 0 = .ok (.iload_n 2, 1) := dk_28 (dk_at dksX6_taken_0 0 rfl rfl)
theorem dX6_taken_1 : decode cX6_taken 1 = .ok (.iconst 0, 1) := dk_3 (dk_at dksX6_taken_0 1 rfl rfl)
theorem dX6_taken_2 : decode cX6_taken 2 = .ok (.bipush 6, 2) := dk_16 6 (dk_at dksX6_taken_0 2 rfl rfl)
theorem dX6_taken_4 : decode cX6_taken 4 = .ok (.invokestatic 85, 3) := dk_184 0 85 (dk_at dksX6_taken_0 4 rfl rfl)
theorem dX6_taken_7 : decode cX6_taken 7 = .ok (.ifCond .ne 6, 3) := dk_154 0 6 (dk_at dksX6_taken_0 7 rfl rfl)
theorem dX6_taken_10 : decode cX6_taken 10 = .ok (.bipush (-2), 2) := dk_16 254 (dk_at dksX6_taken_0 10 rfl rfl)
theorem dX6_taken_12 : decode cX6_taken 12 = .ok (.ireturn, 1) := dk_172 (dk_at dksX6_taken_0 12 rfl rfl)
theorem dX6_taken_13 : decode cX6_taken 13 = .ok (.aload_n 0, 1) := dk_42 (dk_at dksX6_taken_0 13 rfl rfl)
theorem dX6_taken_14 : decode cX6_taken 14 = .ok (.iload_n 1, 1) := dk_27 (dk_at dksX6_taken_0 14 rfl rfl)
theorem dX6_taken_15 : decode cX6_taken 15 = .ok (.invokevirtual 101, 3) := dk_182 0 101 (dk_at dksX6_taken_0 15 rfl rfl)
theorem dX6_taken_18 : decode cX6_taken 18 = .ok (.ifCond .ne 6, 3) := dk_154 0 6 (dk_at dksX6_taken_0 18 rfl rfl)
theorem dX6_taken_21 : decode cX6_taken 21 = .ok (.bipush (-11), 2) := dk_16 245 (dk_at dksX6_taken_0 21 rfl rfl)
theorem dX6_taken_23 : decode cX6_taken 23 = .ok (.ireturn, 1) := dk_172 (dk_at dksX6_taken_0 23 rfl rfl)
theorem dX6_taken_24 : decode cX6_taken 24 = .ok (.aload_n 0, 1) := dk_42 (dk_at dksX6_taken_1 0 rfl rfl)
theorem dX6_taken_25 : decode cX6_taken 25 = .ok (.iload_n 1, 1) := dk_27 (dk_at dksX6_taken_1 1 rfl rfl)
theorem dX6_taken_26 : decode cX6_taken 26 = .ok (.iconst 0, 1) := dk_3 (dk_at dksX6_taken_1 2 rfl rfl)
theorem dX6_taken_27 : decode cX6_taken 27 = .ok (.invokevirtual 89, 3) := dk_182 0 89 (dk_at dksX6_taken_1 3 rfl rfl)
theorem dX6_taken_30 : decode cX6_taken 30 = .ok (.istore_n 3, 1) := dk_62 (dk_at dksX6_taken_1 6 rfl rfl)
theorem dX6_taken_31 : decode cX6_taken 31 = .ok (.iload_n 3, 1) := dk_29 (dk_at dksX6_taken_1 7 rfl rfl)
theorem dX6_taken_32 : decode cX6_taken 32 = .ok (.iconst (-1), 1) := dk_2 (dk_at dksX6_taken_1 8 rfl rfl)
theorem dX6_taken_33 : decode cX6_taken 33 = .ok (.if_icmp .eq 18, 3) := dk_159 0 18 (dk_at dksX6_taken_1 9 rfl rfl)
theorem dX6_taken_36 : decode cX6_taken 36 = .ok (.iload_n 3, 1) := dk_29 (dk_at dksX6_taken_1 12 rfl rfl)
theorem dX6_taken_37 : decode cX6_taken 37 = .ok (.iload_n 2, 1) := dk_28 (dk_at dksX6_taken_1 13 rfl rfl)
theorem dX6_taken_38 : decode cX6_taken 38 = .ok (.if_icmp .eq 13, 3) := dk_159 0 13 (dk_at dksX6_taken_1 14 rfl rfl)
theorem dX6_taken_41 : decode cX6_taken 41 = .ok (.aload_n 0, 1) := dk_42 (dk_at dksX6_taken_1 17 rfl rfl)
theorem dX6_taken_42 : decode cX6_taken 42 = .ok (.getfield 59, 3) := dk_180 0 59 (dk_at dksX6_taken_1 18 rfl rfl)
theorem dX6_taken_45 : decode cX6_taken 45 = .ok (.iload_n 3, 1) := dk_29 (dk_at dksX6_taken_1 21 rfl rfl)
theorem dX6_taken_46 : decode cX6_taken 46 = .ok (.iaload, 1) := dk_46 (dk_at dksX6_taken_1 22 rfl rfl)
theorem dX6_taken_47 : decode cX6_taken 47 = .ok (.istore_n 3, 1) := dk_62 (dk_at dksX6_taken_1 23 rfl rfl)
theorem dX6_taken_48 : decode cX6_taken 48 = .ok (.goto (-17), 3) := dk_167 255 239 (dk_at dksX6_taken_2 0 rfl rfl)
theorem dX6_taken_51 : decode cX6_taken 51 = .ok (.iload_n 3, 1) := dk_29 (dk_at dksX6_taken_2 3 rfl rfl)
theorem dX6_taken_52 : decode cX6_taken 52 = .ok (.iload_n 2, 1) := dk_28 (dk_at dksX6_taken_2 4 rfl rfl)
theorem dX6_taken_53 : decode cX6_taken 53 = .ok (.if_icmp .ne 12, 3) := dk_160 0 12 (dk_at dksX6_taken_2 5 rfl rfl)
theorem dX6_taken_56 : decode cX6_taken 56 = .ok (.aload_n 0, 1) := dk_42 (dk_at dksX6_taken_2 8 rfl rfl)
theorem dX6_taken_57 : decode cX6_taken 57 = .ok (.iload_n 1, 1) := dk_27 (dk_at dksX6_taken_2 9 rfl rfl)
theorem dX6_taken_58 : decode cX6_taken 58 = .ok (.iconst 0, 1) := dk_3 (dk_at dksX6_taken_2 10 rfl rfl)
theorem dX6_taken_59 : decode cX6_taken 59 = .ok (.invokevirtual 89, 3) := dk_182 0 89 (dk_at dksX6_taken_2 11 rfl rfl)
theorem dX6_taken_62 : decode cX6_taken 62 = .ok (.goto 5, 3) := dk_167 0 5 (dk_at dksX6_taken_2 14 rfl rfl)
theorem dX6_taken_65 : decode cX6_taken 65 = .ok (.bipush (-12), 2) := dk_16 244 (dk_at dksX6_taken_2 17 rfl rfl)
theorem dX6_taken_67 : decode cX6_taken 67 = .ok (.ireturn, 1) := dk_172 (dk_at dksX6_taken_2 19 rfl rfl)
abbrev cX6_count : ByteArray := prog_23_method_63_code
def yX6_count : MethodName := ⟨RX6, "count", "(I)I"⟩
def dkwX6_count_4 : List UInt8 := [172, 16, 254, 172]
abbrev dktX6_count_4 : List UInt8 := dkwX6_count_4 ++ []
def dkwX6_count_3 : List UInt8 := [180, 0, 15, 16, 75, 46, 172, 42, 180, 0, 15, 16, 92, 46, 172, 42, 180, 0, 117, 172, 42, 180, 0, 228]
abbrev dktX6_count_3 : List UInt8 := dkwX6_count_3 ++ dktX6_count_4
def dkwX6_count_2 : List UInt8 := [42, 180, 0, 15, 16, 60, 46, 172, 42, 180, 0, 172, 172, 42, 180, 0, 15, 16, 64, 46, 172, 42]
abbrev dktX6_count_2 : List UInt8 := dkwX6_count_2 ++ dktX6_count_3
def dkwX6_count_1 : List UInt8 := [170, 0, 0, 0, 0, 0, 90, 0, 0, 0, 0, 0, 0, 0, 6, 0, 0, 0, 43, 0, 0, 0, 51, 0, 0, 0, 56, 0, 0, 0, 64, 0, 0, 0, 72, 0, 0, 0, 80, 0, 0, 0, 85]
abbrev dktX6_count_1 : List UInt8 := dkwX6_count_1 ++ dktX6_count_2
def dkwX6_count_0 : List UInt8 := [27]
abbrev dktX6_count_0 : List UInt8 := dkwX6_count_0 ++ dktX6_count_1
theorem dksX6_count_0 : cX6_count.data.toList.drop 0 = dktX6_count_0 := by decide +kernel
theorem dksX6_count_1 : cX6_count.data.toList.drop 1 = dktX6_count_1 := dk_seg dksX6_count_0 1 rfl rfl
theorem dksX6_count_2 : cX6_count.data.toList.drop 44 = dktX6_count_2 := dk_seg dksX6_count_1 43 rfl rfl
theorem dksX6_count_3 : cX6_count.data.toList.drop 66 = dktX6_count_3 := dk_seg dksX6_count_2 22 rfl rfl
theorem dksX6_count_4 : cX6_count.data.toList.drop 90 = dktX6_count_4 := dk_seg dksX6_count_3 24 rfl rfl
theorem dX6_count_0 : decode cX6_count 0 = .ok (.iload_n 1, 1) := dk_27 (dk_at dksX6_count_0 0 rfl rfl)
theorem dX6_count_1 : decode cX6_count 1 = .ok (.tableswitch 90 0 6 #[43, 51, 56, 64, 72, 80, 85], 43) := by decide +kernel
theorem dX6_count_44 : decode cX6_count 44 = .ok (.aload_n 0, 1) := dk_42 (dk_at dksX6_count_2 0 rfl rfl)
theorem dX6_count_45 : decode cX6_count 45 = .ok (.getfield 15, 3) := dk_180 0 15 (dk_at dksX6_count_2 1 rfl rfl)
theorem dX6_count_48 : decode cX6_count 48 = .ok (.bipush 60, 2) := dk_16 60 (dk_at dksX6_count_2 4 rfl rfl)
theorem dX6_count_50 : decode cX6_count 50 = .ok (.iaload, 1) := dk_46 (dk_at dksX6_count_2 6 rfl rfl)
theorem dX6_count_51 : decode cX6_count 51 = .ok (.ireturn, 1) := dk_172 (dk_at dksX6_count_2 7 rfl rfl)
theorem dX6_count_52 : decode cX6_count 52 = .ok (.aload_n 0, 1) := dk_42 (dk_at dksX6_count_2 8 rfl rfl)
theorem dX6_count_53 : decode cX6_count 53 = .ok (.getfield 172, 3) := dk_180 0 172 (dk_at dksX6_count_2 9 rfl rfl)
theorem dX6_count_56 : decode cX6_count 56 = .ok (.ireturn, 1) := dk_172 (dk_at dksX6_count_2 12 rfl rfl)
theorem dX6_count_57 : decode cX6_count 57 = .ok (.aload_n 0, 1) := dk_42 (dk_at dksX6_count_2 13 rfl rfl)
theorem dX6_count_58 : decode cX6_count 58 = .ok (.getfield 15, 3) := dk_180 0 15 (dk_at dksX6_count_2 14 rfl rfl)
theorem dX6_count_61 : decode cX6_count 61 = .ok (.bipush 64, 2) := dk_16 64 (dk_at dksX6_count_2 17 rfl rfl)
theorem dX6_count_63 : decode cX6_count 63 = .ok (.iaload, 1) := dk_46 (dk_at dksX6_count_2 19 rfl rfl)
theorem dX6_count_64 : decode cX6_count 64 = .ok (.ireturn, 1) := dk_172 (dk_at dksX6_count_2 20 rfl rfl)
theorem dX6_count_65 : decode cX6_count 65 = .ok (.aload_n 0, 1) := dk_42 (dk_at dksX6_count_2 21 rfl rfl)
theorem dX6_count_66 : decode cX6_count 66 = .ok (.getfield 15, 3) := dk_180 0 15 (dk_at dksX6_count_3 0 rfl rfl)
theorem dX6_count_69 : decode cX6_count 69 = .ok (.bipush 75, 2) := dk_16 75 (dk_at dksX6_count_3 3 rfl rfl)
theorem dX6_count_71 : decode cX6_count 71 = .ok (.iaload, 1) := dk_46 (dk_at dksX6_count_3 5 rfl rfl)
theorem dX6_count_72 : decode cX6_count 72 = .ok (.ireturn, 1) := dk_172 (dk_at dksX6_count_3 6 rfl rfl)
theorem dX6_count_73 : decode cX6_count 73 = .ok (.aload_n 0, 1) := dk_42 (dk_at dksX6_count_3 7 rfl rfl)
theorem dX6_count_74 : decode cX6_count 74 = .ok (.getfield 15, 3) := dk_180 0 15 (dk_at dksX6_count_3 8 rfl rfl)
theorem dX6_count_77 : decode cX6_count 77 = .ok (.bipush 92, 2) := dk_16 92 (dk_at dksX6_count_3 11 rfl rfl)
theorem dX6_count_79 : decode cX6_count 79 = .ok (.iaload, 1) := dk_46 (dk_at dksX6_count_3 13 rfl rfl)
theorem dX6_count_80 : decode cX6_count 80 = .ok (.ireturn, 1) := dk_172 (dk_at dksX6_count_3 14 rfl rfl)
theorem dX6_count_81 : decode cX6_count 81 = .ok (.aload_n 0, 1) := dk_42 (dk_at dksX6_count_3 15 rfl rfl)
theorem dX6_count_82 : decode cX6_count 82 = .ok (.getfield 117, 3) := dk_180 0 117 (dk_at dksX6_count_3 16 rfl rfl)
theorem dX6_count_85 : decode cX6_count 85 = .ok (.ireturn, 1) := dk_172 (dk_at dksX6_count_3 19 rfl rfl)
theorem dX6_count_86 : decode cX6_count 86 = .ok (.aload_n 0, 1) := dk_42 (dk_at dksX6_count_3 20 rfl rfl)
theorem dX6_count_87 : decode cX6_count 87 = .ok (.getfield 228, 3) := dk_180 0 228 (dk_at dksX6_count_3 21 rfl rfl)
theorem dX6_count_90 : decode cX6_count 90 = .ok (.ireturn, 1) := dk_172 (dk_at dksX6_count_4 0 rfl rfl)
theorem dX6_count_91 : decode cX6_count 91 = .ok (.bipush (-2), 2) := dk_16 254 (dk_at dksX6_count_4 1 rfl rfl)
theorem dX6_count_93 : decode cX6_count 93 = .ok (.ireturn, 1) := dk_172 (dk_at dksX6_count_4 3 rfl rfl)
abbrev cX6_tape : ByteArray := prog_23_method_65_code
def yX6_tape : MethodName := ⟨RX6, "tape", "(III)I"⟩
def dkwX6_tape_3 : List UInt8 := [162, 0, 22, 42, 180, 0, 74, 16, 60, 27, 104, 21, 4, 96, 9, 80, 132, 4, 1, 167, 255, 233, 4, 172]
abbrev dktX6_tape_3 : List UInt8 := dkwX6_tape_3 ++ []
def dkwX6_tape_2 : List UInt8 := [28, 79, 42, 180, 0, 71, 27, 28, 156, 0, 7, 3, 167, 0, 4, 29, 79, 3, 54, 4, 21, 4, 16, 60]
abbrev dktX6_tape_2 : List UInt8 := dkwX6_tape_2 ++ dktX6_tape_3
def dkwX6_tape_1 : List UInt8 := [16, 60, 164, 0, 6, 16, 254, 172, 28, 155, 0, 10, 29, 156, 0, 6, 16, 242, 172, 42, 180, 0, 68, 27]
abbrev dktX6_tape_1 : List UInt8 := dkwX6_tape_1 ++ dktX6_tape_2
def dkwX6_tape_0 : List UInt8 := [27, 184, 0, 241, 154, 0, 5, 2, 172, 28, 2, 7, 184, 0, 85, 153, 0, 13, 28, 155, 0, 12, 29]
abbrev dktX6_tape_0 : List UInt8 := dkwX6_tape_0 ++ dktX6_tape_1
theorem dksX6_tape_0 : cX6_tape.data.toList.drop 0 = dktX6_tape_0 := by decide +kernel
theorem dksX6_tape_1 : cX6_tape.data.toList.drop 23 = dktX6_tape_1 := dk_seg dksX6_tape_0 23 rfl rfl
theorem dksX6_tape_2 : cX6_tape.data.toList.drop 47 = dktX6_tape_2 := dk_seg dksX6_tape_1 24 rfl rfl
theorem dksX6_tape_3 : cX6_tape.data.toList.drop 71 = dktX6_tape_3 := dk_seg dksX6_tape_2 24 rfl rfl
theorem dX6_tape_0 : decode cX6_tape 0 = .ok (.iload_n 1, 1) := dk_27 (dk_at dksX6_tape_0 0 rfl rfl)
theorem dX6_tape_1 : decode cX6_tape 1 = .ok (.invokestatic 241, 3) := dk_184 0 241 (dk_at dksX6_tape_0 1 rfl rfl)
theorem dX6_tape_4 : decode cX6_tape 4 = .ok (.ifCond .ne 5, 3) := dk_154 0 5 (dk_at dksX6_tape_0 4 rfl rfl)
theorem dX6_tape_7 : decode cX6_tape 7 = .ok (.iconst (-1), 1) := dk_2 (dk_at dksX6_tape_0 7 rfl rfl)
theorem dX6_tape_8 : decode cX6_tape 8 = .ok (.ireturn, 1) := dk_172 (dk_at dksX6_tape_0 8 rfl rfl)
theorem dX6_tape_9 : decode cX6_tape 9 = .ok (.iload_n 2, 1) := dk_28 (dk_at dksX6_tape_0 9 rfl rfl)
theorem dX6_tape_10 : decode cX6_tape 10 = .ok (.iconst (-1), 1) := dk_2 (dk_at dksX6_tape_0 10 rfl rfl)
theorem dX6_tape_11 : decode cX6_tape 11 = .ok (.iconst 4, 1) := dk_7 (dk_at dksX6_tape_0 11 rfl rfl)
theorem dX6_tape_12 : decode cX6_tape 12 = .ok (.invokestatic 85, 3) := dk_184 0 85 (dk_at dksX6_tape_0 12 rfl rfl)
theorem dX6_tape_15 : decode cX6_tape 15 = .ok (.ifCond .eq 13, 3) := dk_153 0 13 (dk_at dksX6_tape_0 15 rfl rfl)
theorem dX6_tape_18 : decode cX6_tape 18 = .ok (.iload_n 2, 1) := dk_28 (dk_at dksX6_tape_0 18 rfl rfl)
theorem dX6_tape_19 : decode cX6_tape 19 = .ok (.ifCond .lt 12, 3) := dk_155 0 12 (dk_at dksX6_tape_0 19 rfl rfl)
theorem dX6_tape_22 : decode cX6_tape 22 = .ok (.iload_n 3, 1) := dk_29 (dk_at dksX6_tape_0 22 rfl rfl)
theorem dX6_tape_23 : decode cX6_tape 23 = .ok (.bipush 60, 2) := dk_16 60 (dk_at dksX6_tape_1 0 rfl rfl)
theorem dX6_tape_25 : decode cX6_tape 25 = .ok (.if_icmp .le 6, 3) := dk_164 0 6 (dk_at dksX6_tape_1 2 rfl rfl)
theorem dX6_tape_28 : decode cX6_tape 28 = .ok (.bipush (-2), 2) := dk_16 254 (dk_at dksX6_tape_1 5 rfl rfl)
theorem dX6_tape_30 : decode cX6_tape 30 = .ok (.ireturn, 1) := dk_172 (dk_at dksX6_tape_1 7 rfl rfl)
theorem dX6_tape_31 : decode cX6_tape 31 = .ok (.iload_n 2, 1) := dk_28 (dk_at dksX6_tape_1 8 rfl rfl)
theorem dX6_tape_32 : decode cX6_tape 32 = .ok (.ifCond .lt 10, 3) := dk_155 0 10 (dk_at dksX6_tape_1 9 rfl rfl)
theorem dX6_tape_35 : decode cX6_tape 35 = .ok (.iload_n 3, 1) := dk_29 (dk_at dksX6_tape_1 12 rfl rfl)
theorem dX6_tape_36 : decode cX6_tape 36 = .ok (.ifCond .ge 6, 3) := dk_156 0 6 (dk_at dksX6_tape_1 13 rfl rfl)
theorem dX6_tape_39 : decode cX6_tape 39 = .ok (.bipush (-14), 2) := dk_16 242 (dk_at dksX6_tape_1 16 rfl rfl)
theorem dX6_tape_41 : decode cX6_tape 41 = .ok (.ireturn, 1) := dk_172 (dk_at dksX6_tape_1 18 rfl rfl)
theorem dX6_tape_42 : decode cX6_tape 42 = .ok (.aload_n 0, 1) := dk_42 (dk_at dksX6_tape_1 19 rfl rfl)
theorem dX6_tape_43 : decode cX6_tape 43 = .ok (.getfield 68, 3) := dk_180 0 68 (dk_at dksX6_tape_1 20 rfl rfl)
theorem dX6_tape_46 : decode cX6_tape 46 = .ok (.iload_n 1, 1) := dk_27 (dk_at dksX6_tape_1 23 rfl rfl)
theorem dX6_tape_47 : decode cX6_tape 47 = .ok (.iload_n 2, 1) := dk_28 (dk_at dksX6_tape_2 0 rfl rfl)
theorem dX6_tape_48 : decode cX6_tape 48 = .ok (.iastore, 1) := dk_79 (dk_at dksX6_tape_2 1 rfl rfl)
theorem dX6_tape_49 : decode cX6_tape 49 = .ok (.aload_n 0, 1) := dk_42 (dk_at dksX6_tape_2 2 rfl rfl)
theorem dX6_tape_50 : decode cX6_tape 50 = .ok (.getfield 71, 3) := dk_180 0 71 (dk_at dksX6_tape_2 3 rfl rfl)
theorem dX6_tape_53 : decode cX6_tape 53 = .ok (.iload_n 1, 1) := dk_27 (dk_at dksX6_tape_2 6 rfl rfl)
theorem dX6_tape_54 : decode cX6_tape 54 = .ok (.iload_n 2, 1) := dk_28 (dk_at dksX6_tape_2 7 rfl rfl)
theorem dX6_tape_55 : decode cX6_tape 55 = .ok (.ifCond .ge 7, 3) := dk_156 0 7 (dk_at dksX6_tape_2 8 rfl rfl)
theorem dX6_tape_58 : decode cX6_tape 58 = .ok (.iconst 0, 1) := dk_3 (dk_at dksX6_tape_2 11 rfl rfl)
theorem dX6_tape_59 : decode cX6_tape 59 = .ok (.goto 4, 3) := dk_167 0 4 (dk_at dksX6_tape_2 12 rfl rfl)
theorem dX6_tape_62 : decode cX6_tape 62 = .ok (.iload_n 3, 1) := dk_29 (dk_at dksX6_tape_2 15 rfl rfl)
theorem dX6_tape_63 : decode cX6_tape 63 = .ok (.iastore, 1) := dk_79 (dk_at dksX6_tape_2 16 rfl rfl)
theorem dX6_tape_64 : decode cX6_tape 64 = .ok (.iconst 0, 1) := dk_3 (dk_at dksX6_tape_2 17 rfl rfl)
theorem dX6_tape_65 : decode cX6_tape 65 = .ok (.istore 4, 2) := dk_54 4 (dk_at dksX6_tape_2 18 rfl rfl)
theorem dX6_tape_67 : decode cX6_tape 67 = .ok (.iload 4, 2) := dk_21 4 (dk_at dksX6_tape_2 20 rfl rfl)
theorem dX6_tape_69 : decode cX6_tape 69 = .ok (.bipush 60, 2) := dk_16 60 (dk_at dksX6_tape_2 22 rfl rfl)
theorem dX6_tape_71 : decode cX6_tape 71 = .ok (.if_icmp .ge 22, 3) := dk_162 0 22 (dk_at dksX6_tape_3 0 rfl rfl)
theorem dX6_tape_74 : decode cX6_tape 74 = .ok (.aload_n 0, 1) := dk_42 (dk_at dksX6_tape_3 3 rfl rfl)
theorem dX6_tape_75 : decode cX6_tape 75 = .ok (.getfield 74, 3) := dk_180 0 74 (dk_at dksX6_tape_3 4 rfl rfl)
theorem dX6_tape_78 : decode cX6_tape 78 = .ok (.bipush 60, 2) := dk_16 60 (dk_at dksX6_tape_3 7 rfl rfl)
theorem dX6_tape_80 : decode cX6_tape 80 = .ok (.iload_n 1, 1) := dk_27 (dk_at dksX6_tape_3 9 rfl rfl)
theorem dX6_tape_81 : decode cX6_tape 81 = .ok (.imul, 1) := dk_104 (dk_at dksX6_tape_3 10 rfl rfl)
theorem dX6_tape_82 : decode cX6_tape 82 = .ok (.iload 4, 2) := dk_21 4 (dk_at dksX6_tape_3 11 rfl rfl)
theorem dX6_tape_84 : decode cX6_tape 84 = .ok (.iadd, 1) := dk_96 (dk_at dksX6_tape_3 13 rfl rfl)
theorem dX6_tape_85 : decode cX6_tape 85 = .ok (.lconst 0, 1) := dk_9 (dk_at dksX6_tape_3 14 rfl rfl)
theorem dX6_tape_86 : decode cX6_tape 86 = .ok (.lastore, 1) := dk_80 (dk_at dksX6_tape_3 15 rfl rfl)
theorem dX6_tape_87 : decode cX6_tape 87 = .ok (.iinc 4 1, 3) := dk_132 4 1 (dk_at dksX6_tape_3 16 rfl rfl)
theorem dX6_tape_90 : decode cX6_tape 90 = .ok (.goto (-23), 3) := dk_167 255 233 (dk_at dksX6_tape_3 19 rfl rfl)
theorem dX6_tape_93 : decode cX6_tape 93 = .ok (.iconst 1, 1) := dk_4 (dk_at dksX6_tape_3 22 rfl rfl)
theorem dX6_tape_94 : decode cX6_tape 94 = .ok (.ireturn, 1) := dk_172 (dk_at dksX6_tape_3 23 rfl rfl)
abbrev cX6_isTape : ByteArray := prog_23_method_64_code
def yX6_isTape : MethodName := ⟨RX6, "isTape", "(I)Z"⟩
def dkwX6_isTape_0 : List UInt8 := [26, 3, 8, 184, 0, 85, 172]
abbrev dktX6_isTape_0 : List UInt8 := dkwX6_isTape_0 ++ []
theorem dksX6_isTape_0 : cX6_isTape.data.toList.drop 0 = dktX6_isTape_0 := by decide +kernel
theorem dX6_isTape_0 : decode cX6_isTape 0 = .ok (.iload_n 0, 1) := dk_26 (dk_at dksX6_isTape_0 0 rfl rfl)
theorem dX6_isTape_1 : decode cX6_isTape 1 = .ok (.iconst 0, 1) := dk_3 (dk_at dksX6_isTape_0 1 rfl rfl)
theorem dX6_isTape_2 : decode cX6_isTape 2 = .ok (.iconst 5, 1) := dk_8 (dk_at dksX6_isTape_0 2 rfl rfl)
theorem dX6_isTape_3 : decode cX6_isTape 3 = .ok (.invokestatic 85, 3) := dk_184 0 85 (dk_at dksX6_isTape_0 3 rfl rfl)
theorem dX6_isTape_6 : decode cX6_isTape 6 = .ok (.ireturn, 1) := dk_172 (dk_at dksX6_isTape_0 6 rfl rfl)
abbrev cX6_item : ByteArray := prog_23_method_66_code
def yX6_item : MethodName := ⟨RX6, "item", "(IIJ)I"⟩
def dkwX6_item_4 : List UInt8 := [21, 5, 6, 160, 0, 7, 33, 167, 0, 14, 33, 9, 148, 153, 0, 7, 10, 167, 0, 4, 9, 80, 4, 172]
abbrev dktX6_item_4 : List UInt8 := dkwX6_item_4 ++ []
def dkwX6_item_3 : List UInt8 := [4, 160, 0, 10, 33, 136, 147, 133, 167, 0, 36, 21, 5, 5, 160, 0, 9, 33, 136, 133, 167, 0, 24]
abbrev dktX6_item_3 : List UInt8 := dkwX6_item_3 ++ dktX6_item_4
def dkwX6_item_2 : List UInt8 := [42, 180, 0, 74, 16, 60, 27, 104, 28, 96, 21, 5, 154, 0, 10, 33, 136, 145, 133, 167, 0, 49, 21, 5]
abbrev dktX6_item_2 : List UInt8 := dkwX6_item_2 ++ dktX6_item_3
def dkwX6_item_1 : List UInt8 := [180, 0, 71, 27, 46, 4, 100, 184, 0, 85, 154, 0, 6, 16, 243, 172, 42, 180, 0, 68, 27, 46, 54, 5]
abbrev dktX6_item_1 : List UInt8 := dkwX6_item_1 ++ dktX6_item_2
def dkwX6_item_0 : List UInt8 := [27, 184, 0, 241, 154, 0, 5, 2, 172, 42, 180, 0, 68, 27, 46, 156, 0, 6, 16, 245, 172, 28, 3, 42]
abbrev dktX6_item_0 : List UInt8 := dkwX6_item_0 ++ dktX6_item_1
theorem dksX6_item_0 : cX6_item.data.toList.drop 0 = dktX6_item_0 := by decide +kernel
theorem dksX6_item_1 : cX6_item.data.toList.drop 24 = dktX6_item_1 := dk_seg dksX6_item_0 24 rfl rfl
theorem dksX6_item_2 : cX6_item.data.toList.drop 48 = dktX6_item_2 := dk_seg dksX6_item_1 24 rfl rfl
theorem dksX6_item_3 : cX6_item.data.toList.drop 72 = dktX6_item_3 := dk_seg dksX6_item_2 24 rfl rfl
theorem dksX6_item_4 : cX6_item.data.toList.drop 95 = dktX6_item_4 := dk_seg dksX6_item_3 23 rfl rfl
theorem dX6_item_0 : decode cX6_item 0 = .ok (.iload_n 1, 1) := dk_27 (dk_at dksX6_item_0 0 rfl rfl)
theorem dX6_item_1 : decode cX6_item 1 = .ok (.invokestatic 241, 3) := dk_184 0 241 (dk_at dksX6_item_0 1 rfl rfl)
theorem dX6_item_4 : decode cX6_item 4 = .ok (.ifCond .ne 5, 3) := dk_154 0 5 (dk_at dksX6_item_0 4 rfl rfl)
theorem dX6_item_7 : decode cX6_item 7 = .ok (.iconst (-1), 1) := dk_2 (dk_at dksX6_item_0 7 rfl rfl)
theorem dX6_item_8 : decode cX6_item 8 = .ok (.ireturn, 1) := dk_172 (dk_at dksX6_item_0 8 rfl rfl)
theorem dX6_item_9 : decode cX6_item 9 = .ok (.aload_n 0, 1) := dk_42 (dk_at dksX6_item_0 9 rfl rfl)
theorem dX6_item_10 : decode cX6_item 10 = .ok (.getfield 68, 3) := dk_180 0 68 (dk_at dksX6_item_0 10 rfl rfl)
theorem dX6_item_13 : decode cX6_item 13 = .ok (.iload_n 1, 1) := dk_27 (dk_at dksX6_item_0 13 rfl rfl)
theorem dX6_item_14 : decode cX6_item 14 = .ok (.iaload, 1) := dk_46 (dk_at dksX6_item_0 14 rfl rfl)
theorem dX6_item_15 : decode cX6_item 15 = .ok (.ifCond .ge 6, 3) := dk_156 0 6 (dk_at dksX6_item_0 15 rfl rfl)
theorem dX6_item_18 : decode cX6_item 18 = .ok (.bipush (-11), 2) := dk_16 245 (dk_at dksX6_item_0 18 rfl rfl)
theorem dX6_item_20 : decode cX6_item 20 = .ok (.ireturn, 1) := dk_172 (dk_at dksX6_item_0 20 rfl rfl)
theorem dX6_item_21 : decode cX6_item 21 = .ok (.iload_n 2, 1) := dk_28 (dk_at dksX6_item_0 21 rfl rfl)
theorem dX6_item_22 : decode cX6_item 22 = .ok (.iconst 0, 1) := dk_3 (dk_at dksX6_item_0 22 rfl rfl)
theorem dX6_item_23 : decode cX6_item 23 = .ok (.aload_n 0, 1) := dk_42 (dk_at dksX6_item_0 23 rfl rfl)
theorem dX6_item_24 : decode cX6_item 24 = .ok (.getfield 71, 3) := dk_180 0 71 (dk_at dksX6_item_1 0 rfl rfl)
theorem dX6_item_27 : decode cX6_item 27 = .ok (.iload_n 1, 1) := dk_27 (dk_at dksX6_item_1 3 rfl rfl)
theorem dX6_item_28 : decode cX6_item 28 = .ok (.iaload, 1) := dk_46 (dk_at dksX6_item_1 4 rfl rfl)
theorem dX6_item_29 : decode cX6_item 29 = .ok (.iconst 1, 1) := dk_4 (dk_at dksX6_item_1 5 rfl rfl)
theorem dX6_item_30 : decode cX6_item 30 = .ok (.isub, 1) := dk_100 (dk_at dksX6_item_1 6 rfl rfl)
theorem dX6_item_31 : decode cX6_item 31 = .ok (.invokestatic 85, 3) := dk_184 0 85 (dk_at dksX6_item_1 7 rfl rfl)
theorem dX6_item_34 : decode cX6_item 34 = .ok (.ifCond .ne 6, 3) := dk_154 0 6 (dk_at dksX6_item_1 10 rfl rfl)
theorem dX6_item_37 : decode cX6_item 37 = .ok (.bipush (-13), 2) := dk_16 243 (dk_at dksX6_item_1 13 rfl rfl)
theorem dX6_item_39 : decode cX6_item 39 = .ok (.ireturn, 1) := dk_172 (dk_at dksX6_item_1 15 rfl rfl)
theorem dX6_item_40 : decode cX6_item 40 = .ok (.aload_n 0, 1) := dk_42 (dk_at dksX6_item_1 16 rfl rfl)
theorem dX6_item_41 : decode cX6_item 41 = .ok (.getfield 68, 3) := dk_180 0 68 (dk_at dksX6_item_1 17 rfl rfl)
theorem dX6_item_44 : decode cX6_item 44 = .ok (.iload_n 1, 1) := dk_27 (dk_at dksX6_item_1 20 rfl rfl)
theorem dX6_item_45 : decode cX6_item 45 = .ok (.iaload, 1) := dk_46 (dk_at dksX6_item_1 21 rfl rfl)
theorem dX6_item_46 : decode cX6_item 46 = .ok (.istore 5, 2) := dk_54 5 (dk_at dksX6_item_1 22 rfl rfl)
theorem dX6_item_48 : decode cX6_item 48 = .ok (.aload_n 0, 1) := dk_42 (dk_at dksX6_item_2 0 rfl rfl)
theorem dX6_item_49 : decode cX6_item 49 = .ok (.getfield 74, 3) := dk_180 0 74 (dk_at dksX6_item_2 1 rfl rfl)
theorem dX6_item_52 : decode cX6_item 52 = .ok (.bipush 60, 2) := dk_16 60 (dk_at dksX6_item_2 4 rfl rfl)
theorem dX6_item_54 : decode cX6_item 54 = .ok (.iload_n 1, 1) := dk_27 (dk_at dksX6_item_2 6 rfl rfl)
theorem dX6_item_55 : decode cX6_item 55 = .ok (.imul, 1) := dk_104 (dk_at dksX6_item_2 7 rfl rfl)
theorem dX6_item_56 : decode cX6_item 56 = .ok (.iload_n 2, 1) := dk_28 (dk_at dksX6_item_2 8 rfl rfl)
theorem dX6_item_57 : decode cX6_item 57 = .ok (.iadd, 1) := dk_96 (dk_at dksX6_item_2 9 rfl rfl)
theorem dX6_item_58 : decode cX6_item 58 = .ok (.iload 5, 2) := dk_21 5 (dk_at dksX6_item_2 10 rfl rfl)
theorem dX6_item_60 : decode cX6_item 60 = .ok (.ifCond .ne 10, 3) := dk_154 0 10 (dk_at dksX6_item_2 12 rfl rfl)
theorem dX6_item_63 : decode cX6_item 63 = .ok (.lload_n 3, 1) := dk_33 (dk_at dksX6_item_2 15 rfl rfl)
theorem dX6_item_64 : decode cX6_item 64 = .ok (.l2i, 1) := dk_136 (dk_at dksX6_item_2 16 rfl rfl)
theorem dX6_item_65 : decode cX6_item 65 = .ok (.i2b, 1) := dk_145 (dk_at dksX6_item_2 17 rfl rfl)
theorem dX6_item_66 : decode cX6_item 66 = .ok (.i2l, 1) := dk_133 (dk_at dksX6_item_2 18 rfl rfl)
theorem dX6_item_67 : decode cX6_item 67 = .ok (.goto 49, 3) := dk_167 0 49 (dk_at dksX6_item_2 19 rfl rfl)
theorem dX6_item_70 : decode cX6_item 70 = .ok (.iload 5, 2) := dk_21 5 (dk_at dksX6_item_2 22 rfl rfl)
theorem dX6_item_72 : decode cX6_item 72 = .ok (.iconst 1, 1) := dk_4 (dk_at dksX6_item_3 0 rfl rfl)
theorem dX6_item_73 : decode cX6_item 73 = .ok (.if_icmp .ne 10, 3) := dk_160 0 10 (dk_at dksX6_item_3 1 rfl rfl)
theorem dX6_item_76 : decode cX6_item 76 = .ok (.lload_n 3, 1) := dk_33 (dk_at dksX6_item_3 4 rfl rfl)
theorem dX6_item_77 : decode cX6_item 77 = .ok (.l2i, 1) := dk_136 (dk_at dksX6_item_3 5 rfl rfl)
theorem dX6_item_78 : decode cX6_item 78 = .ok (.i2s, 1) := dk_147 (dk_at dksX6_item_3 6 rfl rfl)
theorem dX6_item_79 : decode cX6_item 79 = .ok (.i2l, 1) := dk_133 (dk_at dksX6_item_3 7 rfl rfl)
theorem dX6_item_80 : decode cX6_item 80 = .ok (.goto 36, 3) := dk_167 0 36 (dk_at dksX6_item_3 8 rfl rfl)
theorem dX6_item_83 : decode cX6_item 83 = .ok (.iload 5, 2) := dk_21 5 (dk_at dksX6_item_3 11 rfl rfl)
theorem dX6_item_85 : decode cX6_item 85 = .ok (.iconst 2, 1) := dk_5 (dk_at dksX6_item_3 13 rfl rfl)
theorem dX6_item_86 : decode cX6_item 86 = .ok (.if_icmp .ne 9, 3) := dk_160 0 9 (dk_at dksX6_item_3 14 rfl rfl)
theorem dX6_item_89 : decode cX6_item 89 = .ok (.lload_n 3, 1) := dk_33 (dk_at dksX6_item_3 17 rfl rfl)
theorem dX6_item_90 : decode cX6_item 90 = .ok (.l2i, 1) := dk_136 (dk_at dksX6_item_3 18 rfl rfl)
theorem dX6_item_91 : decode cX6_item 91 = .ok (.i2l, 1) := dk_133 (dk_at dksX6_item_3 19 rfl rfl)
theorem dX6_item_92 : decode cX6_item 92 = .ok (.goto 24, 3) := dk_167 0 24 (dk_at dksX6_item_3 20 rfl rfl)
theorem dX6_item_95 : decode cX6_item 95 = .ok (.iload 5, 2) := dk_21 5 (dk_at dksX6_item_4 0 rfl rfl)
theorem dX6_item_97 : decode cX6_item 97 = .ok (.iconst 3, 1) := dk_6 (dk_at dksX6_item_4 2 rfl rfl)
theorem dX6_item_98 : decode cX6_item 98 = .ok (.if_icmp .ne 7, 3) := dk_160 0 7 (dk_at dksX6_item_4 3 rfl rfl)
theorem dX6_item_101 : decode cX6_item 101 = .ok (.lload_n 3, 1) := dk_33 (dk_at dksX6_item_4 6 rfl rfl)
theorem dX6_item_102 : decode cX6_item 102 = .ok (.goto 14, 3) := dk_167 0 14 (dk_at dksX6_item_4 7 rfl rfl)
theorem dX6_item_105 : decode cX6_item 105 = .ok (.lload_n 3, 1) := dk_33 (dk_at dksX6_item_4 10 rfl rfl)
theorem dX6_item_106 : decode cX6_item 106 = .ok (.lconst 0, 1) := dk_9 (dk_at dksX6_item_4 11 rfl rfl)
theorem dX6_item_107 : decode cX6_item 107 = .ok (.lcmp, 1) := dk_148 (dk_at dksX6_item_4 12 rfl rfl)
theorem dX6_item_108 : decode cX6_item 108 = .ok (.ifCond .eq 7, 3) := dk_153 0 7 (dk_at dksX6_item_4 13 rfl rfl)
theorem dX6_item_111 : decode cX6_item 111 = .ok (.lconst 1, 1) := dk_10 (dk_at dksX6_item_4 16 rfl rfl)
theorem dX6_item_112 : decode cX6_item 112 = .ok (.goto 4, 3) := dk_167 0 4 (dk_at dksX6_item_4 17 rfl rfl)
theorem dX6_item_115 : decode cX6_item 115 = .ok (.lconst 0, 1) := dk_9 (dk_at dksX6_item_4 20 rfl rfl)
theorem dX6_item_116 : decode cX6_item 116 = .ok (.lastore, 1) := dk_80 (dk_at dksX6_item_4 21 rfl rfl)
theorem dX6_item_117 : decode cX6_item 117 = .ok (.iconst 1, 1) := dk_4 (dk_at dksX6_item_4 22 rfl rfl)
theorem dX6_item_118 : decode cX6_item 118 = .ok (.ireturn, 1) := dk_172 (dk_at dksX6_item_4 23 rfl rfl)
abbrev cX6_read : ByteArray := prog_23_method_67_code
def yX6_read : MethodName := ⟨RX6, "read", "(II)J"⟩
def dkwX6_read_1 : List UInt8 := [180, 0, 74, 16, 60, 27, 104, 28, 96, 47, 167, 0, 6, 20, 0, 222, 173]
abbrev dktX6_read_1 : List UInt8 := dkwX6_read_1 ++ []
def dkwX6_read_0 : List UInt8 := [27, 184, 0, 241, 153, 0, 33, 28, 3, 42, 180, 0, 71, 27, 46, 4, 100, 184, 0, 85, 153, 0, 17, 42]
abbrev dktX6_read_0 : List UInt8 := dkwX6_read_0 ++ dktX6_read_1
theorem dksX6_read_0 : cX6_read.data.toList.drop 0 = dktX6_read_0 := by decide +kernel
theorem dksX6_read_1 : cX6_read.data.toList.drop 24 = dktX6_read_1 := dk_seg dksX6_read_0 24 rfl rfl
theorem dX6_read_0 : decode cX6_read 0 = .ok (.iload_n 1, 1) := dk_27 (dk_at dksX6_read_0 0 rfl rfl)
theorem dX6_read_1 : decode cX6_read 1 = .ok (.invokestatic 241, 3) := dk_184 0 241 (dk_at dksX6_read_0 1 rfl rfl)
theorem dX6_read_4 : decode cX6_read 4 = .ok (.ifCond .eq 33, 3) := dk_153 0 33 (dk_at dksX6_read_0 4 rfl rfl)
theorem dX6_read_7 : decode cX6_read 7 = .ok (.iload_n 2, 1) := dk_28 (dk_at dksX6_read_0 7 rfl rfl)
theorem dX6_read_8 : decode cX6_read 8 = .ok (.iconst 0, 1) := dk_3 (dk_at dksX6_read_0 8 rfl rfl)
theorem dX6_read_9 : decode cX6_read 9 = .ok (.aload_n 0, 1) := dk_42 (dk_at dksX6_read_0 9 rfl rfl)
theorem dX6_read_10 : decode cX6_read 10 = .ok (.getfield 71, 3) := dk_180 0 71 (dk_at dksX6_read_0 10 rfl rfl)
theorem dX6_read_13 : decode cX6_read 13 = .ok (.iload_n 1, 1) := dk_27 (dk_at dksX6_read_0 13 rfl rfl)
theorem dX6_read_14 : decode cX6_read 14 = .ok (.iaload, 1) := dk_46 (dk_at dksX6_read_0 14 rfl rfl)
theorem dX6_read_15 : decode cX6_read 15 = .ok (.iconst 1, 1) := dk_4 (dk_at dksX6_read_0 15 rfl rfl)
theorem dX6_read_16 : decode cX6_read 16 = .ok (.isub, 1) := dk_100 (dk_at dksX6_read_0 16 rfl rfl)
theorem dX6_read_17 : decode cX6_read 17 = .ok (.invokestatic 85, 3) := dk_184 0 85 (dk_at dksX6_read_0 17 rfl rfl)
theorem dX6_read_20 : decode cX6_read 20 = .ok (.ifCond .eq 17, 3) := dk_153 0 17 (dk_at dksX6_read_0 20 rfl rfl)
theorem dX6_read_23 : decode cX6_read 23 = .ok (.aload_n 0, 1) := dk_42 (dk_at dksX6_read_0 23 rfl rfl)
theorem dX6_read_24 : decode cX6_read 24 = .ok (.getfield 74, 3) := dk_180 0 74 (dk_at dksX6_read_1 0 rfl rfl)
theorem dX6_read_27 : decode cX6_read 27 = .ok (.bipush 60, 2) := dk_16 60 (dk_at dksX6_read_1 3 rfl rfl)
theorem dX6_read_29 : decode cX6_read 29 = .ok (.iload_n 1, 1) := dk_27 (dk_at dksX6_read_1 5 rfl rfl)
theorem dX6_read_30 : decode cX6_read 30 = .ok (.imul, 1) := dk_104 (dk_at dksX6_read_1 6 rfl rfl)
theorem dX6_read_31 : decode cX6_read 31 = .ok (.iload_n 2, 1) := dk_28 (dk_at dksX6_read_1 7 rfl rfl)
theorem dX6_read_32 : decode cX6_read 32 = .ok (.iadd, 1) := dk_96 (dk_at dksX6_read_1 8 rfl rfl)
theorem dX6_read_33 : decode cX6_read 33 = .ok (.laload, 1) := dk_47 (dk_at dksX6_read_1 9 rfl rfl)
theorem dX6_read_34 : decode cX6_read 34 = .ok (.goto 6, 3) := dk_167 0 6 (dk_at dksX6_read_1 10 rfl rfl)
theorem dX6_read_37 : decode cX6_read 37 = .ok (.ldc2_w 222, 3) := dk_20 0 222 (dk_at dksX6_read_1 13 rfl rfl)
theorem dX6_read_40 : decode cX6_read 40 = .ok (.lreturn, 1) := dk_173 (dk_at dksX6_read_1 16 rfl rfl)
abbrev cX6_shift : ByteArray := prog_23_method_68_code
def yX6_shift : MethodName := ⟨RX6, "shift", "(IIIII)I"⟩
def dkwX6_shift_7 : List UInt8 := [180, 0, 78, 21, 6, 47, 80, 132, 6, 1, 167, 255, 224, 21, 5, 172]
abbrev dktX6_shift_7 : List UInt8 := dkwX6_shift_7 ++ []
def dkwX6_shift_6 : List UInt8 := [54, 6, 21, 6, 21, 5, 162, 0, 31, 42, 180, 0, 74, 16, 60, 29, 104, 21, 4, 96, 21, 6, 96, 42]
abbrev dktX6_shift_6 : List UInt8 := dkwX6_shift_6 ++ dktX6_shift_7
def dkwX6_shift_5 : List UInt8 := [21, 6, 42, 180, 0, 74, 16, 60, 27, 104, 28, 96, 21, 6, 96, 47, 80, 132, 6, 1, 167, 255, 225, 3]
abbrev dktX6_shift_5 : List UInt8 := dkwX6_shift_5 ++ dktX6_shift_6
def dkwX6_shift_4 : List UInt8 := [21, 4, 100, 164, 0, 6, 16, 243, 172, 3, 54, 6, 21, 6, 21, 5, 162, 0, 30, 42, 180, 0, 78]
abbrev dktX6_shift_4 : List UInt8 := dkwX6_shift_4 ++ dktX6_shift_5
def dkwX6_shift_3 : List UInt8 := [155, 0, 30, 21, 5, 42, 180, 0, 71, 27, 46, 28, 100, 163, 0, 17, 21, 5, 42, 180, 0, 71, 29, 46]
abbrev dktX6_shift_3 : List UInt8 := dkwX6_shift_3 ++ dktX6_shift_4
def dkwX6_shift_2 : List UInt8 := [180, 0, 68, 29, 46, 159, 0, 6, 16, 244, 172, 21, 5, 155, 0, 39, 28, 155, 0, 35, 21, 4]
abbrev dktX6_shift_2 : List UInt8 := dkwX6_shift_2 ++ dktX6_shift_3
def dkwX6_shift_1 : List UInt8 := [155, 0, 12, 42, 180, 0, 68, 29, 46, 156, 0, 6, 16, 245, 172, 42, 180, 0, 68, 27, 46, 42]
abbrev dktX6_shift_1 : List UInt8 := dkwX6_shift_1 ++ dktX6_shift_2
def dkwX6_shift_0 : List UInt8 := [27, 184, 0, 241, 153, 0, 10, 29, 184, 0, 241, 154, 0, 5, 2, 172, 42, 180, 0, 68, 27, 46]
abbrev dktX6_shift_0 : List UInt8 := dkwX6_shift_0 ++ dktX6_shift_1
theorem dksX6_shift_0 : cX6_shift.data.toList.drop 0 = dktX6_shift_0 := by decide +kernel
theorem dksX6_shift_1 : cX6_shift.data.toList.drop 22 = dktX6_shift_1 := dk_seg dksX6_shift_0 22 rfl rfl
theorem dksX6_shift_2 : cX6_shift.data.toList.drop 44 = dktX6_shift_2 := dk_seg dksX6_shift_1 22 rfl rfl
theorem dksX6_shift_3 : cX6_shift.data.toList.drop 66 = dktX6_shift_3 := dk_seg dksX6_shift_2 22 rfl rfl
theorem dksX6_shift_4 : cX6_shift.data.toList.drop 90 = dktX6_shift_4 := dk_seg dksX6_shift_3 24 rfl rfl
theorem dksX6_shift_5 : cX6_shift.data.toList.drop 113 = dktX6_shift_5 := dk_seg dksX6_shift_4 23 rfl rfl
theorem dksX6_shift_6 : cX6_shift.data.toList.drop 137 = dktX6_shift_6 := dk_seg dksX6_shift_5 24 rfl rfl
theorem dksX6_shift_7 : cX6_shift.data.toList.drop 161 = dktX6_shift_7 := dk_seg dksX6_shift_6 24 rfl rfl
theorem dX6_shift_0 : decode cX6_shift 0 = .ok (.iload_n 1, 1) := dk_27 (dk_at dksX6_shift_0 0 rfl rfl)
theorem dX6_shift_1 : decode cX6_shift 1 = .ok (.invokestatic 241, 3) := dk_184 0 241 (dk_at dksX6_shift_0 1 rfl rfl)
theorem dX6_shift_4 : decode cX6_shift 4 = .ok (.ifCond .eq 10, 3) := dk_153 0 10 (dk_at dksX6_shift_0 4 rfl rfl)
theorem dX6_shift_7 : decode cX6_shift 7 = .ok (.iload_n 3, 1) := dk_29 (dk_at dksX6_shift_0 7 rfl rfl)
theorem dX6_shift_8 : decode cX6_shift 8 = .ok (.invokestatic 241, 3) := dk_184 0 241 (dk_at dksX6_shift_0 8 rfl rfl)
theorem dX6_shift_11 : decode cX6_shift 11 = .ok (.ifCond .ne 5, 3) := dk_154 0 5 (dk_at dksX6_shift_0 11 rfl rfl)
theorem dX6_shift_14 : decode cX6_shift 14 = .ok (.iconst (-1), 1) := dk_2 (dk_at dksX6_shift_0 14 rfl rfl)
theorem dX6_shift_15 : decode cX6_shift 15 = .ok (.ireturn, 1) := dk_172 (dk_at dksX6_shift_0 15 rfl rfl)
theorem dX6_shift_16 : decode cX6_shift 16 = .ok (.aload_n 0, 1) := dk_42 (dk_at dksX6_shift_0 16 rfl rfl)
theorem dX6_shift_17 : decode cX6_shift 17 = .ok (.getfield 68, 3) := dk_180 0 68 (dk_at dksX6_shift_0 17 rfl rfl)
theorem dX6_shift_20 : decode cX6_shift 20 = .ok (.iload_n 1, 1) := dk_27 (dk_at dksX6_shift_0 20 rfl rfl)
theorem dX6_shift_21 : decode cX6_shift 21 = .ok (.iaload, 1) := dk_46 (dk_at dksX6_shift_0 21 rfl rfl)
theorem dX6_shift_22 : decode cX6_shift 22 = .ok (.ifCond .lt 12, 3) := dk_155 0 12 (dk_at dksX6_shift_1 0 rfl rfl)
theorem dX6_shift_25 : decode cX6_shift 25 = .ok (.aload_n 0, 1) := dk_42 (dk_at dksX6_shift_1 3 rfl rfl)
theorem dX6_shift_26 : decode cX6_shift 26 = .ok (.getfield 68, 3) := dk_180 0 68 (dk_at dksX6_shift_1 4 rfl rfl)
theorem dX6_shift_29 : decode cX6_shift 29 = .ok (.iload_n 3, 1) := dk_29 (dk_at dksX6_shift_1 7 rfl rfl)
theorem dX6_shift_30 : decode cX6_shift 30 = .ok (.iaload, 1) := dk_46 (dk_at dksX6_shift_1 8 rfl rfl)
theorem dX6_shift_31 : decode cX6_shift 31 = .ok (.ifCond .ge 6, 3) := dk_156 0 6 (dk_at dksX6_shift_1 9 rfl rfl)
theorem dX6_shift_34 : decode cX6_shift 34 = .ok (.bipush (-11), 2) := dk_16 245 (dk_at dksX6_shift_1 12 rfl rfl)
theorem dX6_shift_36 : decode cX6_shift 36 = .ok (.ireturn, 1) := dk_172 (dk_at dksX6_shift_1 14 rfl rfl)
theorem dX6_shift_37 : decode cX6_shift 37 = .ok (.aload_n 0, 1) := dk_42 (dk_at dksX6_shift_1 15 rfl rfl)
theorem dX6_shift_38 : decode cX6_shift 38 = .ok (.getfield 68, 3) := dk_180 0 68 (dk_at dksX6_shift_1 16 rfl rfl)
theorem dX6_shift_41 : decode cX6_shift 41 = .ok (.iload_n 1, 1) := dk_27 (dk_at dksX6_shift_1 19 rfl rfl)
theorem dX6_shift_42 : decode cX6_shift 42 = .ok (.iaload, 1) := dk_46 (dk_at dksX6_shift_1 20 rfl rfl)
theorem dX6_shift_43 : decode cX6_shift 43 = .ok (.aload_n 0, 1) := dk_42 (dk_at dksX6_shift_1 21 rfl rfl)
theorem dX6_shift_44 : decode cX6_shift 44 = .ok (.getfield 68, 3) := dk_180 0 68 (dk_at dksX6_shift_2 0 rfl rfl)
theorem dX6_shift_47 : decode cX6_shift 47 = .ok (.iload_n 3, 1) := dk_29 (dk_at dksX6_shift_2 3 rfl rfl)
theorem dX6_shift_48 : decode cX6_shift 48 = .ok (.iaload, 1) := dk_46 (dk_at dksX6_shift_2 4 rfl rfl)
theorem dX6_shift_49 : decode cX6_shift 49 = .ok (.if_icmp .eq 6, 3) := dk_159 0 6 (dk_at dksX6_shift_2 5 rfl rfl)
theorem dX6_shift_52 : decode cX6_shift 52 = .ok (.bipush (-12), 2) := dk_16 244 (dk_at dksX6_shift_2 8 rfl rfl)
theorem dX6_shift_54 : decode cX6_shift 54 = .ok (.ireturn, 1) := dk_172 (dk_at dksX6_shift_2 10 rfl rfl)
theorem dX6_shift_55 : decode cX6_shift 55 = .ok (.iload 5, 2) := dk_21 5 (dk_at dksX6_shift_2 11 rfl rfl)
theorem dX6_shift_57 : decode cX6_shift 57 = .ok (.ifCond .lt 39, 3) := dk_155 0 39 (dk_at dksX6_shift_2 13 rfl rfl)
theorem dX6_shift_60 : decode cX6_shift 60 = .ok (.iload_n 2, 1) := dk_28 (dk_at dksX6_shift_2 16 rfl rfl)
theorem dX6_shift_61 : decode cX6_shift 61 = .ok (.ifCond .lt 35, 3) := dk_155 0 35 (dk_at dksX6_shift_2 17 rfl rfl)
theorem dX6_shift_64 : decode cX6_shift 64 = .ok (.iload 4, 2) := dk_21 4 (dk_at dksX6_shift_2 20 rfl rfl)
theorem dX6_shift_66 : decode cX6_shift 66 = .ok (.ifCond .lt 30, 3) := dk_155 0 30 (dk_at dksX6_shift_3 0 rfl rfl)
theorem dX6_shift_69 : decode cX6_shift 69 = .ok (.iload 5, 2) := dk_21 5 (dk_at dksX6_shift_3 3 rfl rfl)
theorem dX6_shift_71 : decode cX6_shift 71 = .ok (.aload_n 0, 1) := dk_42 (dk_at dksX6_shift_3 5 rfl rfl)
theorem dX6_shift_72 : decode cX6_shift 72 = .ok (.getfield 71, 3) := dk_180 0 71 (dk_at dksX6_shift_3 6 rfl rfl)
theorem dX6_shift_75 : decode cX6_shift 75 = .ok (.iload_n 1, 1) := dk_27 (dk_at dksX6_shift_3 9 rfl rfl)
theorem dX6_shift_76 : decode cX6_shift 76 = .ok (.iaload, 1) := dk_46 (dk_at dksX6_shift_3 10 rfl rfl)
theorem dX6_shift_77 : decode cX6_shift 77 = .ok (.iload_n 2, 1) := dk_28 (dk_at dksX6_shift_3 11 rfl rfl)
theorem dX6_shift_78 : decode cX6_shift 78 = .ok (.isub, 1) := dk_100 (dk_at dksX6_shift_3 12 rfl rfl)
theorem dX6_shift_79 : decode cX6_shift 79 = .ok (.if_icmp .gt 17, 3) := dk_163 0 17 (dk_at dksX6_shift_3 13 rfl rfl)
theorem dX6_shift_82 : decode cX6_shift 82 = .ok (.iload 5, 2) := dk_21 5 (dk_at dksX6_shift_3 16 rfl rfl)
theorem dX6_shift_84 : decode cX6_shift 84 = .ok (.aload_n 0, 1) := dk_42 (dk_at dksX6_shift_3 18 rfl rfl)
theorem dX6_shift_85 : decode cX6_shift 85 = .ok (.getfield 71, 3) := dk_180 0 71 (dk_at dksX6_shift_3 19 rfl rfl)
theorem dX6_shift_88 : decode cX6_shift 88 = .ok (.iload_n 3, 1) := dk_29 (dk_at dksX6_shift_3 22 rfl rfl)
theorem dX6_shift_89 : decode cX6_shift 89 = .ok (.iaload, 1) := dk_46 (dk_at dksX6_shift_3 23 rfl rfl)
theorem dX6_shift_90 : decode cX6_shift 90 = .ok (.iload 4, 2) := dk_21 4 (dk_at dksX6_shift_4 0 rfl rfl)
theorem dX6_shift_92 : decode cX6_shift 92 = .ok (.isub, 1) := dk_100 (dk_at dksX6_shift_4 2 rfl rfl)
theorem dX6_shift_93 : decode cX6_shift 93 = .ok (.if_icmp .le 6, 3) := dk_164 0 6 (dk_at dksX6_shift_4 3 rfl rfl)
theorem dX6_shift_96 : decode cX6_shift 96 = .ok (.bipush (-13), 2) := dk_16 243 (dk_at dksX6_shift_4 6 rfl rfl)
theorem dX6_shift_98 : decode cX6_shift 98 = .ok (.ireturn, 1) := dk_172 (dk_at dksX6_shift_4 8 rfl rfl)
theorem dX6_shift_99 : decode cX6_shift 99 = .ok (.iconst 0, 1) := dk_3 (dk_at dksX6_shift_4 9 rfl rfl)
theorem dX6_shift_100 : decode cX6_shift 100 = .ok (.istore 6, 2) := dk_54 6 (dk_at dksX6_shift_4 10 rfl rfl)
theorem dX6_shift_102 : decode cX6_shift 102 = .ok (.iload 6, 2) := dk_21 6 (dk_at dksX6_shift_4 12 rfl rfl)
theorem dX6_shift_104 : decode cX6_shift 104 = .ok (.iload 5, 2) := dk_21 5 (dk_at dksX6_shift_4 14 rfl rfl)
theorem dX6_shift_106 : decode cX6_shift 106 = .ok (.if_icmp .ge 30, 3) := dk_162 0 30 (dk_at dksX6_shift_4 16 rfl rfl)
theorem dX6_shift_109 : decode cX6_shift 109 = .ok (.aload_n 0, 1) := dk_42 (dk_at dksX6_shift_4 19 rfl rfl)
theorem dX6_shift_110 : decode cX6_shift 110 = .ok (.getfield 78, 3) := dk_180 0 78 (dk_at dksX6_shift_4 20 rfl rfl)
theorem dX6_shift_113 : decode cX6_shift 113 = .ok (.iload 6, 2) := dk_21 6 (dk_at dksX6_shift_5 0 rfl rfl)
theorem dX6_shift_115 : decode cX6_shift 115 = .ok (.aload_n 0, 1) := dk_42 (dk_at dksX6_shift_5 2 rfl rfl)
theorem dX6_shift_116 : decode cX6_shift 116 = .ok (.getfield 74, 3) := dk_180 0 74 (dk_at dksX6_shift_5 3 rfl rfl)
theorem dX6_shift_119 : decode cX6_shift 119 = .ok (.bipush 60, 2) := dk_16 60 (dk_at dksX6_shift_5 6 rfl rfl)
theorem dX6_shift_121 : decode cX6_shift 121 = .ok (.iload_n 1, 1) := dk_27 (dk_at dksX6_shift_5 8 rfl rfl)
theorem dX6_shift_122 : decode cX6_shift 122 = .ok (.imul, 1) := dk_104 (dk_at dksX6_shift_5 9 rfl rfl)
theorem dX6_shift_123 : decode cX6_shift 123 = .ok (.iload_n 2, 1) := dk_28 (dk_at dksX6_shift_5 10 rfl rfl)
theorem dX6_shift_124 : decode cX6_shift 124 = .ok (.iadd, 1) := dk_96 (dk_at dksX6_shift_5 11 rfl rfl)
theorem dX6_shift_125 : decode cX6_shift 125 = .ok (.iload 6, 2) := dk_21 6 (dk_at dksX6_shift_5 12 rfl rfl)
theorem dX6_shift_127 : decode cX6_shift 127 = .ok (.iadd, 1) := dk_96 (dk_at dksX6_shift_5 14 rfl rfl)
theorem dX6_shift_128 : decode cX6_shift 128 = .ok (.laload, 1) := dk_47 (dk_at dksX6_shift_5 15 rfl rfl)
theorem dX6_shift_129 : decode cX6_shift 129 = .ok (.lastore, 1) := dk_80 (dk_at dksX6_shift_5 16 rfl rfl)
theorem dX6_shift_130 : decode cX6_shift 130 = .ok (.iinc 6 1, 3) := dk_132 6 1 (dk_at dksX6_shift_5 17 rfl rfl)
theorem dX6_shift_133 : decode cX6_shift 133 = .ok (.goto (-31), 3) := dk_167 255 225 (dk_at dksX6_shift_5 20 rfl rfl)
theorem dX6_shift_136 : decode cX6_shift 136 = .ok (.iconst 0, 1) := dk_3 (dk_at dksX6_shift_5 23 rfl rfl)
theorem dX6_shift_137 : decode cX6_shift 137 = .ok (.istore 6, 2) := dk_54 6 (dk_at dksX6_shift_6 0 rfl rfl)
theorem dX6_shift_139 : decode cX6_shift 139 = .ok (.iload 6, 2) := dk_21 6 (dk_at dksX6_shift_6 2 rfl rfl)
theorem dX6_shift_141 : decode cX6_shift 141 = .ok (.iload 5, 2) := dk_21 5 (dk_at dksX6_shift_6 4 rfl rfl)
theorem dX6_shift_143 : decode cX6_shift 143 = .ok (.if_icmp .ge 31, 3) := dk_162 0 31 (dk_at dksX6_shift_6 6 rfl rfl)
theorem dX6_shift_146 : decode cX6_shift 146 = .ok (.aload_n 0, 1) := dk_42 (dk_at dksX6_shift_6 9 rfl rfl)
theorem dX6_shift_147 : decode cX6_shift 147 = .ok (.getfield 74, 3) := dk_180 0 74 (dk_at dksX6_shift_6 10 rfl rfl)
theorem dX6_shift_150 : decode cX6_shift 150 = .ok (.bipush 60, 2) := dk_16 60 (dk_at dksX6_shift_6 13 rfl rfl)
theorem dX6_shift_152 : decode cX6_shift 152 = .ok (.iload_n 3, 1) := dk_29 (dk_at dksX6_shift_6 15 rfl rfl)
theorem dX6_shift_153 : decode cX6_shift 153 = .ok (.imul, 1) := dk_104 (dk_at dksX6_shift_6 16 rfl rfl)
theorem dX6_shift_154 : decode cX6_shift 154 = .ok (.iload 4, 2) := dk_21 4 (dk_at dksX6_shift_6 17 rfl rfl)
theorem dX6_shift_156 : decode cX6_shift 156 = .ok (.iadd, 1) := dk_96 (dk_at dksX6_shift_6 19 rfl rfl)
theorem dX6_shift_157 : decode cX6_shift 157 = .ok (.iload 6, 2) := dk_21 6 (dk_at dksX6_shift_6 20 rfl rfl)
theorem dX6_shift_159 : decode cX6_shift 159 = .ok (.iadd, 1) := dk_96 (dk_at dksX6_shift_6 22 rfl rfl)
theorem dX6_shift_160 : decode cX6_shift 160 = .ok (.aload_n 0, 1) := dk_42 (dk_at dksX6_shift_6 23 rfl rfl)
theorem dX6_shift_161 : decode cX6_shift 161 = .ok (.getfield 78, 3) := dk_180 0 78 (dk_at dksX6_shift_7 0 rfl rfl)
theorem dX6_shift_164 : decode cX6_shift 164 = .ok (.iload 6, 2) := dk_21 6 (dk_at dksX6_shift_7 3 rfl rfl)
theorem dX6_shift_166 : decode cX6_shift 166 = .ok (.laload, 1) := dk_47 (dk_at dksX6_shift_7 5 rfl rfl)
theorem dX6_shift_167 : decode cX6_shift 167 = .ok (.lastore, 1) := dk_80 (dk_at dksX6_shift_7 6 rfl rfl)
theorem dX6_shift_168 : decode cX6_shift 168 = .ok (.iinc 6 1, 3) := dk_132 6 1 (dk_at dksX6_shift_7 7 rfl rfl)
theorem dX6_shift_171 : decode cX6_shift 171 = .ok (.goto (-32), 3) := dk_167 255 224 (dk_at dksX6_shift_7 10 rfl rfl)
theorem dX6_shift_174 : decode cX6_shift 174 = .ok (.iload 5, 2) := dk_21 5 (dk_at dksX6_shift_7 13 rfl rfl)
theorem dX6_shift_176 : decode cX6_shift 176 = .ok (.ireturn, 1) := dk_172 (dk_at dksX6_shift_7 15 rfl rfl)
abbrev cX6_judge : ByteArray := prog_23_method_69_code
def yX6_judge : MethodName := ⟨RX6, "judge", "(II)I"⟩
def dkwX6_judge_4 : List UInt8 := [180, 0, 53, 29, 46, 133, 148, 153, 0, 5, 29, 172, 132, 3, 1, 167, 255, 187, 16, 251, 172]
abbrev dktX6_judge_4 : List UInt8 := dkwX6_judge_4 ++ []
def dkwX6_judge_3 : List UInt8 := [155, 0, 8, 16, 100, 29, 96, 172, 42, 180, 0, 74, 16, 60, 27, 104, 22, 4, 136, 96, 47, 42]
abbrev dktX6_judge_3 : List UInt8 := dkwX6_judge_3 ++ dktX6_judge_4
def dkwX6_judge_2 : List UInt8 := [162, 0, 64, 28, 133, 29, 133, 97, 55, 4, 28, 155, 0, 16, 22, 4, 42, 180, 0, 71, 27, 46, 133, 148]
abbrev dktX6_judge_2 : List UInt8 := dkwX6_judge_2 ++ dktX6_judge_3
def dkwX6_judge_1 : List UInt8 := [46, 4, 159, 0, 6, 16, 244, 172, 42, 182, 0, 104, 3, 62, 29, 42, 180, 0, 15, 16, 60, 46]
abbrev dktX6_judge_1 : List UInt8 := dkwX6_judge_1 ++ dktX6_judge_2
def dkwX6_judge_0 : List UInt8 := [27, 184, 0, 241, 154, 0, 5, 2, 172, 42, 180, 0, 68, 27, 46, 2, 159, 0, 16, 42, 180, 0, 68, 27]
abbrev dktX6_judge_0 : List UInt8 := dkwX6_judge_0 ++ dktX6_judge_1
theorem dksX6_judge_0 : cX6_judge.data.toList.drop 0 = dktX6_judge_0 := by decide +kernel
theorem dksX6_judge_1 : cX6_judge.data.toList.drop 24 = dktX6_judge_1 := dk_seg dksX6_judge_0 24 rfl rfl
theorem dksX6_judge_2 : cX6_judge.data.toList.drop 46 = dktX6_judge_2 := dk_seg dksX6_judge_1 22 rfl rfl
theorem dksX6_judge_3 : cX6_judge.data.toList.drop 70 = dktX6_judge_3 := dk_seg dksX6_judge_2 24 rfl rfl
theorem dksX6_judge_4 : cX6_judge.data.toList.drop 92 = dktX6_judge_4 := dk_seg dksX6_judge_3 22 rfl rfl
theorem dX6_judge_0 : decode cX6_judge 0 = .ok (.iload_n 1, 1) := dk_27 (dk_at dksX6_judge_0 0 rfl rfl)
theorem dX6_judge_1 : decode cX6_judge 1 = .ok (.invokestatic 241, 3) := dk_184 0 241 (dk_at dksX6_judge_0 1 rfl rfl)
theorem dX6_judge_4 : decode cX6_judge 4 = .ok (.ifCond .ne 5, 3) := dk_154 0 5 (dk_at dksX6_judge_0 4 rfl rfl)
theorem dX6_judge_7 : decode cX6_judge 7 = .ok (.iconst (-1), 1) := dk_2 (dk_at dksX6_judge_0 7 rfl rfl)
theorem dX6_judge_8 : decode cX6_judge 8 = .ok (.ireturn, 1) := dk_172 (dk_at dksX6_judge_0 8 rfl rfl)
theorem dX6_judge_9 : decode cX6_judge 9 = .ok (.aload_n 0, 1) := dk_42 (dk_at dksX6_judge_0 9 rfl rfl)
theorem dX6_judge_10 : decode cX6_judge 10 = .ok (.getfield 68, 3) := dk_180 0 68 (dk_at dksX6_judge_0 10 rfl rfl)
theorem dX6_judge_13 : decode cX6_judge 13 = .ok (.iload_n 1, 1) := dk_27 (dk_at dksX6_judge_0 13 rfl rfl)
theorem dX6_judge_14 : decode cX6_judge 14 = .ok (.iaload, 1) := dk_46 (dk_at dksX6_judge_0 14 rfl rfl)
theorem dX6_judge_15 : decode cX6_judge 15 = .ok (.iconst (-1), 1) := dk_2 (dk_at dksX6_judge_0 15 rfl rfl)
theorem dX6_judge_16 : decode cX6_judge 16 = .ok (.if_icmp .eq 16, 3) := dk_159 0 16 (dk_at dksX6_judge_0 16 rfl rfl)
theorem dX6_judge_19 : decode cX6_judge 19 = .ok (.aload_n 0, 1) := dk_42 (dk_at dksX6_judge_0 19 rfl rfl)
theorem dX6_judge_20 : decode cX6_judge 20 = .ok (.getfield 68, 3) := dk_180 0 68 (dk_at dksX6_judge_0 20 rfl rfl)
theorem dX6_judge_23 : decode cX6_judge 23 = .ok (.iload_n 1, 1) := dk_27 (dk_at dksX6_judge_0 23 rfl rfl)
theorem dX6_judge_24 : decode cX6_judge 24 = .ok (.iaload, 1) := dk_46 (dk_at dksX6_judge_1 0 rfl rfl)
theorem dX6_judge_25 : decode cX6_judge 25 = .ok (.iconst 1, 1) := dk_4 (dk_at dksX6_judge_1 1 rfl rfl)
theorem dX6_judge_26 : decode cX6_judge 26 = .ok (.if_icmp .eq 6, 3) := dk_159 0 6 (dk_at dksX6_judge_1 2 rfl rfl)
theorem dX6_judge_29 : decode cX6_judge 29 = .ok (.bipush (-12), 2) := dk_16 244 (dk_at dksX6_judge_1 5 rfl rfl)
theorem dX6_judge_31 : decode cX6_judge 31 = .ok (.ireturn, 1) := dk_172 (dk_at dksX6_judge_1 7 rfl rfl)
theorem dX6_judge_32 : decode cX6_judge 32 = .ok (.aload_n 0, 1) := dk_42 (dk_at dksX6_judge_1 8 rfl rfl)
theorem dX6_judge_33 : decode cX6_judge 33 = .ok (.invokevirtual 104, 3) := dk_182 0 104 (dk_at dksX6_judge_1 9 rfl rfl)
theorem dX6_judge_36 : decode cX6_judge 36 = .ok (.iconst 0, 1) := dk_3 (dk_at dksX6_judge_1 12 rfl rfl)
theorem dX6_judge_37 : decode cX6_judge 37 = .ok (.istore_n 3, 1) := dk_62 (dk_at dksX6_judge_1 13 rfl rfl)
theorem dX6_judge_38 : decode cX6_judge 38 = .ok (.iload_n 3, 1) := dk_29 (dk_at dksX6_judge_1 14 rfl rfl)
theorem dX6_judge_39 : decode cX6_judge 39 = .ok (.aload_n 0, 1) := dk_42 (dk_at dksX6_judge_1 15 rfl rfl)
theorem dX6_judge_40 : decode cX6_judge 40 = .ok (.getfield 15, 3) := dk_180 0 15 (dk_at dksX6_judge_1 16 rfl rfl)
theorem dX6_judge_43 : decode cX6_judge 43 = .ok (.bipush 60, 2) := dk_16 60 (dk_at dksX6_judge_1 19 rfl rfl)
theorem dX6_judge_45 : decode cX6_judge 45 = .ok (.iaload, 1) := dk_46 (dk_at dksX6_judge_1 21 rfl rfl)
theorem dX6_judge_46 : decode cX6_judge 46 = .ok (.if_icmp .ge 64, 3) := dk_162 0 64 (dk_at dksX6_judge_2 0 rfl rfl)
theorem dX6_judge_49 : decode cX6_judge 49 = .ok (.iload_n 2, 1) := dk_28 (dk_at dksX6_judge_2 3 rfl rfl)
theorem dX6_judge_50 : decode cX6_judge 50 = .ok (.i2l, 1) := dk_133 (dk_at dksX6_judge_2 4 rfl rfl)
theorem dX6_judge_51 : decode cX6_judge 51 = .ok (.iload_n 3, 1) := dk_29 (dk_at dksX6_judge_2 5 rfl rfl)
theorem dX6_judge_52 : decode cX6_judge 52 = .ok (.i2l, 1) := dk_133 (dk_at dksX6_judge_2 6 rfl rfl)
theorem dX6_judge_53 : decode cX6_judge 53 = .ok (.ladd, 1) := dk_97 (dk_at dksX6_judge_2 7 rfl rfl)
theorem dX6_judge_54 : decode cX6_judge 54 = .ok (.lstore 4, 2) := dk_55 4 (dk_at dksX6_judge_2 8 rfl rfl)
theorem dX6_judge_56 : decode cX6_judge 56 = .ok (.iload_n 2, 1) := dk_28 (dk_at dksX6_judge_2 10 rfl rfl)
theorem dX6_judge_57 : decode cX6_judge 57 = .ok (.ifCond .lt 16, 3) := dk_155 0 16 (dk_at dksX6_judge_2 11 rfl rfl)
theorem dX6_judge_60 : decode cX6_judge 60 = .ok (.lload 4, 2) := dk_22 4 (dk_at dksX6_judge_2 14 rfl rfl)
theorem dX6_judge_62 : decode cX6_judge 62 = .ok (.aload_n 0, 1) := dk_42 (dk_at dksX6_judge_2 16 rfl rfl)
theorem dX6_judge_63 : decode cX6_judge 63 = .ok (.getfield 71, 3) := dk_180 0 71 (dk_at dksX6_judge_2 17 rfl rfl)
theorem dX6_judge_66 : decode cX6_judge 66 = .ok (.iload_n 1, 1) := dk_27 (dk_at dksX6_judge_2 20 rfl rfl)
theorem dX6_judge_67 : decode cX6_judge 67 = .ok (.iaload, 1) := dk_46 (dk_at dksX6_judge_2 21 rfl rfl)
theorem dX6_judge_68 : decode cX6_judge 68 = .ok (.i2l, 1) := dk_133 (dk_at dksX6_judge_2 22 rfl rfl)
theorem dX6_judge_69 : decode cX6_judge 69 = .ok (.lcmp, 1) := dk_148 (dk_at dksX6_judge_2 23 rfl rfl)
theorem dX6_judge_70 : decode cX6_judge 70 = .ok (.ifCond .lt 8, 3) := dk_155 0 8 (dk_at dksX6_judge_3 0 rfl rfl)
theorem dX6_judge_73 : decode cX6_judge 73 = .ok (.bipush 100, 2) := dk_16 100 (dk_at dksX6_judge_3 3 rfl rfl)
theorem dX6_judge_75 : decode cX6_judge 75 = .ok (.iload_n 3, 1) := dk_29 (dk_at dksX6_judge_3 5 rfl rfl)
theorem dX6_judge_76 : decode cX6_judge 76 = .ok (.iadd, 1) := dk_96 (dk_at dksX6_judge_3 6 rfl rfl)
theorem dX6_judge_77 : decode cX6_judge 77 = .ok (.ireturn, 1) := dk_172 (dk_at dksX6_judge_3 7 rfl rfl)
theorem dX6_judge_78 : decode cX6_judge 78 = .ok (.aload_n 0, 1) := dk_42 (dk_at dksX6_judge_3 8 rfl rfl)
theorem dX6_judge_79 : decode cX6_judge 79 = .ok (.getfield 74, 3) := dk_180 0 74 (dk_at dksX6_judge_3 9 rfl rfl)
theorem dX6_judge_82 : decode cX6_judge 82 = .ok (.bipush 60, 2) := dk_16 60 (dk_at dksX6_judge_3 12 rfl rfl)
theorem dX6_judge_84 : decode cX6_judge 84 = .ok (.iload_n 1, 1) := dk_27 (dk_at dksX6_judge_3 14 rfl rfl)
theorem dX6_judge_85 : decode cX6_judge 85 = .ok (.imul, 1) := dk_104 (dk_at dksX6_judge_3 15 rfl rfl)
theorem dX6_judge_86 : decode cX6_judge 86 = .ok (.lload 4, 2) := dk_22 4 (dk_at dksX6_judge_3 16 rfl rfl)
theorem dX6_judge_88 : decode cX6_judge 88 = .ok (.l2i, 1) := dk_136 (dk_at dksX6_judge_3 18 rfl rfl)
theorem dX6_judge_89 : decode cX6_judge 89 = .ok (.iadd, 1) := dk_96 (dk_at dksX6_judge_3 19 rfl rfl)
theorem dX6_judge_90 : decode cX6_judge 90 = .ok (.laload, 1) := dk_47 (dk_at dksX6_judge_3 20 rfl rfl)
theorem dX6_judge_91 : decode cX6_judge 91 = .ok (.aload_n 0, 1) := dk_42 (dk_at dksX6_judge_3 21 rfl rfl)
theorem dX6_judge_92 : decode cX6_judge 92 = .ok (.getfield 53, 3) := dk_180 0 53 (dk_at dksX6_judge_4 0 rfl rfl)
theorem dX6_judge_95 : decode cX6_judge 95 = .ok (.iload_n 3, 1) := dk_29 (dk_at dksX6_judge_4 3 rfl rfl)
theorem dX6_judge_96 : decode cX6_judge 96 = .ok (.iaload, 1) := dk_46 (dk_at dksX6_judge_4 4 rfl rfl)
theorem dX6_judge_97 : decode cX6_judge 97 = .ok (.i2l, 1) := dk_133 (dk_at dksX6_judge_4 5 rfl rfl)
theorem dX6_judge_98 : decode cX6_judge 98 = .ok (.lcmp, 1) := dk_148 (dk_at dksX6_judge_4 6 rfl rfl)
theorem dX6_judge_99 : decode cX6_judge 99 = .ok (.ifCond .eq 5, 3) := dk_153 0 5 (dk_at dksX6_judge_4 7 rfl rfl)
theorem dX6_judge_102 : decode cX6_judge 102 = .ok (.iload_n 3, 1) := dk_29 (dk_at dksX6_judge_4 10 rfl rfl)
theorem dX6_judge_103 : decode cX6_judge 103 = .ok (.ireturn, 1) := dk_172 (dk_at dksX6_judge_4 11 rfl rfl)
theorem dX6_judge_104 : decode cX6_judge 104 = .ok (.iinc 3 1, 3) := dk_132 3 1 (dk_at dksX6_judge_4 12 rfl rfl)
theorem dX6_judge_107 : decode cX6_judge 107 = .ok (.goto (-69), 3) := dk_167 255 187 (dk_at dksX6_judge_4 15 rfl rfl)
theorem dX6_judge_110 : decode cX6_judge 110 = .ok (.bipush (-5), 2) := dk_16 251 (dk_at dksX6_judge_4 18 rfl rfl)
theorem dX6_judge_112 : decode cX6_judge 112 = .ok (.ireturn, 1) := dk_172 (dk_at dksX6_judge_4 20 rfl rfl)
theorem q81 : (Jvm.Cond.initialized "FuneralDebtsModel") ∈ lw_all := lw_g (lw_at lw_m1 10 rfl) rfl
theorem q1007 : (Jvm.Cond.selects "FuneralDebtsModel" ({ cls := "java/lang/Object", name := "getClass", desc := "()Ljava/lang/Class;" } : Jvm.MethodName) ({ cls := "java/lang/Object", name := "getClass", desc := "()Ljava/lang/Class;" } : Jvm.MethodName)) ∈ lw_all := lw_g (lw_at lw_m4 216 rfl) rfl
theorem q1378 : (Jvm.Cond.instantiable "FuneralDebtsModel" (31 : Nat)) ∈ lw_all := lw_g (lw_at lw_m6 107 rfl) rfl
theorem q1380 : (Jvm.Cond.instanceMethod ({ cls := "FuneralDebtsModel", name := "<init>", desc := "()V" } : Jvm.MethodName)) ∈ lw_all := lw_g (lw_at lw_m6 109 rfl) rfl
theorem q1381 : (Jvm.Cond.code ({ cls := "FuneralDebtsModel", name := "<init>", desc := "()V" } : Jvm.MethodName) prog_23_method_1_code (1 : Nat) (Option.none : Option Jvm.ClassFile.FieldType)) ∈ lw_all := lw_g (lw_at lw_m6 110 rfl) rfl
theorem q1382 : (Jvm.Cond.methodLink "FuneralDebtsModel" (3 : Nat) ({ cls := "java/lang/Object", name := "<init>", desc := "()V" } : Jvm.MethodName)) ∈ lw_all := lw_g (lw_at lw_m6 111 rfl) rfl
theorem q1383 : (Jvm.Cond.methodLink "FuneralDebtsModel" (9 : Nat) ({ cls := "FuneralDebtsModel", name := "fresh", desc := "()[I" } : Jvm.MethodName)) ∈ lw_all := lw_g (lw_at lw_m6 112 rfl) rfl
theorem q1384 : (Jvm.Cond.static ({ cls := "FuneralDebtsModel", name := "fresh", desc := "()[I" } : Jvm.MethodName)) ∈ lw_all := lw_g (lw_at lw_m6 113 rfl) rfl
theorem q1385 : (Jvm.Cond.code ({ cls := "FuneralDebtsModel", name := "fresh", desc := "()[I" } : Jvm.MethodName) prog_23_method_3_code (1 : Nat) (Option.some (Jvm.ClassFile.FieldType.array Jvm.ClassFile.FieldType.int))) ∈ lw_all := lw_g (lw_at lw_m6 114 rfl) rfl
theorem q1386 : (Jvm.Cond.fieldLink "FuneralDebtsModel" (15 : Nat) "FuneralDebtsModel" "now" "[I") ∈ lw_all := lw_g (lw_at lw_m6 115 rfl) rfl
theorem q1387 : (Jvm.Cond.fieldLink "FuneralDebtsModel" (19 : Nat) "FuneralDebtsModel" "minds" "[I") ∈ lw_all := lw_g (lw_at lw_m6 116 rfl) rfl
theorem q1388 : (Jvm.Cond.fieldLink "FuneralDebtsModel" (22 : Nat) "FuneralDebtsModel" "then" "[I") ∈ lw_all := lw_g (lw_at lw_m6 117 rfl) rfl
theorem q1389 : (Jvm.Cond.fieldLink "FuneralDebtsModel" (81 : Nat) "FuneralDebtsModel" "kept" "Z") ∈ lw_all := lw_g (lw_at lw_m6 118 rfl) rfl
theorem q1390 : (Jvm.Cond.fieldLink "FuneralDebtsModel" (25 : Nat) "FuneralDebtsModel" "text" "[I") ∈ lw_all := lw_g (lw_at lw_m6 119 rfl) rfl
theorem q1391 : (Jvm.Cond.fieldLink "FuneralDebtsModel" (117 : Nat) "FuneralDebtsModel" "texted" "I") ∈ lw_all := lw_g (lw_at lw_m6 120 rfl) rfl
theorem q1392 : (Jvm.Cond.fieldLink "FuneralDebtsModel" (28 : Nat) "FuneralDebtsModel" "rules" "[I") ∈ lw_all := lw_g (lw_at lw_m6 121 rfl) rfl
theorem q1393 : (Jvm.Cond.fieldLink "FuneralDebtsModel" (31 : Nat) "FuneralDebtsModel" "sizes" "[I") ∈ lw_all := lw_g (lw_at lw_m6 122 rfl) rfl
theorem q1394 : (Jvm.Cond.fieldLink "FuneralDebtsModel" (172 : Nat) "FuneralDebtsModel" "ruled" "I") ∈ lw_all := lw_g (lw_at lw_m6 123 rfl) rfl
theorem q1395 : (Jvm.Cond.fieldLink "FuneralDebtsModel" (34 : Nat) "FuneralDebtsModel" "read" "[I") ∈ lw_all := lw_g (lw_at lw_m6 124 rfl) rfl
theorem q1396 : (Jvm.Cond.fieldLink "FuneralDebtsModel" (127 : Nat) "FuneralDebtsModel" "size" "I") ∈ lw_all := lw_g (lw_at lw_m6 125 rfl) rfl
theorem q1397 : (Jvm.Cond.fieldLink "FuneralDebtsModel" (124 : Nat) "FuneralDebtsModel" "at" "I") ∈ lw_all := lw_g (lw_at lw_m6 126 rfl) rfl
theorem q1398 : (Jvm.Cond.fieldLink "FuneralDebtsModel" (121 : Nat) "FuneralDebtsModel" "well" "Z") ∈ lw_all := lw_g (lw_at lw_m6 127 rfl) rfl
theorem q1399 : (Jvm.Cond.fieldLink "FuneralDebtsModel" (145 : Nat) "FuneralDebtsModel" "within" "I") ∈ lw_all := lw_g (lw_at lw_m6 128 rfl) rfl
theorem q1400 : (Jvm.Cond.fieldLink "FuneralDebtsModel" (163 : Nat) "FuneralDebtsModel" "sum" "I") ∈ lw_all := lw_g (lw_at lw_m6 129 rfl) rfl
theorem q1401 : (Jvm.Cond.fieldLink "FuneralDebtsModel" (160 : Nat) "FuneralDebtsModel" "fall" "I") ∈ lw_all := lw_g (lw_at lw_m6 130 rfl) rfl
theorem q1402 : (Jvm.Cond.fieldLink "FuneralDebtsModel" (37 : Nat) "FuneralDebtsModel" "names" "[I") ∈ lw_all := lw_g (lw_at lw_m6 131 rfl) rfl
theorem q1403 : (Jvm.Cond.fieldLink "FuneralDebtsModel" (40 : Nat) "FuneralDebtsModel" "letters" "[C") ∈ lw_all := lw_g (lw_at lw_m6 132 rfl) rfl
theorem q1404 : (Jvm.Cond.fieldLink "FuneralDebtsModel" (44 : Nat) "FuneralDebtsModel" "begins" "[C") ∈ lw_all := lw_g (lw_at lw_m6 133 rfl) rfl
theorem q1405 : (Jvm.Cond.fieldLink "FuneralDebtsModel" (47 : Nat) "FuneralDebtsModel" "words" "[C") ∈ lw_all := lw_g (lw_at lw_m6 134 rfl) rfl
theorem q1406 : (Jvm.Cond.fieldLink "FuneralDebtsModel" (50 : Nat) "FuneralDebtsModel" "rates" "[I") ∈ lw_all := lw_g (lw_at lw_m6 135 rfl) rfl
theorem q1407 : (Jvm.Cond.fieldLink "FuneralDebtsModel" (53 : Nat) "FuneralDebtsModel" "shares" "[I") ∈ lw_all := lw_g (lw_at lw_m6 136 rfl) rfl
theorem q1408 : (Jvm.Cond.fieldLink "FuneralDebtsModel" (56 : Nat) "FuneralDebtsModel" "worthThen" "[I") ∈ lw_all := lw_g (lw_at lw_m6 137 rfl) rfl
theorem q1409 : (Jvm.Cond.fieldLink "FuneralDebtsModel" (59 : Nat) "FuneralDebtsModel" "above" "[I") ∈ lw_all := lw_g (lw_at lw_m6 138 rfl) rfl
theorem q1410 : (Jvm.Cond.fieldLink "FuneralDebtsModel" (62 : Nat) "FuneralDebtsModel" "bodies" "[I") ∈ lw_all := lw_g (lw_at lw_m6 139 rfl) rfl
theorem q1411 : (Jvm.Cond.fieldLink "FuneralDebtsModel" (65 : Nat) "FuneralDebtsModel" "trace" "[I") ∈ lw_all := lw_g (lw_at lw_m6 140 rfl) rfl
theorem q1412 : (Jvm.Cond.fieldLink "FuneralDebtsModel" (228 : Nat) "FuneralDebtsModel" "ran" "I") ∈ lw_all := lw_g (lw_at lw_m6 141 rfl) rfl
theorem q1413 : (Jvm.Cond.fieldLink "FuneralDebtsModel" (68 : Nat) "FuneralDebtsModel" "sorts" "[I") ∈ lw_all := lw_g (lw_at lw_m6 142 rfl) rfl
theorem q1414 : (Jvm.Cond.fieldLink "FuneralDebtsModel" (71 : Nat) "FuneralDebtsModel" "lengths" "[I") ∈ lw_all := lw_g (lw_at lw_m6 143 rfl) rfl
theorem q1415 : (Jvm.Cond.fieldLink "FuneralDebtsModel" (74 : Nat) "FuneralDebtsModel" "items" "[J") ∈ lw_all := lw_g (lw_at lw_m6 144 rfl) rfl
theorem q1416 : (Jvm.Cond.fieldLink "FuneralDebtsModel" (78 : Nat) "FuneralDebtsModel" "moved" "[J") ∈ lw_all := lw_g (lw_at lw_m6 145 rfl) rfl
theorem q1417 : (Jvm.Cond.laysFinal "FuneralDebtsModel" "FuneralDebtsModel" "now" "[I") ∈ lw_all := lw_g (lw_at lw_m6 146 rfl) rfl
theorem q1418 : (Jvm.Cond.soleField "FuneralDebtsModel" "now") ∈ lw_all := lw_g (lw_at lw_m6 147 rfl) rfl
theorem q1419 : (Jvm.Cond.laysFinal "FuneralDebtsModel" "FuneralDebtsModel" "minds" "[I") ∈ lw_all := lw_g (lw_at lw_m6 148 rfl) rfl
theorem q1420 : (Jvm.Cond.soleField "FuneralDebtsModel" "minds") ∈ lw_all := lw_g (lw_at lw_m6 149 rfl) rfl
theorem q1421 : (Jvm.Cond.laysFinal "FuneralDebtsModel" "FuneralDebtsModel" "then" "[I") ∈ lw_all := lw_g (lw_at lw_m6 150 rfl) rfl
theorem q1422 : (Jvm.Cond.soleField "FuneralDebtsModel" "then") ∈ lw_all := lw_g (lw_at lw_m6 151 rfl) rfl
theorem q1423 : (Jvm.Cond.lays "FuneralDebtsModel" "FuneralDebtsModel" "kept" "Z") ∈ lw_all := lw_g (lw_at lw_m6 152 rfl) rfl
theorem q1424 : (Jvm.Cond.soleField "FuneralDebtsModel" "kept") ∈ lw_all := lw_g (lw_at lw_m6 153 rfl) rfl
theorem q1425 : (Jvm.Cond.laysFinal "FuneralDebtsModel" "FuneralDebtsModel" "text" "[I") ∈ lw_all := lw_g (lw_at lw_m6 154 rfl) rfl
theorem q1426 : (Jvm.Cond.soleField "FuneralDebtsModel" "text") ∈ lw_all := lw_g (lw_at lw_m6 155 rfl) rfl
theorem q1427 : (Jvm.Cond.lays "FuneralDebtsModel" "FuneralDebtsModel" "texted" "I") ∈ lw_all := lw_g (lw_at lw_m6 156 rfl) rfl
theorem q1428 : (Jvm.Cond.soleField "FuneralDebtsModel" "texted") ∈ lw_all := lw_g (lw_at lw_m6 157 rfl) rfl
theorem q1429 : (Jvm.Cond.laysFinal "FuneralDebtsModel" "FuneralDebtsModel" "rules" "[I") ∈ lw_all := lw_g (lw_at lw_m6 158 rfl) rfl
theorem q1430 : (Jvm.Cond.soleField "FuneralDebtsModel" "rules") ∈ lw_all := lw_g (lw_at lw_m6 159 rfl) rfl
theorem q1431 : (Jvm.Cond.laysFinal "FuneralDebtsModel" "FuneralDebtsModel" "sizes" "[I") ∈ lw_all := lw_g (lw_at lw_m6 160 rfl) rfl
theorem q1432 : (Jvm.Cond.soleField "FuneralDebtsModel" "sizes") ∈ lw_all := lw_g (lw_at lw_m6 161 rfl) rfl
theorem q1433 : (Jvm.Cond.lays "FuneralDebtsModel" "FuneralDebtsModel" "ruled" "I") ∈ lw_all := lw_g (lw_at lw_m6 162 rfl) rfl
theorem q1434 : (Jvm.Cond.soleField "FuneralDebtsModel" "ruled") ∈ lw_all := lw_g (lw_at lw_m6 163 rfl) rfl
theorem q1435 : (Jvm.Cond.laysFinal "FuneralDebtsModel" "FuneralDebtsModel" "read" "[I") ∈ lw_all := lw_g (lw_at lw_m6 164 rfl) rfl
theorem q1436 : (Jvm.Cond.soleField "FuneralDebtsModel" "read") ∈ lw_all := lw_g (lw_at lw_m6 165 rfl) rfl
theorem q1437 : (Jvm.Cond.lays "FuneralDebtsModel" "FuneralDebtsModel" "size" "I") ∈ lw_all := lw_g (lw_at lw_m6 166 rfl) rfl
theorem q1438 : (Jvm.Cond.soleField "FuneralDebtsModel" "size") ∈ lw_all := lw_g (lw_at lw_m6 167 rfl) rfl
theorem q1439 : (Jvm.Cond.lays "FuneralDebtsModel" "FuneralDebtsModel" "at" "I") ∈ lw_all := lw_g (lw_at lw_m6 168 rfl) rfl
theorem q1440 : (Jvm.Cond.soleField "FuneralDebtsModel" "at") ∈ lw_all := lw_g (lw_at lw_m6 169 rfl) rfl
theorem q1441 : (Jvm.Cond.lays "FuneralDebtsModel" "FuneralDebtsModel" "well" "Z") ∈ lw_all := lw_g (lw_at lw_m6 170 rfl) rfl
theorem q1442 : (Jvm.Cond.soleField "FuneralDebtsModel" "well") ∈ lw_all := lw_g (lw_at lw_m6 171 rfl) rfl
theorem q1443 : (Jvm.Cond.lays "FuneralDebtsModel" "FuneralDebtsModel" "within" "I") ∈ lw_all := lw_g (lw_at lw_m6 172 rfl) rfl
theorem q1444 : (Jvm.Cond.soleField "FuneralDebtsModel" "within") ∈ lw_all := lw_g (lw_at lw_m6 173 rfl) rfl
theorem q1445 : (Jvm.Cond.lays "FuneralDebtsModel" "FuneralDebtsModel" "sum" "I") ∈ lw_all := lw_g (lw_at lw_m6 174 rfl) rfl
theorem q1446 : (Jvm.Cond.soleField "FuneralDebtsModel" "sum") ∈ lw_all := lw_g (lw_at lw_m6 175 rfl) rfl
theorem q1447 : (Jvm.Cond.lays "FuneralDebtsModel" "FuneralDebtsModel" "fall" "I") ∈ lw_all := lw_g (lw_at lw_m6 176 rfl) rfl
theorem q1448 : (Jvm.Cond.soleField "FuneralDebtsModel" "fall") ∈ lw_all := lw_g (lw_at lw_m6 177 rfl) rfl
theorem q1449 : (Jvm.Cond.laysFinal "FuneralDebtsModel" "FuneralDebtsModel" "names" "[I") ∈ lw_all := lw_g (lw_at lw_m6 178 rfl) rfl
theorem q1450 : (Jvm.Cond.soleField "FuneralDebtsModel" "names") ∈ lw_all := lw_g (lw_at lw_m6 179 rfl) rfl
theorem q1451 : (Jvm.Cond.laysFinal "FuneralDebtsModel" "FuneralDebtsModel" "letters" "[C") ∈ lw_all := lw_g (lw_at lw_m6 180 rfl) rfl
theorem q1452 : (Jvm.Cond.soleField "FuneralDebtsModel" "letters") ∈ lw_all := lw_g (lw_at lw_m6 181 rfl) rfl
theorem q1453 : (Jvm.Cond.laysFinal "FuneralDebtsModel" "FuneralDebtsModel" "begins" "[C") ∈ lw_all := lw_g (lw_at lw_m6 182 rfl) rfl
theorem q1454 : (Jvm.Cond.soleField "FuneralDebtsModel" "begins") ∈ lw_all := lw_g (lw_at lw_m6 183 rfl) rfl
theorem q1455 : (Jvm.Cond.laysFinal "FuneralDebtsModel" "FuneralDebtsModel" "words" "[C") ∈ lw_all := lw_g (lw_at lw_m6 184 rfl) rfl
theorem q1456 : (Jvm.Cond.soleField "FuneralDebtsModel" "words") ∈ lw_all := lw_g (lw_at lw_m6 185 rfl) rfl
theorem q1457 : (Jvm.Cond.laysFinal "FuneralDebtsModel" "FuneralDebtsModel" "rates" "[I") ∈ lw_all := lw_g (lw_at lw_m6 186 rfl) rfl
theorem q1458 : (Jvm.Cond.soleField "FuneralDebtsModel" "rates") ∈ lw_all := lw_g (lw_at lw_m6 187 rfl) rfl
theorem q1459 : (Jvm.Cond.laysFinal "FuneralDebtsModel" "FuneralDebtsModel" "shares" "[I") ∈ lw_all := lw_g (lw_at lw_m6 188 rfl) rfl
theorem q1460 : (Jvm.Cond.soleField "FuneralDebtsModel" "shares") ∈ lw_all := lw_g (lw_at lw_m6 189 rfl) rfl
theorem q1461 : (Jvm.Cond.laysFinal "FuneralDebtsModel" "FuneralDebtsModel" "worthThen" "[I") ∈ lw_all := lw_g (lw_at lw_m6 190 rfl) rfl
theorem q1462 : (Jvm.Cond.soleField "FuneralDebtsModel" "worthThen") ∈ lw_all := lw_g (lw_at lw_m6 191 rfl) rfl
theorem q1463 : (Jvm.Cond.laysFinal "FuneralDebtsModel" "FuneralDebtsModel" "above" "[I") ∈ lw_all := lw_g (lw_at lw_m6 192 rfl) rfl
theorem q1464 : (Jvm.Cond.soleField "FuneralDebtsModel" "above") ∈ lw_all := lw_g (lw_at lw_m6 193 rfl) rfl
theorem q1465 : (Jvm.Cond.laysFinal "FuneralDebtsModel" "FuneralDebtsModel" "bodies" "[I") ∈ lw_all := lw_g (lw_at lw_m6 194 rfl) rfl
theorem q1466 : (Jvm.Cond.soleField "FuneralDebtsModel" "bodies") ∈ lw_all := lw_g (lw_at lw_m6 195 rfl) rfl
theorem q1467 : (Jvm.Cond.laysFinal "FuneralDebtsModel" "FuneralDebtsModel" "trace" "[I") ∈ lw_all := lw_g (lw_at lw_m6 196 rfl) rfl
theorem q1468 : (Jvm.Cond.soleField "FuneralDebtsModel" "trace") ∈ lw_all := lw_g (lw_at lw_m6 197 rfl) rfl
theorem q1469 : (Jvm.Cond.lays "FuneralDebtsModel" "FuneralDebtsModel" "ran" "I") ∈ lw_all := lw_g (lw_at lw_m6 198 rfl) rfl
theorem q1470 : (Jvm.Cond.soleField "FuneralDebtsModel" "ran") ∈ lw_all := lw_g (lw_at lw_m6 199 rfl) rfl
theorem q1471 : (Jvm.Cond.laysFinal "FuneralDebtsModel" "FuneralDebtsModel" "sorts" "[I") ∈ lw_all := lw_g (lw_at lw_m6 200 rfl) rfl
theorem q1472 : (Jvm.Cond.soleField "FuneralDebtsModel" "sorts") ∈ lw_all := lw_g (lw_at lw_m6 201 rfl) rfl
theorem q1473 : (Jvm.Cond.laysFinal "FuneralDebtsModel" "FuneralDebtsModel" "lengths" "[I") ∈ lw_all := lw_g (lw_at lw_m6 202 rfl) rfl
theorem q1474 : (Jvm.Cond.soleField "FuneralDebtsModel" "lengths") ∈ lw_all := lw_g (lw_at lw_m6 203 rfl) rfl
theorem q1475 : (Jvm.Cond.laysFinal "FuneralDebtsModel" "FuneralDebtsModel" "items" "[J") ∈ lw_all := lw_g (lw_at lw_m6 204 rfl) rfl
theorem q1476 : (Jvm.Cond.soleField "FuneralDebtsModel" "items") ∈ lw_all := lw_g (lw_at lw_m6 205 rfl) rfl
theorem q1477 : (Jvm.Cond.laysFinal "FuneralDebtsModel" "FuneralDebtsModel" "moved" "[J") ∈ lw_all := lw_g (lw_at lw_m6 206 rfl) rfl
theorem q1478 : (Jvm.Cond.soleField "FuneralDebtsModel" "moved") ∈ lw_all := lw_g (lw_at lw_m6 207 rfl) rfl
theorem q1479 : (Jvm.Cond.superclass "FuneralDebtsModel" "java/lang/Object") ∈ lw_all := lw_g (lw_at lw_m6 208 rfl) rfl
theorem q1482 : (Jvm.Cond.instanceMethod ({ cls := "FuneralDebtsModel", name := "image", desc := "()I" } : Jvm.MethodName)) ∈ lw_all := lw_g (lw_at lw_m6 211 rfl) rfl
theorem q1483 : (Jvm.Cond.selects "FuneralDebtsModel" ({ cls := "FuneralDebtsModel", name := "image", desc := "()I" } : Jvm.MethodName) ({ cls := "FuneralDebtsModel", name := "image", desc := "()I" } : Jvm.MethodName)) ∈ lw_all := lw_g (lw_at lw_m6 212 rfl) rfl
theorem q1484 : (Jvm.Cond.code ({ cls := "FuneralDebtsModel", name := "image", desc := "()I" } : Jvm.MethodName) prog_23_method_6_code (2 : Nat) (Option.some Jvm.ClassFile.FieldType.int)) ∈ lw_all := lw_g (lw_at lw_m6 213 rfl) rfl
theorem q1486 : (Jvm.Cond.instanceMethod ({ cls := "FuneralDebtsModel", name := "undo", desc := "()I" } : Jvm.MethodName)) ∈ lw_all := lw_g (lw_at lw_m6 215 rfl) rfl
theorem q1487 : (Jvm.Cond.selects "FuneralDebtsModel" ({ cls := "FuneralDebtsModel", name := "undo", desc := "()I" } : Jvm.MethodName) ({ cls := "FuneralDebtsModel", name := "undo", desc := "()I" } : Jvm.MethodName)) ∈ lw_all := lw_g (lw_at lw_m6 216 rfl) rfl
theorem q1488 : (Jvm.Cond.code ({ cls := "FuneralDebtsModel", name := "undo", desc := "()I" } : Jvm.MethodName) prog_23_method_7_code (2 : Nat) (Option.some Jvm.ClassFile.FieldType.int)) ∈ lw_all := lw_g (lw_at lw_m6 217 rfl) rfl
theorem q1490 : (Jvm.Cond.instanceMethod ({ cls := "FuneralDebtsModel", name := "mourner", desc := "(IIII)I" } : Jvm.MethodName)) ∈ lw_all := lw_g (lw_at lw_m6 219 rfl) rfl
theorem q1491 : (Jvm.Cond.selects "FuneralDebtsModel" ({ cls := "FuneralDebtsModel", name := "mourner", desc := "(IIII)I" } : Jvm.MethodName) ({ cls := "FuneralDebtsModel", name := "mourner", desc := "(IIII)I" } : Jvm.MethodName)) ∈ lw_all := lw_g (lw_at lw_m6 220 rfl) rfl
theorem q1492 : (Jvm.Cond.code ({ cls := "FuneralDebtsModel", name := "mourner", desc := "(IIII)I" } : Jvm.MethodName) prog_23_method_13_code (7 : Nat) (Option.some Jvm.ClassFile.FieldType.int)) ∈ lw_all := lw_g (lw_at lw_m6 221 rfl) rfl
theorem q1493 : (Jvm.Cond.methodLink "FuneralDebtsModel" (85 : Nat) ({ cls := "FuneralDebtsModel", name := "isIn", desc := "(III)Z" } : Jvm.MethodName)) ∈ lw_all := lw_g (lw_at lw_m6 222 rfl) rfl
theorem q1494 : (Jvm.Cond.static ({ cls := "FuneralDebtsModel", name := "isIn", desc := "(III)Z" } : Jvm.MethodName)) ∈ lw_all := lw_g (lw_at lw_m6 223 rfl) rfl
theorem q1495 : (Jvm.Cond.code ({ cls := "FuneralDebtsModel", name := "isIn", desc := "(III)Z" } : Jvm.MethodName) prog_23_method_2_code (3 : Nat) (Option.some Jvm.ClassFile.FieldType.boolean)) ∈ lw_all := lw_g (lw_at lw_m6 224 rfl) rfl
theorem q1496 : (Jvm.Cond.methodLink "FuneralDebtsModel" (93 : Nat) ({ cls := "FuneralDebtsModel", name := "isYard", desc := "(I)Z" } : Jvm.MethodName)) ∈ lw_all := lw_g (lw_at lw_m6 225 rfl) rfl
theorem q1497 : (Jvm.Cond.static ({ cls := "FuneralDebtsModel", name := "isYard", desc := "(I)Z" } : Jvm.MethodName)) ∈ lw_all := lw_g (lw_at lw_m6 226 rfl) rfl
theorem q1498 : (Jvm.Cond.code ({ cls := "FuneralDebtsModel", name := "isYard", desc := "(I)Z" } : Jvm.MethodName) prog_23_method_9_code (1 : Nat) (Option.some Jvm.ClassFile.FieldType.boolean)) ∈ lw_all := lw_g (lw_at lw_m6 227 rfl) rfl
theorem q1499 : (Jvm.Cond.methodLink "FuneralDebtsModel" (97 : Nat) ({ cls := "FuneralDebtsModel", name := "change", desc := "(III)I" } : Jvm.MethodName)) ∈ lw_all := lw_g (lw_at lw_m6 228 rfl) rfl
theorem q1500 : (Jvm.Cond.privateMethod ({ cls := "FuneralDebtsModel", name := "change", desc := "(III)I" } : Jvm.MethodName)) ∈ lw_tbl := lw_at lw_m6 229 rfl
theorem q1501 : (Jvm.Cond.instanceMethod ({ cls := "FuneralDebtsModel", name := "change", desc := "(III)I" } : Jvm.MethodName)) ∈ lw_all := lw_g (lw_at lw_m6 230 rfl) rfl
theorem q1502 : (Jvm.Cond.code ({ cls := "FuneralDebtsModel", name := "change", desc := "(III)I" } : Jvm.MethodName) prog_23_method_11_code (5 : Nat) (Option.some Jvm.ClassFile.FieldType.int)) ∈ lw_all := lw_g (lw_at lw_m6 231 rfl) rfl
theorem q1503 : (Jvm.Cond.methodLink "FuneralDebtsModel" (89 : Nat) ({ cls := "FuneralDebtsModel", name := "one", desc := "(II)I" } : Jvm.MethodName)) ∈ lw_all := lw_g (lw_at lw_m6 232 rfl) rfl
theorem q1504 : (Jvm.Cond.privateMethod ({ cls := "FuneralDebtsModel", name := "one", desc := "(II)I" } : Jvm.MethodName)) ∈ lw_tbl := lw_at lw_m6 233 rfl
theorem q1505 : (Jvm.Cond.instanceMethod ({ cls := "FuneralDebtsModel", name := "one", desc := "(II)I" } : Jvm.MethodName)) ∈ lw_all := lw_g (lw_at lw_m6 234 rfl) rfl
theorem q1506 : (Jvm.Cond.code ({ cls := "FuneralDebtsModel", name := "one", desc := "(II)I" } : Jvm.MethodName) prog_23_method_10_code (3 : Nat) (Option.some Jvm.ClassFile.FieldType.int)) ∈ lw_all := lw_g (lw_at lw_m6 235 rfl) rfl
theorem q1508 : (Jvm.Cond.instanceMethod ({ cls := "FuneralDebtsModel", name := "of", desc := "(II)I" } : Jvm.MethodName)) ∈ lw_all := lw_g (lw_at lw_m6 237 rfl) rfl
theorem q1509 : (Jvm.Cond.selects "FuneralDebtsModel" ({ cls := "FuneralDebtsModel", name := "of", desc := "(II)I" } : Jvm.MethodName) ({ cls := "FuneralDebtsModel", name := "of", desc := "(II)I" } : Jvm.MethodName)) ∈ lw_all := lw_g (lw_at lw_m6 238 rfl) rfl
theorem q1510 : (Jvm.Cond.code ({ cls := "FuneralDebtsModel", name := "of", desc := "(II)I" } : Jvm.MethodName) prog_23_method_14_code (3 : Nat) (Option.some Jvm.ClassFile.FieldType.int)) ∈ lw_all := lw_g (lw_at lw_m6 239 rfl) rfl
theorem q1511 : (Jvm.Cond.methodLink "FuneralDebtsModel" (101 : Nat) ({ cls := "FuneralDebtsModel", name := "isOne", desc := "(I)Z" } : Jvm.MethodName)) ∈ lw_all := lw_g (lw_at lw_m7 0 rfl) rfl
theorem q1512 : (Jvm.Cond.privateMethod ({ cls := "FuneralDebtsModel", name := "isOne", desc := "(I)Z" } : Jvm.MethodName)) ∈ lw_tbl := lw_at lw_m7 1 rfl
theorem q1513 : (Jvm.Cond.instanceMethod ({ cls := "FuneralDebtsModel", name := "isOne", desc := "(I)Z" } : Jvm.MethodName)) ∈ lw_all := lw_g (lw_at lw_m7 2 rfl) rfl
theorem q1514 : (Jvm.Cond.code ({ cls := "FuneralDebtsModel", name := "isOne", desc := "(I)Z" } : Jvm.MethodName) prog_23_method_8_code (2 : Nat) (Option.some Jvm.ClassFile.FieldType.boolean)) ∈ lw_all := lw_g (lw_at lw_m7 3 rfl) rfl
theorem q1515 : (Jvm.Cond.methodLink "FuneralDebtsModel" (104 : Nat) ({ cls := "FuneralDebtsModel", name := "share", desc := "()V" } : Jvm.MethodName)) ∈ lw_all := lw_g (lw_at lw_m7 4 rfl) rfl
theorem q1516 : (Jvm.Cond.privateMethod ({ cls := "FuneralDebtsModel", name := "share", desc := "()V" } : Jvm.MethodName)) ∈ lw_tbl := lw_at lw_m7 5 rfl
theorem q1517 : (Jvm.Cond.instanceMethod ({ cls := "FuneralDebtsModel", name := "share", desc := "()V" } : Jvm.MethodName)) ∈ lw_all := lw_g (lw_at lw_m7 6 rfl) rfl
theorem q1518 : (Jvm.Cond.code ({ cls := "FuneralDebtsModel", name := "share", desc := "()V" } : Jvm.MethodName) prog_23_method_33_code (5 : Nat) (Option.none : Option Jvm.ClassFile.FieldType)) ∈ lw_all := lw_g (lw_at lw_m7 7 rfl) rfl
theorem q1519 : (Jvm.Cond.methodLink "FuneralDebtsModel" (179 : Nat) ({ cls := "FuneralDebtsModel", name := "isHere", desc := "(I)Z" } : Jvm.MethodName)) ∈ lw_all := lw_g (lw_at lw_m7 8 rfl) rfl
theorem q1520 : (Jvm.Cond.privateMethod ({ cls := "FuneralDebtsModel", name := "isHere", desc := "(I)Z" } : Jvm.MethodName)) ∈ lw_tbl := lw_at lw_m7 9 rfl
theorem q1521 : (Jvm.Cond.instanceMethod ({ cls := "FuneralDebtsModel", name := "isHere", desc := "(I)Z" } : Jvm.MethodName)) ∈ lw_all := lw_g (lw_at lw_m7 10 rfl) rfl
theorem q1522 : (Jvm.Cond.code ({ cls := "FuneralDebtsModel", name := "isHere", desc := "(I)Z" } : Jvm.MethodName) prog_23_method_12_code (2 : Nat) (Option.some Jvm.ClassFile.FieldType.boolean)) ∈ lw_all := lw_g (lw_at lw_m7 11 rfl) rfl
theorem q1523 : (Jvm.Cond.methodLink "FuneralDebtsModel" (111 : Nat) ({ cls := "FuneralDebtsModel", name := "rate", desc := "(II)I" } : Jvm.MethodName)) ∈ lw_all := lw_g (lw_at lw_m7 12 rfl) rfl
theorem q1524 : (Jvm.Cond.privateMethod ({ cls := "FuneralDebtsModel", name := "rate", desc := "(II)I" } : Jvm.MethodName)) ∈ lw_tbl := lw_at lw_m7 13 rfl
theorem q1525 : (Jvm.Cond.instanceMethod ({ cls := "FuneralDebtsModel", name := "rate", desc := "(II)I" } : Jvm.MethodName)) ∈ lw_all := lw_g (lw_at lw_m7 14 rfl) rfl
theorem q1526 : (Jvm.Cond.code ({ cls := "FuneralDebtsModel", name := "rate", desc := "(II)I" } : Jvm.MethodName) prog_23_method_32_code (4 : Nat) (Option.some Jvm.ClassFile.FieldType.int)) ∈ lw_all := lw_g (lw_at lw_m7 15 rfl) rfl
theorem q1527 : (Jvm.Cond.methodLink "FuneralDebtsModel" (175 : Nat) ({ cls := "FuneralDebtsModel", name := "readFor", desc := "(II)V" } : Jvm.MethodName)) ∈ lw_all := lw_g (lw_at lw_m7 16 rfl) rfl
theorem q1528 : (Jvm.Cond.privateMethod ({ cls := "FuneralDebtsModel", name := "readFor", desc := "(II)V" } : Jvm.MethodName)) ∈ lw_tbl := lw_at lw_m7 17 rfl
theorem q1529 : (Jvm.Cond.instanceMethod ({ cls := "FuneralDebtsModel", name := "readFor", desc := "(II)V" } : Jvm.MethodName)) ∈ lw_all := lw_g (lw_at lw_m7 18 rfl) rfl
theorem q1530 : (Jvm.Cond.code ({ cls := "FuneralDebtsModel", name := "readFor", desc := "(II)V" } : Jvm.MethodName) prog_23_method_30_code (5 : Nat) (Option.none : Option Jvm.ClassFile.FieldType)) ∈ lw_all := lw_g (lw_at lw_m7 19 rfl) rfl
theorem q1531 : (Jvm.Cond.methodLink "FuneralDebtsModel" (169 : Nat) ({ cls := "FuneralDebtsModel", name := "readAll", desc := "()Z" } : Jvm.MethodName)) ∈ lw_all := lw_g (lw_at lw_m7 20 rfl) rfl
theorem q1532 : (Jvm.Cond.privateMethod ({ cls := "FuneralDebtsModel", name := "readAll", desc := "()Z" } : Jvm.MethodName)) ∈ lw_tbl := lw_at lw_m7 21 rfl
theorem q1533 : (Jvm.Cond.instanceMethod ({ cls := "FuneralDebtsModel", name := "readAll", desc := "()Z" } : Jvm.MethodName)) ∈ lw_all := lw_g (lw_at lw_m7 22 rfl) rfl
theorem q1534 : (Jvm.Cond.code ({ cls := "FuneralDebtsModel", name := "readAll", desc := "()Z" } : Jvm.MethodName) prog_23_method_29_code (2 : Nat) (Option.some Jvm.ClassFile.FieldType.boolean)) ∈ lw_all := lw_g (lw_at lw_m7 23 rfl) rfl
theorem q1535 : (Jvm.Cond.methodLink "FuneralDebtsModel" (166 : Nat) ({ cls := "FuneralDebtsModel", name := "clause", desc := "()V" } : Jvm.MethodName)) ∈ lw_all := lw_g (lw_at lw_m7 24 rfl) rfl
theorem q1536 : (Jvm.Cond.privateMethod ({ cls := "FuneralDebtsModel", name := "clause", desc := "()V" } : Jvm.MethodName)) ∈ lw_tbl := lw_at lw_m7 25 rfl
theorem q1537 : (Jvm.Cond.instanceMethod ({ cls := "FuneralDebtsModel", name := "clause", desc := "()V" } : Jvm.MethodName)) ∈ lw_all := lw_g (lw_at lw_m7 26 rfl) rfl
theorem q1538 : (Jvm.Cond.code ({ cls := "FuneralDebtsModel", name := "clause", desc := "()V" } : Jvm.MethodName) prog_23_method_28_code (4 : Nat) (Option.none : Option Jvm.ClassFile.FieldType)) ∈ lw_all := lw_g (lw_at lw_m7 27 rfl) rfl
theorem q1539 : (Jvm.Cond.methodLink "FuneralDebtsModel" (130 : Nat) ({ cls := "FuneralDebtsModel", name := "isAt", desc := "(I)Z" } : Jvm.MethodName)) ∈ lw_all := lw_g (lw_at lw_m7 28 rfl) rfl
theorem q1540 : (Jvm.Cond.privateMethod ({ cls := "FuneralDebtsModel", name := "isAt", desc := "(I)Z" } : Jvm.MethodName)) ∈ lw_tbl := lw_at lw_m7 29 rfl
theorem q1541 : (Jvm.Cond.instanceMethod ({ cls := "FuneralDebtsModel", name := "isAt", desc := "(I)Z" } : Jvm.MethodName)) ∈ lw_all := lw_g (lw_at lw_m7 30 rfl) rfl
theorem q1542 : (Jvm.Cond.code ({ cls := "FuneralDebtsModel", name := "isAt", desc := "(I)Z" } : Jvm.MethodName) prog_23_method_20_code (2 : Nat) (Option.some Jvm.ClassFile.FieldType.boolean)) ∈ lw_all := lw_g (lw_at lw_m7 31 rfl) rfl
theorem q1543 : (Jvm.Cond.methodLink "FuneralDebtsModel" (137 : Nat) ({ cls := "FuneralDebtsModel", name := "takes", desc := "(I)V" } : Jvm.MethodName)) ∈ lw_all := lw_g (lw_at lw_m7 32 rfl) rfl
theorem q1544 : (Jvm.Cond.privateMethod ({ cls := "FuneralDebtsModel", name := "takes", desc := "(I)V" } : Jvm.MethodName)) ∈ lw_tbl := lw_at lw_m7 33 rfl
theorem q1545 : (Jvm.Cond.instanceMethod ({ cls := "FuneralDebtsModel", name := "takes", desc := "(I)V" } : Jvm.MethodName)) ∈ lw_all := lw_g (lw_at lw_m7 34 rfl) rfl
theorem q1546 : (Jvm.Cond.code ({ cls := "FuneralDebtsModel", name := "takes", desc := "(I)V" } : Jvm.MethodName) prog_23_method_21_code (2 : Nat) (Option.none : Option Jvm.ClassFile.FieldType)) ∈ lw_all := lw_g (lw_at lw_m7 35 rfl) rfl
theorem q1547 : (Jvm.Cond.methodLink "FuneralDebtsModel" (141 : Nat) ({ cls := "FuneralDebtsModel", name := "number", desc := "()I" } : Jvm.MethodName)) ∈ lw_all := lw_g (lw_at lw_m7 36 rfl) rfl
theorem q1548 : (Jvm.Cond.privateMethod ({ cls := "FuneralDebtsModel", name := "number", desc := "()I" } : Jvm.MethodName)) ∈ lw_tbl := lw_at lw_m7 37 rfl
theorem q1549 : (Jvm.Cond.instanceMethod ({ cls := "FuneralDebtsModel", name := "number", desc := "()I" } : Jvm.MethodName)) ∈ lw_all := lw_g (lw_at lw_m7 38 rfl) rfl
theorem q1550 : (Jvm.Cond.code ({ cls := "FuneralDebtsModel", name := "number", desc := "()I" } : Jvm.MethodName) prog_23_method_23_code (2 : Nat) (Option.some Jvm.ClassFile.FieldType.int)) ∈ lw_all := lw_g (lw_at lw_m7 39 rfl) rfl
theorem q1551 : (Jvm.Cond.methodLink "FuneralDebtsModel" (133 : Nat) ({ cls := "FuneralDebtsModel", name := "isDigit", desc := "()Z" } : Jvm.MethodName)) ∈ lw_all := lw_g (lw_at lw_m7 40 rfl) rfl
theorem q1552 : (Jvm.Cond.privateMethod ({ cls := "FuneralDebtsModel", name := "isDigit", desc := "()Z" } : Jvm.MethodName)) ∈ lw_tbl := lw_at lw_m7 41 rfl
theorem q1553 : (Jvm.Cond.instanceMethod ({ cls := "FuneralDebtsModel", name := "isDigit", desc := "()Z" } : Jvm.MethodName)) ∈ lw_all := lw_g (lw_at lw_m7 42 rfl) rfl
theorem q1554 : (Jvm.Cond.code ({ cls := "FuneralDebtsModel", name := "isDigit", desc := "()Z" } : Jvm.MethodName) prog_23_method_22_code (1 : Nat) (Option.some Jvm.ClassFile.FieldType.boolean)) ∈ lw_all := lw_g (lw_at lw_m7 43 rfl) rfl
theorem q1555 : (Jvm.Cond.methodLink "FuneralDebtsModel" (151 : Nat) ({ cls := "FuneralDebtsModel", name := "any", desc := "()Z" } : Jvm.MethodName)) ∈ lw_all := lw_g (lw_at lw_m7 44 rfl) rfl
theorem q1556 : (Jvm.Cond.privateMethod ({ cls := "FuneralDebtsModel", name := "any", desc := "()Z" } : Jvm.MethodName)) ∈ lw_tbl := lw_at lw_m7 45 rfl
theorem q1557 : (Jvm.Cond.instanceMethod ({ cls := "FuneralDebtsModel", name := "any", desc := "()Z" } : Jvm.MethodName)) ∈ lw_all := lw_g (lw_at lw_m7 46 rfl) rfl
theorem q1558 : (Jvm.Cond.code ({ cls := "FuneralDebtsModel", name := "any", desc := "()Z" } : Jvm.MethodName) prog_23_method_27_code (3 : Nat) (Option.some Jvm.ClassFile.FieldType.boolean)) ∈ lw_all := lw_g (lw_at lw_m7 47 rfl) rfl
theorem q1559 : (Jvm.Cond.methodLink "FuneralDebtsModel" (157 : Nat) ({ cls := "FuneralDebtsModel", name := "both", desc := "()Z" } : Jvm.MethodName)) ∈ lw_all := lw_g (lw_at lw_m7 48 rfl) rfl
theorem q1560 : (Jvm.Cond.privateMethod ({ cls := "FuneralDebtsModel", name := "both", desc := "()Z" } : Jvm.MethodName)) ∈ lw_tbl := lw_at lw_m7 49 rfl
theorem q1561 : (Jvm.Cond.instanceMethod ({ cls := "FuneralDebtsModel", name := "both", desc := "()Z" } : Jvm.MethodName)) ∈ lw_all := lw_g (lw_at lw_m7 50 rfl) rfl
theorem q1562 : (Jvm.Cond.code ({ cls := "FuneralDebtsModel", name := "both", desc := "()Z" } : Jvm.MethodName) prog_23_method_26_code (3 : Nat) (Option.some Jvm.ClassFile.FieldType.boolean)) ∈ lw_all := lw_g (lw_at lw_m7 51 rfl) rfl
theorem q1563 : (Jvm.Cond.methodLink "FuneralDebtsModel" (148 : Nat) ({ cls := "FuneralDebtsModel", name := "factor", desc := "()Z" } : Jvm.MethodName)) ∈ lw_all := lw_g (lw_at lw_m7 52 rfl) rfl
theorem q1564 : (Jvm.Cond.privateMethod ({ cls := "FuneralDebtsModel", name := "factor", desc := "()Z" } : Jvm.MethodName)) ∈ lw_tbl := lw_at lw_m7 53 rfl
theorem q1565 : (Jvm.Cond.instanceMethod ({ cls := "FuneralDebtsModel", name := "factor", desc := "()Z" } : Jvm.MethodName)) ∈ lw_all := lw_g (lw_at lw_m7 54 rfl) rfl
theorem q1566 : (Jvm.Cond.code ({ cls := "FuneralDebtsModel", name := "factor", desc := "()Z" } : Jvm.MethodName) prog_23_method_25_code (2 : Nat) (Option.some Jvm.ClassFile.FieldType.boolean)) ∈ lw_all := lw_g (lw_at lw_m7 55 rfl) rfl
theorem q1567 : (Jvm.Cond.methodLink "FuneralDebtsModel" (154 : Nat) ({ cls := "FuneralDebtsModel", name := "test", desc := "()Z" } : Jvm.MethodName)) ∈ lw_all := lw_g (lw_at lw_m7 56 rfl) rfl
theorem q1568 : (Jvm.Cond.privateMethod ({ cls := "FuneralDebtsModel", name := "test", desc := "()Z" } : Jvm.MethodName)) ∈ lw_tbl := lw_at lw_m7 57 rfl
theorem q1569 : (Jvm.Cond.instanceMethod ({ cls := "FuneralDebtsModel", name := "test", desc := "()Z" } : Jvm.MethodName)) ∈ lw_all := lw_g (lw_at lw_m7 58 rfl) rfl
theorem q1570 : (Jvm.Cond.code ({ cls := "FuneralDebtsModel", name := "test", desc := "()Z" } : Jvm.MethodName) prog_23_method_24_code (4 : Nat) (Option.some Jvm.ClassFile.FieldType.boolean)) ∈ lw_all := lw_g (lw_at lw_m7 59 rfl) rfl
theorem q1571 : (Jvm.Cond.methodLink "FuneralDebtsModel" (182 : Nat) ({ cls := "java/lang/Math", name := "max", desc := "(II)I" } : Jvm.MethodName)) ∈ lw_all := lw_g (lw_at lw_m7 60 rfl) rfl
theorem q1572 : (Jvm.Cond.methodLink "FuneralDebtsModel" (107 : Nat) ({ cls := "FuneralDebtsModel", name := "best", desc := "(I)I" } : Jvm.MethodName)) ∈ lw_all := lw_g (lw_at lw_m7 61 rfl) rfl
theorem q1573 : (Jvm.Cond.privateMethod ({ cls := "FuneralDebtsModel", name := "best", desc := "(I)I" } : Jvm.MethodName)) ∈ lw_tbl := lw_at lw_m7 62 rfl
theorem q1574 : (Jvm.Cond.instanceMethod ({ cls := "FuneralDebtsModel", name := "best", desc := "(I)I" } : Jvm.MethodName)) ∈ lw_all := lw_g (lw_at lw_m7 63 rfl) rfl
theorem q1575 : (Jvm.Cond.code ({ cls := "FuneralDebtsModel", name := "best", desc := "(I)I" } : Jvm.MethodName) prog_23_method_35_code (6 : Nat) (Option.some Jvm.ClassFile.FieldType.int)) ∈ lw_all := lw_g (lw_at lw_m7 64 rfl) rfl
theorem q1576 : (Jvm.Cond.methodLink "FuneralDebtsModel" (114 : Nat) ({ cls := "FuneralDebtsModel", name := "worth", desc := "(II)I" } : Jvm.MethodName)) ∈ lw_all := lw_g (lw_at lw_m7 65 rfl) rfl
theorem q1577 : (Jvm.Cond.privateMethod ({ cls := "FuneralDebtsModel", name := "worth", desc := "(II)I" } : Jvm.MethodName)) ∈ lw_tbl := lw_at lw_m7 66 rfl
theorem q1578 : (Jvm.Cond.instanceMethod ({ cls := "FuneralDebtsModel", name := "worth", desc := "(II)I" } : Jvm.MethodName)) ∈ lw_all := lw_g (lw_at lw_m7 67 rfl) rfl
theorem q1579 : (Jvm.Cond.code ({ cls := "FuneralDebtsModel", name := "worth", desc := "(II)I" } : Jvm.MethodName) prog_23_method_34_code (5 : Nat) (Option.some Jvm.ClassFile.FieldType.int)) ∈ lw_all := lw_g (lw_at lw_m7 68 rfl) rfl
theorem q1581 : (Jvm.Cond.instanceMethod ({ cls := "FuneralDebtsModel", name := "set", desc := "(III)I" } : Jvm.MethodName)) ∈ lw_all := lw_g (lw_at lw_m7 70 rfl) rfl
theorem q1582 : (Jvm.Cond.selects "FuneralDebtsModel" ({ cls := "FuneralDebtsModel", name := "set", desc := "(III)I" } : Jvm.MethodName) ({ cls := "FuneralDebtsModel", name := "set", desc := "(III)I" } : Jvm.MethodName)) ∈ lw_all := lw_g (lw_at lw_m7 71 rfl) rfl
theorem q1583 : (Jvm.Cond.code ({ cls := "FuneralDebtsModel", name := "set", desc := "(III)I" } : Jvm.MethodName) prog_23_method_15_code (4 : Nat) (Option.some Jvm.ClassFile.FieldType.int)) ∈ lw_all := lw_g (lw_at lw_m7 72 rfl) rfl
theorem q1585 : (Jvm.Cond.instanceMethod ({ cls := "FuneralDebtsModel", name := "away", desc := "(IZ)I" } : Jvm.MethodName)) ∈ lw_all := lw_g (lw_at lw_m7 74 rfl) rfl
theorem q1586 : (Jvm.Cond.selects "FuneralDebtsModel" ({ cls := "FuneralDebtsModel", name := "away", desc := "(IZ)I" } : Jvm.MethodName) ({ cls := "FuneralDebtsModel", name := "away", desc := "(IZ)I" } : Jvm.MethodName)) ∈ lw_all := lw_g (lw_at lw_m7 75 rfl) rfl
theorem q1587 : (Jvm.Cond.code ({ cls := "FuneralDebtsModel", name := "away", desc := "(IZ)I" } : Jvm.MethodName) prog_23_method_16_code (3 : Nat) (Option.some Jvm.ClassFile.FieldType.int)) ∈ lw_all := lw_g (lw_at lw_m7 76 rfl) rfl
theorem q1589 : (Jvm.Cond.instanceMethod ({ cls := "FuneralDebtsModel", name := "debt", desc := "(I)I" } : Jvm.MethodName)) ∈ lw_all := lw_g (lw_at lw_m7 78 rfl) rfl
theorem q1590 : (Jvm.Cond.selects "FuneralDebtsModel" ({ cls := "FuneralDebtsModel", name := "debt", desc := "(I)I" } : Jvm.MethodName) ({ cls := "FuneralDebtsModel", name := "debt", desc := "(I)I" } : Jvm.MethodName)) ∈ lw_all := lw_g (lw_at lw_m7 79 rfl) rfl
theorem q1591 : (Jvm.Cond.code ({ cls := "FuneralDebtsModel", name := "debt", desc := "(I)I" } : Jvm.MethodName) prog_23_method_17_code (3 : Nat) (Option.some Jvm.ClassFile.FieldType.int)) ∈ lw_all := lw_g (lw_at lw_m7 80 rfl) rfl
theorem q1593 : (Jvm.Cond.instanceMethod ({ cls := "FuneralDebtsModel", name := "row", desc := "(III)I" } : Jvm.MethodName)) ∈ lw_all := lw_g (lw_at lw_m7 82 rfl) rfl
theorem q1594 : (Jvm.Cond.selects "FuneralDebtsModel" ({ cls := "FuneralDebtsModel", name := "row", desc := "(III)I" } : Jvm.MethodName) ({ cls := "FuneralDebtsModel", name := "row", desc := "(III)I" } : Jvm.MethodName)) ∈ lw_all := lw_g (lw_at lw_m7 83 rfl) rfl
theorem q1595 : (Jvm.Cond.code ({ cls := "FuneralDebtsModel", name := "row", desc := "(III)I" } : Jvm.MethodName) prog_23_method_18_code (4 : Nat) (Option.some Jvm.ClassFile.FieldType.int)) ∈ lw_all := lw_g (lw_at lw_m7 84 rfl) rfl
theorem q1597 : (Jvm.Cond.instanceMethod ({ cls := "FuneralDebtsModel", name := "feed", desc := "(I)I" } : Jvm.MethodName)) ∈ lw_all := lw_g (lw_at lw_m7 86 rfl) rfl
theorem q1598 : (Jvm.Cond.selects "FuneralDebtsModel" ({ cls := "FuneralDebtsModel", name := "feed", desc := "(I)I" } : Jvm.MethodName) ({ cls := "FuneralDebtsModel", name := "feed", desc := "(I)I" } : Jvm.MethodName)) ∈ lw_all := lw_g (lw_at lw_m7 87 rfl) rfl
theorem q1599 : (Jvm.Cond.code ({ cls := "FuneralDebtsModel", name := "feed", desc := "(I)I" } : Jvm.MethodName) prog_23_method_19_code (2 : Nat) (Option.some Jvm.ClassFile.FieldType.int)) ∈ lw_all := lw_g (lw_at lw_m7 88 rfl) rfl
theorem q1601 : (Jvm.Cond.instanceMethod ({ cls := "FuneralDebtsModel", name := "parish", desc := "()I" } : Jvm.MethodName)) ∈ lw_all := lw_g (lw_at lw_m7 90 rfl) rfl
theorem q1602 : (Jvm.Cond.selects "FuneralDebtsModel" ({ cls := "FuneralDebtsModel", name := "parish", desc := "()I" } : Jvm.MethodName) ({ cls := "FuneralDebtsModel", name := "parish", desc := "()I" } : Jvm.MethodName)) ∈ lw_all := lw_g (lw_at lw_m7 91 rfl) rfl
theorem q1603 : (Jvm.Cond.code ({ cls := "FuneralDebtsModel", name := "parish", desc := "()I" } : Jvm.MethodName) prog_23_method_31_code (2 : Nat) (Option.some Jvm.ClassFile.FieldType.int)) ∈ lw_all := lw_g (lw_at lw_m7 92 rfl) rfl
theorem q1605 : (Jvm.Cond.instanceMethod ({ cls := "FuneralDebtsModel", name := "told", desc := "(I)I" } : Jvm.MethodName)) ∈ lw_all := lw_g (lw_at lw_m7 94 rfl) rfl
theorem q1606 : (Jvm.Cond.selects "FuneralDebtsModel" ({ cls := "FuneralDebtsModel", name := "told", desc := "(I)I" } : Jvm.MethodName) ({ cls := "FuneralDebtsModel", name := "told", desc := "(I)I" } : Jvm.MethodName)) ∈ lw_all := lw_g (lw_at lw_m7 95 rfl) rfl
theorem q1607 : (Jvm.Cond.code ({ cls := "FuneralDebtsModel", name := "told", desc := "(I)I" } : Jvm.MethodName) prog_23_method_41_code (2 : Nat) (Option.some Jvm.ClassFile.FieldType.int)) ∈ lw_all := lw_g (lw_at lw_m7 96 rfl) rfl
theorem q1608 : (Jvm.Cond.methodLink "FuneralDebtsModel" (204 : Nat) ({ cls := "FuneralDebtsModel", name := "aways", desc := "()I" } : Jvm.MethodName)) ∈ lw_all := lw_g (lw_at lw_m7 97 rfl) rfl
theorem q1609 : (Jvm.Cond.privateMethod ({ cls := "FuneralDebtsModel", name := "aways", desc := "()I" } : Jvm.MethodName)) ∈ lw_tbl := lw_at lw_m7 98 rfl
theorem q1610 : (Jvm.Cond.instanceMethod ({ cls := "FuneralDebtsModel", name := "aways", desc := "()I" } : Jvm.MethodName)) ∈ lw_all := lw_g (lw_at lw_m7 99 rfl) rfl
theorem q1611 : (Jvm.Cond.code ({ cls := "FuneralDebtsModel", name := "aways", desc := "()I" } : Jvm.MethodName) prog_23_method_40_code (3 : Nat) (Option.some Jvm.ClassFile.FieldType.int)) ∈ lw_all := lw_g (lw_at lw_m7 100 rfl) rfl
theorem q1612 : (Jvm.Cond.methodLink "FuneralDebtsModel" (207 : Nat) ({ cls := "FuneralDebtsModel", name := "still", desc := "()I" } : Jvm.MethodName)) ∈ lw_all := lw_g (lw_at lw_m7 101 rfl) rfl
theorem q1613 : (Jvm.Cond.privateMethod ({ cls := "FuneralDebtsModel", name := "still", desc := "()I" } : Jvm.MethodName)) ∈ lw_tbl := lw_at lw_m7 102 rfl
theorem q1614 : (Jvm.Cond.instanceMethod ({ cls := "FuneralDebtsModel", name := "still", desc := "()I" } : Jvm.MethodName)) ∈ lw_all := lw_g (lw_at lw_m7 103 rfl) rfl
theorem q1615 : (Jvm.Cond.code ({ cls := "FuneralDebtsModel", name := "still", desc := "()I" } : Jvm.MethodName) prog_23_method_38_code (3 : Nat) (Option.some Jvm.ClassFile.FieldType.int)) ∈ lw_all := lw_g (lw_at lw_m7 104 rfl) rfl
theorem q1616 : (Jvm.Cond.methodLink "FuneralDebtsModel" (194 : Nat) ({ cls := "FuneralDebtsModel", name := "keep", desc := "(I)V" } : Jvm.MethodName)) ∈ lw_all := lw_g (lw_at lw_m7 105 rfl) rfl
theorem q1617 : (Jvm.Cond.privateMethod ({ cls := "FuneralDebtsModel", name := "keep", desc := "(I)V" } : Jvm.MethodName)) ∈ lw_tbl := lw_at lw_m7 106 rfl
theorem q1618 : (Jvm.Cond.instanceMethod ({ cls := "FuneralDebtsModel", name := "keep", desc := "(I)V" } : Jvm.MethodName)) ∈ lw_all := lw_g (lw_at lw_m7 107 rfl) rfl
theorem q1619 : (Jvm.Cond.code ({ cls := "FuneralDebtsModel", name := "keep", desc := "(I)V" } : Jvm.MethodName) prog_23_method_4_code (3 : Nat) (Option.none : Option Jvm.ClassFile.FieldType)) ∈ lw_all := lw_g (lw_at lw_m7 108 rfl) rfl
theorem q1620 : (Jvm.Cond.methodLink "FuneralDebtsModel" (197 : Nat) ({ cls := "FuneralDebtsModel", name := "day", desc := "(Z)I" } : Jvm.MethodName)) ∈ lw_all := lw_g (lw_at lw_m7 109 rfl) rfl
theorem q1621 : (Jvm.Cond.privateMethod ({ cls := "FuneralDebtsModel", name := "day", desc := "(Z)I" } : Jvm.MethodName)) ∈ lw_tbl := lw_at lw_m7 110 rfl
theorem q1622 : (Jvm.Cond.instanceMethod ({ cls := "FuneralDebtsModel", name := "day", desc := "(Z)I" } : Jvm.MethodName)) ∈ lw_all := lw_g (lw_at lw_m7 111 rfl) rfl
theorem q1623 : (Jvm.Cond.code ({ cls := "FuneralDebtsModel", name := "day", desc := "(Z)I" } : Jvm.MethodName) prog_23_method_37_code (5 : Nat) (Option.some Jvm.ClassFile.FieldType.int)) ∈ lw_all := lw_g (lw_at lw_m7 112 rfl) rfl
theorem q1624 : (Jvm.Cond.methodLink "FuneralDebtsModel" (187 : Nat) ({ cls := "FuneralDebtsModel", name := "moves", desc := "()I" } : Jvm.MethodName)) ∈ lw_all := lw_g (lw_at lw_m7 113 rfl) rfl
theorem q1625 : (Jvm.Cond.privateMethod ({ cls := "FuneralDebtsModel", name := "moves", desc := "()I" } : Jvm.MethodName)) ∈ lw_tbl := lw_at lw_m7 114 rfl
theorem q1626 : (Jvm.Cond.instanceMethod ({ cls := "FuneralDebtsModel", name := "moves", desc := "()I" } : Jvm.MethodName)) ∈ lw_all := lw_g (lw_at lw_m7 115 rfl) rfl
theorem q1627 : (Jvm.Cond.code ({ cls := "FuneralDebtsModel", name := "moves", desc := "()I" } : Jvm.MethodName) prog_23_method_36_code (4 : Nat) (Option.some Jvm.ClassFile.FieldType.int)) ∈ lw_all := lw_g (lw_at lw_m7 116 rfl) rfl
theorem q1628 : (Jvm.Cond.constant "FuneralDebtsModel" (190 : Nat) (999999 : Int32)) ∈ lw_all := lw_g (lw_at lw_m7 117 rfl) rfl
theorem q1629 : (Jvm.Cond.methodLink "FuneralDebtsModel" (191 : Nat) ({ cls := "java/lang/Math", name := "min", desc := "(II)I" } : Jvm.MethodName)) ∈ lw_all := lw_g (lw_at lw_m7 118 rfl) rfl
theorem q1630 : (Jvm.Cond.methodLink "FuneralDebtsModel" (201 : Nat) ({ cls := "FuneralDebtsModel", name := "lay", desc := "(I)V" } : Jvm.MethodName)) ∈ lw_all := lw_g (lw_at lw_m7 119 rfl) rfl
theorem q1631 : (Jvm.Cond.privateMethod ({ cls := "FuneralDebtsModel", name := "lay", desc := "(I)V" } : Jvm.MethodName)) ∈ lw_tbl := lw_at lw_m7 120 rfl
theorem q1632 : (Jvm.Cond.instanceMethod ({ cls := "FuneralDebtsModel", name := "lay", desc := "(I)V" } : Jvm.MethodName)) ∈ lw_all := lw_g (lw_at lw_m7 121 rfl) rfl
theorem q1633 : (Jvm.Cond.code ({ cls := "FuneralDebtsModel", name := "lay", desc := "(I)V" } : Jvm.MethodName) prog_23_method_5_code (3 : Nat) (Option.none : Option Jvm.ClassFile.FieldType)) ∈ lw_all := lw_g (lw_at lw_m7 122 rfl) rfl
theorem q1634 : (Jvm.Cond.methodLink "FuneralDebtsModel" (210 : Nat) ({ cls := "FuneralDebtsModel", name := "gains", desc := "()I" } : Jvm.MethodName)) ∈ lw_all := lw_g (lw_at lw_m7 123 rfl) rfl
theorem q1635 : (Jvm.Cond.privateMethod ({ cls := "FuneralDebtsModel", name := "gains", desc := "()I" } : Jvm.MethodName)) ∈ lw_tbl := lw_at lw_m7 124 rfl
theorem q1636 : (Jvm.Cond.instanceMethod ({ cls := "FuneralDebtsModel", name := "gains", desc := "()I" } : Jvm.MethodName)) ∈ lw_all := lw_g (lw_at lw_m7 125 rfl) rfl
theorem q1637 : (Jvm.Cond.code ({ cls := "FuneralDebtsModel", name := "gains", desc := "()I" } : Jvm.MethodName) prog_23_method_39_code (3 : Nat) (Option.some Jvm.ClassFile.FieldType.int)) ∈ lw_all := lw_g (lw_at lw_m7 126 rfl) rfl
theorem q1638 : (Jvm.Cond.methodLink "FuneralDebtsModel" (213 : Nat) ({ cls := "FuneralDebtsModel", name := "owed", desc := "(Z)I" } : Jvm.MethodName)) ∈ lw_all := lw_g (lw_at lw_m7 127 rfl) rfl
theorem q1639 : (Jvm.Cond.privateMethod ({ cls := "FuneralDebtsModel", name := "owed", desc := "(Z)I" } : Jvm.MethodName)) ∈ lw_tbl := lw_at lw_m7 128 rfl
theorem q1640 : (Jvm.Cond.instanceMethod ({ cls := "FuneralDebtsModel", name := "owed", desc := "(Z)I" } : Jvm.MethodName)) ∈ lw_all := lw_g (lw_at lw_m7 129 rfl) rfl
theorem q1641 : (Jvm.Cond.code ({ cls := "FuneralDebtsModel", name := "owed", desc := "(Z)I" } : Jvm.MethodName) prog_23_method_48_code (7 : Nat) (Option.some Jvm.ClassFile.FieldType.int)) ∈ lw_all := lw_g (lw_at lw_m7 130 rfl) rfl
theorem q1642 : (Jvm.Cond.methodLink "FuneralDebtsModel" (219 : Nat) ({ cls := "FuneralDebtsModel", name := "isAllSeen", desc := "()Z" } : Jvm.MethodName)) ∈ lw_all := lw_g (lw_at lw_m7 131 rfl) rfl
theorem q1643 : (Jvm.Cond.privateMethod ({ cls := "FuneralDebtsModel", name := "isAllSeen", desc := "()Z" } : Jvm.MethodName)) ∈ lw_tbl := lw_at lw_m7 132 rfl
theorem q1644 : (Jvm.Cond.instanceMethod ({ cls := "FuneralDebtsModel", name := "isAllSeen", desc := "()Z" } : Jvm.MethodName)) ∈ lw_all := lw_g (lw_at lw_m7 133 rfl) rfl
theorem q1645 : (Jvm.Cond.code ({ cls := "FuneralDebtsModel", name := "isAllSeen", desc := "()Z" } : Jvm.MethodName) prog_23_method_47_code (4 : Nat) (Option.some Jvm.ClassFile.FieldType.boolean)) ∈ lw_all := lw_g (lw_at lw_m7 134 rfl) rfl
theorem q1647 : (Jvm.Cond.instanceMethod ({ cls := "FuneralDebtsModel", name := "pass", desc := "(I)I" } : Jvm.MethodName)) ∈ lw_all := lw_g (lw_at lw_m7 136 rfl) rfl
theorem q1648 : (Jvm.Cond.selects "FuneralDebtsModel" ({ cls := "FuneralDebtsModel", name := "pass", desc := "(I)I" } : Jvm.MethodName) ({ cls := "FuneralDebtsModel", name := "pass", desc := "(I)I" } : Jvm.MethodName)) ∈ lw_all := lw_g (lw_at lw_m7 137 rfl) rfl
theorem q1649 : (Jvm.Cond.code ({ cls := "FuneralDebtsModel", name := "pass", desc := "(I)I" } : Jvm.MethodName) prog_23_method_42_code (3 : Nat) (Option.some Jvm.ClassFile.FieldType.int)) ∈ lw_all := lw_g (lw_at lw_m7 138 rfl) rfl
theorem q1651 : (Jvm.Cond.instanceMethod ({ cls := "FuneralDebtsModel", name := "on", desc := "(II)I" } : Jvm.MethodName)) ∈ lw_all := lw_g (lw_at lw_m7 140 rfl) rfl
theorem q1652 : (Jvm.Cond.selects "FuneralDebtsModel" ({ cls := "FuneralDebtsModel", name := "on", desc := "(II)I" } : Jvm.MethodName) ({ cls := "FuneralDebtsModel", name := "on", desc := "(II)I" } : Jvm.MethodName)) ∈ lw_all := lw_g (lw_at lw_m7 141 rfl) rfl
theorem q1653 : (Jvm.Cond.code ({ cls := "FuneralDebtsModel", name := "on", desc := "(II)I" } : Jvm.MethodName) prog_23_method_43_code (4 : Nat) (Option.some Jvm.ClassFile.FieldType.int)) ∈ lw_all := lw_g (lw_at lw_m7 142 rfl) rfl
theorem q1655 : (Jvm.Cond.instanceMethod ({ cls := "FuneralDebtsModel", name := "kept", desc := "(II)I" } : Jvm.MethodName)) ∈ lw_all := lw_g (lw_at lw_m7 144 rfl) rfl
theorem q1656 : (Jvm.Cond.selects "FuneralDebtsModel" ({ cls := "FuneralDebtsModel", name := "kept", desc := "(II)I" } : Jvm.MethodName) ({ cls := "FuneralDebtsModel", name := "kept", desc := "(II)I" } : Jvm.MethodName)) ∈ lw_all := lw_g (lw_at lw_m7 145 rfl) rfl
theorem q1657 : (Jvm.Cond.code ({ cls := "FuneralDebtsModel", name := "kept", desc := "(II)I" } : Jvm.MethodName) prog_23_method_45_code (6 : Nat) (Option.some Jvm.ClassFile.FieldType.int)) ∈ lw_all := lw_g (lw_at lw_m7 146 rfl) rfl
theorem q1658 : (Jvm.Cond.methodLink "FuneralDebtsModel" (216 : Nat) ({ cls := "FuneralDebtsModel", name := "many", desc := "(I)I" } : Jvm.MethodName)) ∈ lw_all := lw_g (lw_at lw_m7 147 rfl) rfl
theorem q1659 : (Jvm.Cond.static ({ cls := "FuneralDebtsModel", name := "many", desc := "(I)I" } : Jvm.MethodName)) ∈ lw_all := lw_g (lw_at lw_m7 148 rfl) rfl
theorem q1660 : (Jvm.Cond.code ({ cls := "FuneralDebtsModel", name := "many", desc := "(I)I" } : Jvm.MethodName) prog_23_method_44_code (3 : Nat) (Option.some Jvm.ClassFile.FieldType.int)) ∈ lw_all := lw_g (lw_at lw_m7 149 rfl) rfl
theorem q1662 : (Jvm.Cond.instanceMethod ({ cls := "FuneralDebtsModel", name := "see", desc := "(II)I" } : Jvm.MethodName)) ∈ lw_all := lw_g (lw_at lw_m7 151 rfl) rfl
theorem q1663 : (Jvm.Cond.selects "FuneralDebtsModel" ({ cls := "FuneralDebtsModel", name := "see", desc := "(II)I" } : Jvm.MethodName) ({ cls := "FuneralDebtsModel", name := "see", desc := "(II)I" } : Jvm.MethodName)) ∈ lw_all := lw_g (lw_at lw_m7 152 rfl) rfl
theorem q1664 : (Jvm.Cond.code ({ cls := "FuneralDebtsModel", name := "see", desc := "(II)I" } : Jvm.MethodName) prog_23_method_46_code (4 : Nat) (Option.some Jvm.ClassFile.FieldType.int)) ∈ lw_all := lw_g (lw_at lw_m7 153 rfl) rfl
theorem q1666 : (Jvm.Cond.instanceMethod ({ cls := "FuneralDebtsModel", name := "can", desc := "(II)I" } : Jvm.MethodName)) ∈ lw_all := lw_g (lw_at lw_m7 155 rfl) rfl
theorem q1667 : (Jvm.Cond.selects "FuneralDebtsModel" ({ cls := "FuneralDebtsModel", name := "can", desc := "(II)I" } : Jvm.MethodName) ({ cls := "FuneralDebtsModel", name := "can", desc := "(II)I" } : Jvm.MethodName)) ∈ lw_all := lw_g (lw_at lw_m7 156 rfl) rfl
theorem q1668 : (Jvm.Cond.code ({ cls := "FuneralDebtsModel", name := "can", desc := "(II)I" } : Jvm.MethodName) prog_23_method_49_code (8 : Nat) (Option.some Jvm.ClassFile.FieldType.int)) ∈ lw_all := lw_g (lw_at lw_m7 157 rfl) rfl
theorem q1670 : (Jvm.Cond.instanceMethod ({ cls := "FuneralDebtsModel", name := "odds", desc := "(II)J" } : Jvm.MethodName)) ∈ lw_all := lw_g (lw_at lw_m7 159 rfl) rfl
theorem q1671 : (Jvm.Cond.selects "FuneralDebtsModel" ({ cls := "FuneralDebtsModel", name := "odds", desc := "(II)J" } : Jvm.MethodName) ({ cls := "FuneralDebtsModel", name := "odds", desc := "(II)J" } : Jvm.MethodName)) ∈ lw_all := lw_g (lw_at lw_m7 160 rfl) rfl
theorem q1672 : (Jvm.Cond.code ({ cls := "FuneralDebtsModel", name := "odds", desc := "(II)J" } : Jvm.MethodName) prog_23_method_51_code (7 : Nat) (Option.some Jvm.ClassFile.FieldType.long)) ∈ lw_all := lw_g (lw_at lw_m7 161 rfl) rfl
theorem q1673 : (Jvm.Cond.constantLong "FuneralDebtsModel" (222 : Nat) (-9223372036854775808 : Int64)) ∈ lw_all := lw_g (lw_at lw_m7 162 rfl) rfl
theorem q1674 : (Jvm.Cond.methodLink "FuneralDebtsModel" (224 : Nat) ({ cls := "FuneralDebtsModel", name := "fraction", desc := "(JJI)J" } : Jvm.MethodName)) ∈ lw_all := lw_g (lw_at lw_m7 163 rfl) rfl
theorem q1675 : (Jvm.Cond.static ({ cls := "FuneralDebtsModel", name := "fraction", desc := "(JJI)J" } : Jvm.MethodName)) ∈ lw_all := lw_g (lw_at lw_m7 164 rfl) rfl
theorem q1676 : (Jvm.Cond.code ({ cls := "FuneralDebtsModel", name := "fraction", desc := "(JJI)J" } : Jvm.MethodName) prog_23_method_50_code (11 : Nat) (Option.some Jvm.ClassFile.FieldType.long)) ∈ lw_all := lw_g (lw_at lw_m7 165 rfl) rfl
theorem q1678 : (Jvm.Cond.instanceMethod ({ cls := "FuneralDebtsModel", name := "mean", desc := "(I)J" } : Jvm.MethodName)) ∈ lw_all := lw_g (lw_at lw_m7 167 rfl) rfl
theorem q1679 : (Jvm.Cond.selects "FuneralDebtsModel" ({ cls := "FuneralDebtsModel", name := "mean", desc := "(I)J" } : Jvm.MethodName) ({ cls := "FuneralDebtsModel", name := "mean", desc := "(I)J" } : Jvm.MethodName)) ∈ lw_all := lw_g (lw_at lw_m7 168 rfl) rfl
theorem q1680 : (Jvm.Cond.code ({ cls := "FuneralDebtsModel", name := "mean", desc := "(I)J" } : Jvm.MethodName) prog_23_method_52_code (3 : Nat) (Option.some Jvm.ClassFile.FieldType.long)) ∈ lw_all := lw_g (lw_at lw_m7 169 rfl) rfl
theorem q1682 : (Jvm.Cond.instanceMethod ({ cls := "FuneralDebtsModel", name := "plan", desc := "(II)I" } : Jvm.MethodName)) ∈ lw_all := lw_g (lw_at lw_m7 171 rfl) rfl
theorem q1683 : (Jvm.Cond.selects "FuneralDebtsModel" ({ cls := "FuneralDebtsModel", name := "plan", desc := "(II)I" } : Jvm.MethodName) ({ cls := "FuneralDebtsModel", name := "plan", desc := "(II)I" } : Jvm.MethodName)) ∈ lw_all := lw_g (lw_at lw_m7 172 rfl) rfl
theorem q1684 : (Jvm.Cond.code ({ cls := "FuneralDebtsModel", name := "plan", desc := "(II)I" } : Jvm.MethodName) prog_23_method_53_code (3 : Nat) (Option.some Jvm.ClassFile.FieldType.int)) ∈ lw_all := lw_g (lw_at lw_m7 173 rfl) rfl
theorem q1686 : (Jvm.Cond.instanceMethod ({ cls := "FuneralDebtsModel", name := "ends", desc := "(I)I" } : Jvm.MethodName)) ∈ lw_all := lw_g (lw_at lw_m7 175 rfl) rfl
theorem q1687 : (Jvm.Cond.selects "FuneralDebtsModel" ({ cls := "FuneralDebtsModel", name := "ends", desc := "(I)I" } : Jvm.MethodName) ({ cls := "FuneralDebtsModel", name := "ends", desc := "(I)I" } : Jvm.MethodName)) ∈ lw_all := lw_g (lw_at lw_m7 176 rfl) rfl
theorem q1688 : (Jvm.Cond.code ({ cls := "FuneralDebtsModel", name := "ends", desc := "(I)I" } : Jvm.MethodName) prog_23_method_54_code (5 : Nat) (Option.some Jvm.ClassFile.FieldType.int)) ∈ lw_all := lw_g (lw_at lw_m7 177 rfl) rfl
theorem q1690 : (Jvm.Cond.instanceMethod ({ cls := "FuneralDebtsModel", name := "book", desc := "(II)I" } : Jvm.MethodName)) ∈ lw_all := lw_g (lw_at lw_m7 179 rfl) rfl
theorem q1691 : (Jvm.Cond.selects "FuneralDebtsModel" ({ cls := "FuneralDebtsModel", name := "book", desc := "(II)I" } : Jvm.MethodName) ({ cls := "FuneralDebtsModel", name := "book", desc := "(II)I" } : Jvm.MethodName)) ∈ lw_all := lw_g (lw_at lw_m7 180 rfl) rfl
theorem q1692 : (Jvm.Cond.code ({ cls := "FuneralDebtsModel", name := "book", desc := "(II)I" } : Jvm.MethodName) prog_23_method_55_code (3 : Nat) (Option.some Jvm.ClassFile.FieldType.int)) ∈ lw_all := lw_g (lw_at lw_m7 181 rfl) rfl
theorem q1694 : (Jvm.Cond.instanceMethod ({ cls := "FuneralDebtsModel", name := "looked", desc := "()I" } : Jvm.MethodName)) ∈ lw_all := lw_g (lw_at lw_m7 183 rfl) rfl
theorem q1695 : (Jvm.Cond.selects "FuneralDebtsModel" ({ cls := "FuneralDebtsModel", name := "looked", desc := "()I" } : Jvm.MethodName) ({ cls := "FuneralDebtsModel", name := "looked", desc := "()I" } : Jvm.MethodName)) ∈ lw_all := lw_g (lw_at lw_m7 184 rfl) rfl
theorem q1696 : (Jvm.Cond.code ({ cls := "FuneralDebtsModel", name := "looked", desc := "()I" } : Jvm.MethodName) prog_23_method_56_code (2 : Nat) (Option.some Jvm.ClassFile.FieldType.int)) ∈ lw_all := lw_g (lw_at lw_m7 185 rfl) rfl
theorem q1698 : (Jvm.Cond.instanceMethod ({ cls := "FuneralDebtsModel", name := "act", desc := "(III)I" } : Jvm.MethodName)) ∈ lw_all := lw_g (lw_at lw_m7 187 rfl) rfl
theorem q1699 : (Jvm.Cond.selects "FuneralDebtsModel" ({ cls := "FuneralDebtsModel", name := "act", desc := "(III)I" } : Jvm.MethodName) ({ cls := "FuneralDebtsModel", name := "act", desc := "(III)I" } : Jvm.MethodName)) ∈ lw_all := lw_g (lw_at lw_m7 188 rfl) rfl
theorem q1700 : (Jvm.Cond.code ({ cls := "FuneralDebtsModel", name := "act", desc := "(III)I" } : Jvm.MethodName) prog_23_method_60_code (4 : Nat) (Option.some Jvm.ClassFile.FieldType.int)) ∈ lw_all := lw_g (lw_at lw_m7 189 rfl) rfl
theorem q1701 : (Jvm.Cond.methodLink "FuneralDebtsModel" (238 : Nat) ({ cls := "FuneralDebtsModel", name := "all", desc := "(III)I" } : Jvm.MethodName)) ∈ lw_all := lw_g (lw_at lw_m7 190 rfl) rfl
theorem q1702 : (Jvm.Cond.privateMethod ({ cls := "FuneralDebtsModel", name := "all", desc := "(III)I" } : Jvm.MethodName)) ∈ lw_tbl := lw_at lw_m7 191 rfl
theorem q1703 : (Jvm.Cond.instanceMethod ({ cls := "FuneralDebtsModel", name := "all", desc := "(III)I" } : Jvm.MethodName)) ∈ lw_all := lw_g (lw_at lw_m7 192 rfl) rfl
theorem q1704 : (Jvm.Cond.code ({ cls := "FuneralDebtsModel", name := "all", desc := "(III)I" } : Jvm.MethodName) prog_23_method_58_code (4 : Nat) (Option.some Jvm.ClassFile.FieldType.int)) ∈ lw_all := lw_g (lw_at lw_m7 193 rfl) rfl
theorem q1705 : (Jvm.Cond.methodLink "FuneralDebtsModel" (231 : Nat) ({ cls := "FuneralDebtsModel", name := "byKind", desc := "(IIII)I" } : Jvm.MethodName)) ∈ lw_all := lw_g (lw_at lw_m7 194 rfl) rfl
theorem q1706 : (Jvm.Cond.privateMethod ({ cls := "FuneralDebtsModel", name := "byKind", desc := "(IIII)I" } : Jvm.MethodName)) ∈ lw_tbl := lw_at lw_m7 195 rfl
theorem q1707 : (Jvm.Cond.instanceMethod ({ cls := "FuneralDebtsModel", name := "byKind", desc := "(IIII)I" } : Jvm.MethodName)) ∈ lw_all := lw_g (lw_at lw_m7 196 rfl) rfl
theorem q1708 : (Jvm.Cond.code ({ cls := "FuneralDebtsModel", name := "byKind", desc := "(IIII)I" } : Jvm.MethodName) prog_23_method_59_code (7 : Nat) (Option.some Jvm.ClassFile.FieldType.int)) ∈ lw_all := lw_g (lw_at lw_m7 197 rfl) rfl
theorem q1709 : (Jvm.Cond.methodLink "FuneralDebtsModel" (235 : Nat) ({ cls := "FuneralDebtsModel", name := "body", desc := "(I)I" } : Jvm.MethodName)) ∈ lw_all := lw_g (lw_at lw_m7 198 rfl) rfl
theorem q1710 : (Jvm.Cond.privateMethod ({ cls := "FuneralDebtsModel", name := "body", desc := "(I)I" } : Jvm.MethodName)) ∈ lw_tbl := lw_at lw_m7 199 rfl
theorem q1711 : (Jvm.Cond.instanceMethod ({ cls := "FuneralDebtsModel", name := "body", desc := "(I)I" } : Jvm.MethodName)) ∈ lw_all := lw_g (lw_at lw_m7 200 rfl) rfl
theorem q1712 : (Jvm.Cond.code ({ cls := "FuneralDebtsModel", name := "body", desc := "(I)I" } : Jvm.MethodName) prog_23_method_57_code (2 : Nat) (Option.some Jvm.ClassFile.FieldType.int)) ∈ lw_all := lw_g (lw_at lw_m7 201 rfl) rfl
theorem q1714 : (Jvm.Cond.instanceMethod ({ cls := "FuneralDebtsModel", name := "trace", desc := "(I)I" } : Jvm.MethodName)) ∈ lw_all := lw_g (lw_at lw_m7 203 rfl) rfl
theorem q1715 : (Jvm.Cond.selects "FuneralDebtsModel" ({ cls := "FuneralDebtsModel", name := "trace", desc := "(I)I" } : Jvm.MethodName) ({ cls := "FuneralDebtsModel", name := "trace", desc := "(I)I" } : Jvm.MethodName)) ∈ lw_all := lw_g (lw_at lw_m7 204 rfl) rfl
theorem q1716 : (Jvm.Cond.code ({ cls := "FuneralDebtsModel", name := "trace", desc := "(I)I" } : Jvm.MethodName) prog_23_method_61_code (2 : Nat) (Option.some Jvm.ClassFile.FieldType.int)) ∈ lw_all := lw_g (lw_at lw_m7 205 rfl) rfl
theorem q1718 : (Jvm.Cond.instanceMethod ({ cls := "FuneralDebtsModel", name := "taken", desc := "(II)I" } : Jvm.MethodName)) ∈ lw_all := lw_g (lw_at lw_m7 207 rfl) rfl
theorem q1719 : (Jvm.Cond.selects "FuneralDebtsModel" ({ cls := "FuneralDebtsModel", name := "taken", desc := "(II)I" } : Jvm.MethodName) ({ cls := "FuneralDebtsModel", name := "taken", desc := "(II)I" } : Jvm.MethodName)) ∈ lw_all := lw_g (lw_at lw_m7 208 rfl) rfl
theorem q1720 : (Jvm.Cond.code ({ cls := "FuneralDebtsModel", name := "taken", desc := "(II)I" } : Jvm.MethodName) prog_23_method_62_code (4 : Nat) (Option.some Jvm.ClassFile.FieldType.int)) ∈ lw_all := lw_g (lw_at lw_m7 209 rfl) rfl
theorem q1722 : (Jvm.Cond.instanceMethod ({ cls := "FuneralDebtsModel", name := "count", desc := "(I)I" } : Jvm.MethodName)) ∈ lw_all := lw_g (lw_at lw_m7 211 rfl) rfl
theorem q1723 : (Jvm.Cond.selects "FuneralDebtsModel" ({ cls := "FuneralDebtsModel", name := "count", desc := "(I)I" } : Jvm.MethodName) ({ cls := "FuneralDebtsModel", name := "count", desc := "(I)I" } : Jvm.MethodName)) ∈ lw_all := lw_g (lw_at lw_m7 212 rfl) rfl
theorem q1724 : (Jvm.Cond.code ({ cls := "FuneralDebtsModel", name := "count", desc := "(I)I" } : Jvm.MethodName) prog_23_method_63_code (2 : Nat) (Option.some Jvm.ClassFile.FieldType.int)) ∈ lw_all := lw_g (lw_at lw_m7 213 rfl) rfl
theorem q1726 : (Jvm.Cond.instanceMethod ({ cls := "FuneralDebtsModel", name := "tape", desc := "(III)I" } : Jvm.MethodName)) ∈ lw_all := lw_g (lw_at lw_m7 215 rfl) rfl
theorem q1727 : (Jvm.Cond.selects "FuneralDebtsModel" ({ cls := "FuneralDebtsModel", name := "tape", desc := "(III)I" } : Jvm.MethodName) ({ cls := "FuneralDebtsModel", name := "tape", desc := "(III)I" } : Jvm.MethodName)) ∈ lw_all := lw_g (lw_at lw_m7 216 rfl) rfl
theorem q1728 : (Jvm.Cond.code ({ cls := "FuneralDebtsModel", name := "tape", desc := "(III)I" } : Jvm.MethodName) prog_23_method_65_code (5 : Nat) (Option.some Jvm.ClassFile.FieldType.int)) ∈ lw_all := lw_g (lw_at lw_m7 217 rfl) rfl
theorem q1729 : (Jvm.Cond.methodLink "FuneralDebtsModel" (241 : Nat) ({ cls := "FuneralDebtsModel", name := "isTape", desc := "(I)Z" } : Jvm.MethodName)) ∈ lw_all := lw_g (lw_at lw_m7 218 rfl) rfl
theorem q1730 : (Jvm.Cond.static ({ cls := "FuneralDebtsModel", name := "isTape", desc := "(I)Z" } : Jvm.MethodName)) ∈ lw_all := lw_g (lw_at lw_m7 219 rfl) rfl
theorem q1731 : (Jvm.Cond.code ({ cls := "FuneralDebtsModel", name := "isTape", desc := "(I)Z" } : Jvm.MethodName) prog_23_method_64_code (1 : Nat) (Option.some Jvm.ClassFile.FieldType.boolean)) ∈ lw_all := lw_g (lw_at lw_m7 220 rfl) rfl
theorem q1733 : (Jvm.Cond.instanceMethod ({ cls := "FuneralDebtsModel", name := "item", desc := "(IIJ)I" } : Jvm.MethodName)) ∈ lw_all := lw_g (lw_at lw_m7 222 rfl) rfl
theorem q1734 : (Jvm.Cond.selects "FuneralDebtsModel" ({ cls := "FuneralDebtsModel", name := "item", desc := "(IIJ)I" } : Jvm.MethodName) ({ cls := "FuneralDebtsModel", name := "item", desc := "(IIJ)I" } : Jvm.MethodName)) ∈ lw_all := lw_g (lw_at lw_m7 223 rfl) rfl
theorem q1735 : (Jvm.Cond.code ({ cls := "FuneralDebtsModel", name := "item", desc := "(IIJ)I" } : Jvm.MethodName) prog_23_method_66_code (6 : Nat) (Option.some Jvm.ClassFile.FieldType.int)) ∈ lw_all := lw_g (lw_at lw_m7 224 rfl) rfl
theorem q1737 : (Jvm.Cond.instanceMethod ({ cls := "FuneralDebtsModel", name := "read", desc := "(II)J" } : Jvm.MethodName)) ∈ lw_all := lw_g (lw_at lw_m7 226 rfl) rfl
theorem q1738 : (Jvm.Cond.selects "FuneralDebtsModel" ({ cls := "FuneralDebtsModel", name := "read", desc := "(II)J" } : Jvm.MethodName) ({ cls := "FuneralDebtsModel", name := "read", desc := "(II)J" } : Jvm.MethodName)) ∈ lw_all := lw_g (lw_at lw_m7 227 rfl) rfl
theorem q1739 : (Jvm.Cond.code ({ cls := "FuneralDebtsModel", name := "read", desc := "(II)J" } : Jvm.MethodName) prog_23_method_67_code (3 : Nat) (Option.some Jvm.ClassFile.FieldType.long)) ∈ lw_all := lw_g (lw_at lw_m7 228 rfl) rfl
theorem q1741 : (Jvm.Cond.instanceMethod ({ cls := "FuneralDebtsModel", name := "shift", desc := "(IIIII)I" } : Jvm.MethodName)) ∈ lw_all := lw_g (lw_at lw_m7 230 rfl) rfl
theorem q1742 : (Jvm.Cond.selects "FuneralDebtsModel" ({ cls := "FuneralDebtsModel", name := "shift", desc := "(IIIII)I" } : Jvm.MethodName) ({ cls := "FuneralDebtsModel", name := "shift", desc := "(IIIII)I" } : Jvm.MethodName)) ∈ lw_all := lw_g (lw_at lw_m7 231 rfl) rfl
theorem q1743 : (Jvm.Cond.code ({ cls := "FuneralDebtsModel", name := "shift", desc := "(IIIII)I" } : Jvm.MethodName) prog_23_method_68_code (7 : Nat) (Option.some Jvm.ClassFile.FieldType.int)) ∈ lw_all := lw_g (lw_at lw_m7 232 rfl) rfl
theorem q1745 : (Jvm.Cond.instanceMethod ({ cls := "FuneralDebtsModel", name := "judge", desc := "(II)I" } : Jvm.MethodName)) ∈ lw_all := lw_g (lw_at lw_m7 234 rfl) rfl
theorem q1746 : (Jvm.Cond.selects "FuneralDebtsModel" ({ cls := "FuneralDebtsModel", name := "judge", desc := "(II)I" } : Jvm.MethodName) ({ cls := "FuneralDebtsModel", name := "judge", desc := "(II)I" } : Jvm.MethodName)) ∈ lw_all := lw_g (lw_at lw_m7 235 rfl) rfl
theorem q1747 : (Jvm.Cond.code ({ cls := "FuneralDebtsModel", name := "judge", desc := "(II)I" } : Jvm.MethodName) prog_23_method_69_code (6 : Nat) (Option.some Jvm.ClassFile.FieldType.int)) ∈ lw_all := lw_g (lw_at lw_m7 236 rfl) rfl
theorem q1776 : (Jvm.Cond.castable "FuneralDebtsModel" "java/lang/Object") ∈ lw_tbl := lw_at lw_m8 25 rfl
theorem in_X6 : ∀ w ∈ wsX60, w ∈ lw_all := lw_in wsX60 [1417, 1419, 1421, 1423, 1425, 1427, 1429, 1431, 1433, 1435, 1437, 1439, 1441, 1443, 1445, 1447, 1449, 1451, 1453, 1455, 1457, 1459, 1461, 1463, 1465, 1467, 1469, 1471, 1473, 1475, 1477] (by decide +kernel) (by decide +kernel)
