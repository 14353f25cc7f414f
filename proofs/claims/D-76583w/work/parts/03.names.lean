/-! FuneralDebts -/
set_option maxRecDepth 100000
def RX0 : String := "FuneralDebts"
def TX0 : u_T := fun k => match k with
  | 0 => ("FuneralDebts", "mourners", "[LFuneralDebts$Mourner;", true)
  | 1 => ("FuneralDebts", "rows", "[I", true)
  | 2 => ("FuneralDebts", "now", "LFuneralDebts$Time;", true)
  | 3 => ("FuneralDebts", "tried", "LFuneralDebts$Time;", true)
  | 4 => ("FuneralDebts", "text", "[B", true)
  | 5 => ("FuneralDebts", "texted", "I", false)
  | 6 => ("FuneralDebts", "parishMany", "I", false)
  | 7 => ("FuneralDebts", "held", "LFuneralDebts$Parish;", false)
  | 8 => ("FuneralDebts", "look", "LFuneralDebts$Look;", true)
  | 9 => ("FuneralDebts", "trace", "LFuneralDebts$Trace;", true)
  | 10 => ("FuneralDebts", "seenMourners", "[I", true)
  | 11 => ("FuneralDebts", "seenShares", "[I", true)
  | 12 => ("FuneralDebts", "planWhat", "[I", true)
  | 13 => ("FuneralDebts", "planMourners", "[I", true)
  | 14 => ("FuneralDebts", "bookMourners", "[I", true)
  | 15 => ("FuneralDebts", "bookYards", "[I", true)
  | 16 => ("FuneralDebts", "seenMany", "I", false)
  | 17 => ("FuneralDebts", "planMany", "I", false)
  | 18 => ("FuneralDebts", "bookMany", "I", false)
  | 19 => ("FuneralDebts", "tapes", "[LFuneralDebts$Tape;", true)
  | 20 => ("FuneralDebts", "rates", "[I", true)
  | 21 => ("FuneralDebts", "imageNow", "LFuneralDebts$Time;", true)
  | 22 => ("FuneralDebts", "imageMourners", "[LFuneralDebts$Mourner;", true)
  | 23 => ("FuneralDebts", "imageRows", "[I", true)
  | 24 => ("FuneralDebts", "imageSeenMourners", "[I", true)
  | 25 => ("FuneralDebts", "imageSeenShares", "[I", true)
  | 26 => ("FuneralDebts", "imagePlanWhat", "[I", true)
  | 27 => ("FuneralDebts", "imagePlanMourners", "[I", true)
  | 28 => ("FuneralDebts", "imageBookMourners", "[I", true)
  | 29 => ("FuneralDebts", "imageBookYards", "[I", true)
  | 30 => ("FuneralDebts", "imageSeen", "I", false)
  | 31 => ("FuneralDebts", "imagePlanned", "I", false)
  | 32 => ("FuneralDebts", "imageBooked", "I", false)
  | _ => ("FuneralDebts", "imageHeld", "LFuneralDebts$Parish;", false)
def tyX0 : Nat → FieldType := fun k => match k with
  | 0 => .array (.object "FuneralDebts$Mourner")
  | 1 => .array .int
  | 2 => .object "FuneralDebts$Time"
  | 3 => .object "FuneralDebts$Time"
  | 4 => .array .byte
  | 5 => .int
  | 6 => .int
  | 7 => .object "FuneralDebts$Parish"
  | 8 => .object "FuneralDebts$Look"
  | 9 => .object "FuneralDebts$Trace"
  | 10 => .array .int
  | 11 => .array .int
  | 12 => .array .int
  | 13 => .array .int
  | 14 => .array .int
  | 15 => .array .int
  | 16 => .int
  | 17 => .int
  | 18 => .int
  | 19 => .array (.object "FuneralDebts$Tape")
  | 20 => .array .int
  | 21 => .object "FuneralDebts$Time"
  | 22 => .array (.object "FuneralDebts$Mourner")
  | 23 => .array .int
  | 24 => .array .int
  | 25 => .array .int
  | 26 => .array .int
  | 27 => .array .int
  | 28 => .array .int
  | 29 => .array .int
  | 30 => .int
  | 31 => .int
  | 32 => .int
  | _ => .object "FuneralDebts$Parish"
abbrev wsX00 : List Cond := u_ws RX0 TX0 34
set_option maxRecDepth 100000 in
theorem nmX0 : ∀ a, a < 34 → ∀ b, b < 34 → a ≠ b → (TX0 a).2.1 ≠ (TX0 b).2.1 := by decide +kernel
set_option maxRecDepth 100000 in
theorem tyX0_ok : ∀ k, k < 34 → parseFieldDescriptor (TX0 k).2.2.1 = some (tyX0 k) := by decide +kernel
abbrev cX0_init : ByteArray := prog_1_method_6_code
def yX0_init : MethodName := ⟨RX0, "<init>", "()V"⟩
def dkwX0_init_10 : List UInt8 := [187, 0, 78, 89, 183, 0, 114, 83, 132, 1, 1, 167, 255, 234, 177]
abbrev dktX0_init_10 : List UInt8 := dkwX0_init_10 ++ []
def dkwX0_init_9 : List UInt8 := [181, 0, 108, 42, 16, 8, 188, 10, 181, 0, 111, 3, 60, 27, 16, 6, 162, 0, 22, 42, 180, 0, 80, 27]
abbrev dktX0_init_9 : List UInt8 := dkwX0_init_9 ++ dktX0_init_10
def dkwX0_init_8 : List UInt8 := [181, 0, 99, 42, 16, 8, 188, 10, 181, 0, 102, 42, 16, 8, 188, 10, 181, 0, 105, 42, 16, 8, 188, 10]
abbrev dktX0_init_8 : List UInt8 := dkwX0_init_8 ++ dktX0_init_9
def dkwX0_init_7 : List UInt8 := [181, 0, 90, 42, 16, 24, 188, 10, 181, 0, 93, 42, 8, 188, 10, 181, 0, 96, 42, 8, 188, 10]
abbrev dktX0_init_7 : List UInt8 := dkwX0_init_7 ++ dktX0_init_8
def dkwX0_init_6 : List UInt8 := [16, 60, 188, 10, 181, 0, 84, 42, 187, 0, 25, 89, 183, 0, 27, 181, 0, 87, 42, 16, 6, 189, 0, 15]
abbrev dktX0_init_6 : List UInt8 := dkwX0_init_6 ++ dktX0_init_7
def dkwX0_init_5 : List UInt8 := [188, 10, 181, 0, 72, 42, 16, 8, 188, 10, 181, 0, 75, 42, 16, 6, 189, 0, 78, 181, 0, 80, 42]
abbrev dktX0_init_5 : List UInt8 := dkwX0_init_5 ++ dktX0_init_6
def dkwX0_init_4 : List UInt8 := [188, 10, 181, 0, 63, 42, 16, 8, 188, 10, 181, 0, 66, 42, 16, 8, 188, 10, 181, 0, 69, 42, 16, 8]
abbrev dktX0_init_4 : List UInt8 := dkwX0_init_4 ++ dktX0_init_5
def dkwX0_init_3 : List UInt8 := [181, 0, 49, 42, 187, 0, 53, 89, 183, 0, 55, 181, 0, 56, 42, 8, 188, 10, 181, 0, 60, 42, 8]
abbrev dktX0_init_3 : List UInt8 := dkwX0_init_3 ++ dktX0_init_4
def dkwX0_init_2 : List UInt8 := [188, 8, 181, 0, 35, 42, 187, 0, 39, 89, 183, 0, 41, 181, 0, 42, 42, 187, 0, 46, 89, 183, 0, 48]
abbrev dktX0_init_2 : List UInt8 := dkwX0_init_2 ++ dktX0_init_3
def dkwX0_init_1 : List UInt8 := [187, 0, 25, 89, 183, 0, 27, 181, 0, 28, 42, 187, 0, 25, 89, 183, 0, 27, 181, 0, 32, 42, 16, 100]
abbrev dktX0_init_1 : List UInt8 := dkwX0_init_1 ++ dktX0_init_2
def dkwX0_init_0 : List UInt8 := [42, 183, 0, 9, 42, 16, 6, 189, 0, 15, 181, 0, 17, 42, 16, 24, 188, 10, 181, 0, 21, 42]
abbrev dktX0_init_0 : List UInt8 := dkwX0_init_0 ++ dktX0_init_1
theorem dksX0_init_0 : cX0_init.data.toList.drop 0 = dktX0_init_0 := by decide +kernel
theorem dksX0_init_1 : cX0_init.data.toList.drop 22 = dktX0_init_1 := dk_seg dksX0_init_0 22 rfl rfl
theorem dksX0_init_2 : cX0_init.data.toList.drop 46 = dktX0_init_2 := dk_seg dksX0_init_1 24 rfl rfl
theorem dksX0_init_3 : cX0_init.data.toList.drop 70 = dktX0_init_3 := dk_seg dksX0_init_2 24 rfl rfl
theorem dksX0_init_4 : cX0_init.data.toList.drop 93 = dktX0_init_4 := dk_seg dksX0_init_3 23 rfl rfl
theorem dksX0_init_5 : cX0_init.data.toList.drop 117 = dktX0_init_5 := dk_seg dksX0_init_4 24 rfl rfl
theorem dksX0_init_6 : cX0_init.data.toList.drop 140 = dktX0_init_6 := dk_seg dksX0_init_5 23 rfl rfl
theorem dksX0_init_7 : cX0_init.data.toList.drop 164 = dktX0_init_7 := dk_seg dksX0_init_6 24 rfl rfl
theorem dksX0_init_8 : cX0_init.data.toList.drop 186 = dktX0_init_8 := dk_seg dksX0_init_7 22 rfl rfl
theorem dksX0_init_9 : cX0_init.data.toList.drop 210 = dktX0_init_9 := dk_seg dksX0_init_8 24 rfl rfl
theorem dksX0_init_10 : cX0_init.data.toList.drop 234 = dktX0_init_10 := dk_seg dksX0_init_9 24 rfl rfl
theorem dX0_init_0 : decode cX0_init 0 = .ok (.aload_n 0, 1) := dk_42 (dk_at dksX0_init_0 0 rfl rfl)
theorem dX0_init_1 : decode cX0_init 1 = .ok (.invokespecial 9, 3) := dk_183 0 9 (dk_at dksX0_init_0 1 rfl rfl)
theorem dX0_init_4 : decode cX0_init 4 = .ok (.aload_n 0, 1) := dk_42 (dk_at dksX0_init_0 4 rfl rfl)
theorem dX0_init_5 : decode cX0_init 5 = .ok (.bipush 6, 2) := dk_16 6 (dk_at dksX0_init_0 5 rfl rfl)
theorem dX0_init_7 : decode cX0_init 7 = .ok (.anewarray 15, 3) := dk_189 0 15 (dk_at dksX0_init_0 7 rfl rfl)
theorem dX0_init_10 : decode cX0_init 10 = .ok (.putfield 17, 3) := dk_181 0 17 (dk_at dksX0_init_0 10 rfl rfl)
theorem dX0_init_13 : decode cX0_init 13 = .ok (.aload_n 0, 1) := dk_42 (dk_at dksX0_init_0 13 rfl rfl)
theorem dX0_init_14 : decode cX0_init 14 = .ok (.bipush 24, 2) := dk_16 24 (dk_at dksX0_init_0 14 rfl rfl)
theorem dX0_init_16 : decode cX0_init 16 = .ok (.newarray .int, 2) := dk_188_10 (dk_at dksX0_init_0 16 rfl rfl)
theorem dX0_init_18 : decode cX0_init 18 = .ok (.putfield 21, 3) := dk_181 0 21 (dk_at dksX0_init_0 18 rfl rfl)
theorem dX0_init_21 : decode cX0_init 21 = .ok (.aload_n 0, 1) := dk_42 (dk_at dksX0_init_0 21 rfl rfl)
theorem dX0_init_22 : decode cX0_init 22 = .ok (.new 25, 3) := dk_187 0 25 (dk_at dksX0_init_1 0 rfl rfl)
theorem dX0_init_25 : decode cX0_init 25 = .ok (.dup, 1) := dk_89 (dk_at dksX0_init_1 3 rfl rfl)
theorem dX0_init_26 : decode cX0_init 26 = .ok (.invokespecial 27, 3) := dk_183 0 27 (dk_at dksX0_init_1 4 rfl rfl)
theorem dX0_init_29 : decode cX0_init 29 = .ok (.putfield 28, 3) := dk_181 0 28 (dk_at dksX0_init_1 7 rfl rfl)
theorem dX0_init_32 : decode cX0_init 32 = .ok (.aload_n 0, 1) := dk_42 (dk_at dksX0_init_1 10 rfl rfl)
theorem dX0_init_33 : decode cX0_init 33 = .ok (.new 25, 3) := dk_187 0 25 (dk_at dksX0_init_1 11 rfl rfl)
theorem dX0_init_36 : decode cX0_init 36 = .ok (.dup, 1) := dk_89 (dk_at dksX0_init_1 14 rfl rfl)
theorem dX0_init_37 : decode cX0_init 37 = .ok (.invokespecial 27, 3) := dk_183 0 27 (dk_at dksX0_init_1 15 rfl rfl)
theorem dX0_init_40 : decode cX0_init 40 = .ok (.putfield 32, 3) := dk_181 0 32 (dk_at dksX0_init_1 18 rfl rfl)
theorem dX0_init_43 : decode cX0_init 43 = .ok (.aload_n 0, 1) := dk_42 (dk_at dksX0_init_1 21 rfl rfl)
theorem dX0_init_44 : decode cX0_init 44 = .ok (.bipush 100, 2) := dk_16 100 (dk_at dksX0_init_1 22 rfl rfl)
theorem dX0_init_46 : decode cX0_init 46 = .ok (.newarray .byte, 2) := dk_188_8 (dk_at dksX0_init_2 0 rfl rfl)
theorem dX0_init_48 : decode cX0_init 48 = .ok (.putfield 35, 3) := dk_181 0 35 (dk_at dksX0_init_2 2 rfl rfl)
theorem dX0_init_51 : decode cX0_init 51 = .ok (.aload_n 0, 1) := dk_42 (dk_at dksX0_init_2 5 rfl rfl)
theorem dX0_init_52 : decode cX0_init 52 = .ok (.new 39, 3) := dk_187 0 39 (dk_at dksX0_init_2 6 rfl rfl)
theorem dX0_init_55 : decode cX0_init 55 = .ok (.dup, 1) := dk_89 (dk_at dksX0_init_2 9 rfl rfl)
theorem dX0_init_56 : decode cX0_init 56 = .ok (.invokespecial 41, 3) := dk_183 0 41 (dk_at dksX0_init_2 10 rfl rfl)
theorem dX0_init_59 : decode cX0_init 59 = .ok (.putfield 42, 3) := dk_181 0 42 (dk_at dksX0_init_2 13 rfl rfl)
theorem dX0_init_62 : decode cX0_init 62 = .ok (.aload_n 0, 1) := dk_42 (dk_at dksX0_init_2 16 rfl rfl)
theorem dX0_init_63 : decode cX0_init 63 = .ok (.new 46, 3) := dk_187 0 46 (dk_at dksX0_init_2 17 rfl rfl)
theorem dX0_init_66 : decode cX0_init 66 = .ok (.dup, 1) := dk_89 (dk_at dksX0_init_2 20 rfl rfl)
theorem dX0_init_67 : decode cX0_init 67 = .ok (.invokespecial 48, 3) := dk_183 0 48 (dk_at dksX0_init_2 21 rfl rfl)
theorem dX0_init_70 : decode cX0_init 70 = .ok (.putfield 49, 3) := dk_181 0 49 (dk_at dksX0_init_3 0 rfl rfl)
theorem dX0_init_73 : decode cX0_init 73 = .ok (.aload_n 0, 1) := dk_42 (dk_at dksX0_init_3 3 rfl rfl)
theorem dX0_init_74 : decode cX0_init 74 = .ok (.new 53, 3) := dk_187 0 53 (dk_at dksX0_init_3 4 rfl rfl)
theorem dX0_init_77 : decode cX0_init 77 = .ok (.dup, 1) := dk_89 (dk_at dksX0_init_3 7 rfl rfl)
theorem dX0_init_78 : decode cX0_init 78 = .ok (.invokespecial 55, 3) := dk_183 0 55 (dk_at dksX0_init_3 8 rfl rfl)
theorem dX0_init_81 : decode cX0_init 81 = .ok (.putfield 56, 3) := dk_181 0 56 (dk_at dksX0_init_3 11 rfl rfl)
theorem dX0_init_84 : decode cX0_init 84 = .ok (.aload_n 0, 1) := dk_42 (dk_at dksX0_init_3 14 rfl rfl)
theorem dX0_init_85 : decode cX0_init 85 = .ok (.iconst 5, 1) := dk_8 (dk_at dksX0_init_3 15 rfl rfl)
theorem dX0_init_86 : decode cX0_init 86 = .ok (.newarray .int, 2) := dk_188_10 (dk_at dksX0_init_3 16 rfl rfl)
theorem dX0_init_88 : decode cX0_init 88 = .ok (.putfield 60, 3) := dk_181 0 60 (dk_at dksX0_init_3 18 rfl rfl)
theorem dX0_init_91 : decode cX0_init 91 = .ok (.aload_n 0, 1) := dk_42 (dk_at dksX0_init_3 21 rfl rfl)
theorem dX0_init_92 : decode cX0_init 92 = .ok (.iconst 5, 1) := dk_8 (dk_at dksX0_init_3 22 rfl rfl)
theorem dX0_init_93 : decode cX0_init 93 = .ok (.newarray .int, 2) := dk_188_10 (dk_at dksX0_init_4 0 rfl rfl)
theorem dX0_init_95 : decode cX0_init 95 = .ok (.putfield 63, 3) := dk_181 0 63 (dk_at dksX0_init_4 2 rfl rfl)
theorem dX0_init_98 : decode cX0_init 98 = .ok (.aload_n 0, 1) := dk_42 (dk_at dksX0_init_4 5 rfl rfl)
theorem dX0_init_99 : decode cX0_init 99 = .ok (.bipush 8, 2) := dk_16 8 (dk_at dksX0_init_4 6 rfl rfl)
theorem dX0_init_101 : decode cX0_init 101 = .ok (.newarray .int, 2) := dk_188_10 (dk_at dksX0_init_4 8 rfl rfl)
theorem dX0_init_103 : decode cX0_init 103 = .ok (.putfield 66, 3) := dk_181 0 66 (dk_at dksX0_init_4 10 rfl rfl)
theorem dX0_init_106 : decode cX0_init 106 = .ok (.aload_n 0, 1) := dk_42 (dk_at dksX0_init_4 13 rfl rfl)
theorem dX0_init_107 : decode cX0_init 107 = .ok (.bipush 8, 2) := dk_16 8 (dk_at dksX0_init_4 14 rfl rfl)
theorem dX0_init_109 : decode cX0_init 109 = .ok (.newarray .int, 2) := dk_188_10 (dk_at dksX0_init_4 16 rfl rfl)
theorem dX0_init_111 : decode cX0_init 111 = .ok (.putfield 69, 3) := dk_181 0 69 (dk_at dksX0_init_4 18 rfl rfl)
theorem dX0_init_114 : decode cX0_init 114 = .ok (.aload_n 0, 1) := dk_42 (dk_at dksX0_init_4 21 rfl rfl)
theorem dX0_init_115 : decode cX0_init 115 = .ok (.bipush 8, 2) := dk_16 8 (dk_at dksX0_init_4 22 rfl rfl)
theorem dX0_init_117 : decode cX0_init 117 = .ok (.newarray .int, 2) := dk_188_10 (dk_at dksX0_init_5 0 rfl rfl)
theorem dX0_init_119 : decode cX0_init 119 = .ok (.putfield 72, 3) := dk_181 0 72 (dk_at dksX0_init_5 2 rfl rfl)
theorem dX0_init_122 : decode cX0_init 122 = .ok (.aload_n 0, 1) := dk_42 (dk_at dksX0_init_5 5 rfl rfl)
theorem dX0_init_123 : decode cX0_init 123 = .ok (.bipush 8, 2) := dk_16 8 (dk_at dksX0_init_5 6 rfl rfl)
theorem dX0_init_125 : decode cX0_init 125 = .ok (.newarray .int, 2) := dk_188_10 (dk_at dksX0_init_5 8 rfl rfl)
theorem dX0_init_127 : decode cX0_init 127 = .ok (.putfield 75, 3) := dk_181 0 75 (dk_at dksX0_init_5 10 rfl rfl)
theorem dX0_init_130 : decode cX0_init 130 = .ok (.aload_n 0, 1) := dk_42 (dk_at dksX0_init_5 13 rfl rfl)
theorem dX0_init_131 : decode cX0_init 131 = .ok (.bipush 6, 2) := dk_16 6 (dk_at dksX0_init_5 14 rfl rfl)
theorem dX0_init_133 : decode cX0_init 133 = .ok (.anewarray 78, 3) := dk_189 0 78 (dk_at dksX0_init_5 16 rfl rfl)
theorem dX0_init_136 : decode cX0_init 136 = .ok (.putfield 80, 3) := dk_181 0 80 (dk_at dksX0_init_5 19 rfl rfl)
theorem dX0_init_139 : decode cX0_init 139 = .ok (.aload_n 0, 1) := dk_42 (dk_at dksX0_init_5 22 rfl rfl)
theorem dX0_init_140 : decode cX0_init 140 = .ok (.bipush 60, 2) := dk_16 60 (dk_at dksX0_init_6 0 rfl rfl)
theorem dX0_init_142 : decode cX0_init 142 = .ok (.newarray .int, 2) := dk_188_10 (dk_at dksX0_init_6 2 rfl rfl)
theorem dX0_init_144 : decode cX0_init 144 = .ok (.putfield 84, 3) := dk_181 0 84 (dk_at dksX0_init_6 4 rfl rfl)
theorem dX0_init_147 : decode cX0_init 147 = .ok (.aload_n 0, 1) := dk_42 (dk_at dksX0_init_6 7 rfl rfl)
theorem dX0_init_148 : decode cX0_init 148 = .ok (.new 25, 3) := dk_187 0 25 (dk_at dksX0_init_6 8 rfl rfl)
theorem dX0_init_151 : decode cX0_init 151 = .ok (.dup, 1) := dk_89 (dk_at dksX0_init_6 11 rfl rfl)
theorem dX0_init_152 : decode cX0_init 152 = .ok (.invokespecial 27, 3) := dk_183 0 27 (dk_at dksX0_init_6 12 rfl rfl)
theorem dX0_init_155 : decode cX0_init 155 = .ok (.putfield 87, 3) := dk_181 0 87 (dk_at dksX0_init_6 15 rfl rfl)
theorem dX0_init_158 : decode cX0_init 158 = .ok (.aload_n 0, 1) := dk_42 (dk_at dksX0_init_6 18 rfl rfl)
theorem dX0_init_159 : decode cX0_init 159 = .ok (.bipush 6, 2) := dk_16 6 (dk_at dksX0_init_6 19 rfl rfl)
theorem dX0_init_161 : decode cX0_init 161 = .ok (.anewarray 15, 3) := dk_189 0 15 (dk_at dksX0_init_6 21 rfl rfl)
theorem dX0_init_164 : decode cX0_init 164 = .ok (.putfield 90, 3) := dk_181 0 90 (dk_at dksX0_init_7 0 rfl rfl)
theorem dX0_init_167 : decode cX0_init 167 = .ok (.aload_n 0, 1) := dk_42 (dk_at dksX0_init_7 3 rfl rfl)
theorem dX0_init_168 : decode cX0_init 168 = .ok (.bipush 24, 2) := dk_16 24 (dk_at dksX0_init_7 4 rfl rfl)
theorem dX0_init_170 : decode cX0_init 170 = .ok (.newarray .int, 2) := dk_188_10 (dk_at dksX0_init_7 6 rfl rfl)
theorem dX0_init_172 : decode cX0_init 172 = .ok (.putfield 93, 3) := dk_181 0 93 (dk_at dksX0_init_7 8 rfl rfl)
theorem dX0_init_175 : decode cX0_init 175 = .ok (.aload_n 0, 1) := dk_42 (dk_at dksX0_init_7 11 rfl rfl)
theorem dX0_init_176 : decode cX0_init 176 = .ok (.iconst 5, 1) := dk_8 (dk_at dksX0_init_7 12 rfl rfl)
theorem dX0_init_177 : decode cX0_init 177 = .ok (.newarray .int, 2) := dk_188_10 (dk_at dksX0_init_7 13 rfl rfl)
theorem dX0_init_179 : decode cX0_init 179 = .ok (.putfield 96, 3) := dk_181 0 96 (dk_at dksX0_init_7 15 rfl rfl)
theorem dX0_init_182 : decode cX0_init 182 = .ok (.aload_n 0, 1) := dk_42 (dk_at dksX0_init_7 18 rfl rfl)
theorem dX0_init_183 : decode cX0_init 183 = .ok (.iconst 5, 1) := dk_8 (dk_at dksX0_init_7 19 rfl rfl)
theorem dX0_init_184 : decode cX0_init 184 = .ok (.newarray .int, 2) := dk_188_10 (dk_at dksX0_init_7 20 rfl rfl)
theorem dX0_init_186 : decode cX0_init 186 = .ok (.putfield 99, 3) := dk_181 0 99 (dk_at dksX0_init_8 0 rfl rfl)
theorem dX0_init_189 : decode cX0_init 189 = .ok (.aload_n 0, 1) := dk_42 (dk_at dksX0_init_8 3 rfl rfl)
theorem dX0_init_190 : decode cX0_init 190 = .ok (.bipush 8, 2) := dk_16 8 (dk_at dksX0_init_8 4 rfl rfl)
theorem dX0_init_192 : decode cX0_init 192 = .ok (.newarray .int, 2) := dk_188_10 (dk_at dksX0_init_8 6 rfl rfl)
theorem dX0_init_194 : decode cX0_init 194 = .ok (.putfield 102, 3) := dk_181 0 102 (dk_at dksX0_init_8 8 rfl rfl)
theorem dX0_init_197 : decode cX0_init 197 = .ok (.aload_n 0, 1) := dk_42 (dk_at dksX0_init_8 11 rfl rfl)
theorem dX0_init_198 : decode cX0_init 198 = .ok (.bipush 8, 2) := dk_16 8 (dk_at dksX0_init_8 12 rfl rfl)
theorem dX0_init_200 : decode cX0_init 200 = .ok (.newarray .int, 2) := dk_188_10 (dk_at dksX0_init_8 14 rfl rfl)
theorem dX0_init_202 : decode cX0_init 202 = .ok (.putfield 105, 3) := dk_181 0 105 (dk_at dksX0_init_8 16 rfl rfl)
theorem dX0_init_205 : decode cX0_init 205 = .ok (.aload_n 0, 1) := dk_42 (dk_at dksX0_init_8 19 rfl rfl)
theorem dX0_init_206 : decode cX0_init 206 = .ok (.bipush 8, 2) := dk_16 8 (dk_at dksX0_init_8 20 rfl rfl)
theorem dX0_init_208 : decode cX0_init 208 = .ok (.newarray .int, 2) := dk_188_10 (dk_at dksX0_init_8 22 rfl rfl)
theorem dX0_init_210 : decode cX0_init 210 = .ok (.putfield 108, 3) := dk_181 0 108 (dk_at dksX0_init_9 0 rfl rfl)
theorem dX0_init_213 : decode cX0_init 213 = .ok (.aload_n 0, 1) := dk_42 (dk_at dksX0_init_9 3 rfl rfl)
theorem dX0_init_214 : decode cX0_init 214 = .ok (.bipush 8, 2) := dk_16 8 (dk_at dksX0_init_9 4 rfl rfl)
theorem dX0_init_216 : decode cX0_init 216 = .ok (.newarray .int, 2) := dk_188_10 (dk_at dksX0_init_9 6 rfl rfl)
theorem dX0_init_218 : decode cX0_init 218 = .ok (.putfield 111, 3) := dk_181 0 111 (dk_at dksX0_init_9 8 rfl rfl)
theorem dX0_init_221 : decode cX0_init 221 = .ok (.iconst 0, 1) := dk_3 (dk_at dksX0_init_9 11 rfl rfl)
theorem dX0_init_222 : decode cX0_init 222 = .ok (.istore_n 1, 1) := dk_60 (dk_at dksX0_init_9 12 rfl rfl)
theorem dX0_init_223 : decode cX0_init 223 = .ok (.iload_n 1, 1) := dk_27 (dk_at dksX0_init_9 13 rfl rfl)
theorem dX0_init_224 : decode cX0_init 224 = .ok (.bipush 6, 2) := dk_16 6 (dk_at dksX0_init_9 14 rfl rfl)
theorem dX0_init_226 : decode cX0_init 226 = .ok (.if_icmp .ge 22, 3) := dk_162 0 22 (dk_at dksX0_init_9 16 rfl rfl)
theorem dX0_init_229 : decode cX0_init 229 = .ok (.aload_n 0, 1) := dk_42 (dk_at dksX0_init_9 19 rfl rfl)
theorem dX0_init_230 : decode cX0_init 230 = .ok (.getfield 80, 3) := dk_180 0 80 (dk_at dksX0_init_9 20 rfl rfl)
theorem dX0_init_233 : decode cX0_init 233 = .ok (.iload_n 1, 1) := dk_27 (dk_at dksX0_init_9 23 rfl rfl)
theorem dX0_init_234 : decode cX0_init 234 = .ok (.new 78, 3) := dk_187 0 78 (dk_at dksX0_init_10 0 rfl rfl)
theorem dX0_init_237 : decode cX0_init 237 = .ok (.dup, 1) := dk_89 (dk_at dksX0_init_10 3 rfl rfl)
theorem dX0_init_238 : decode cX0_init 238 = .ok (.invokespecial 114, 3) := dk_183 0 114 (dk_at dksX0_init_10 4 rfl rfl)
theorem dX0_init_241 : decode cX0_init 241 = .ok (.aastore, 1) := dk_83 (dk_at dksX0_init_10 7 rfl rfl)
theorem dX0_init_242 : decode cX0_init 242 = .ok (.iinc 1 1, 3) := dk_132 1 1 (dk_at dksX0_init_10 8 rfl rfl)
theorem dX0_init_245 : decode cX0_init 245 = .ok (.goto (-22), 3) := dk_167 255 234 (dk_at dksX0_init_10 11 rfl rfl)
theorem dX0_init_248 : decode cX0_init 248 = .ok (.return_, 1) := dk_177 (dk_at dksX0_init_10 14 rfl rfl)
abbrev cX0_mourner : ByteArray := prog_1_method_9_code
def yX0_mourner : MethodName := ⟨RX0, "mourner", "(IIII)I"⟩
def dkwX0_mourner_7 : List UInt8 := [180, 0, 28, 89, 180, 0, 115, 4, 96, 181, 0, 115, 21, 5, 172]
abbrev dktX0_mourner_7 : List UInt8 := dkwX0_mourner_7 ++ []
def dkwX0_mourner_6 : List UInt8 := [162, 0, 22, 42, 180, 0, 21, 7, 21, 5, 104, 21, 6, 96, 3, 79, 132, 6, 1, 167, 255, 234, 42]
abbrev dktX0_mourner_6 : List UInt8 := dkwX0_mourner_6 ++ dktX0_mourner_7
def dkwX0_mourner_5 : List UInt8 := [180, 0, 28, 89, 180, 0, 159, 4, 21, 5, 120, 2, 130, 126, 181, 0, 159, 3, 54, 6, 21, 6, 7]
abbrev dktX0_mourner_5 : List UInt8 := dkwX0_mourner_5 ++ dktX0_mourner_6
def dkwX0_mourner_4 : List UInt8 := [180, 0, 28, 180, 0, 153, 21, 5, 21, 4, 145, 84, 42, 180, 0, 28, 180, 0, 156, 21, 5, 3, 79, 42]
abbrev dktX0_mourner_4 : List UInt8 := dkwX0_mourner_4 ++ dktX0_mourner_5
def dkwX0_mourner_3 : List UInt8 := [21, 5, 42, 27, 28, 182, 0, 146, 83, 42, 180, 0, 28, 180, 0, 150, 21, 5, 29, 145, 84, 42]
abbrev dktX0_mourner_3 : List UInt8 := dkwX0_mourner_3 ++ dktX0_mourner_4
def dkwX0_mourner_2 : List UInt8 := [180, 0, 115, 16, 6, 160, 0, 6, 16, 252, 172, 42, 180, 0, 28, 180, 0, 115, 54, 5, 42, 180, 0, 17]
abbrev dktX0_mourner_2 : List UInt8 := dkwX0_mourner_2 ++ dktX0_mourner_3
def dkwX0_mourner_1 : List UInt8 := [184, 0, 5, 153, 0, 13, 29, 3, 16, 20, 184, 0, 5, 154, 0, 6, 16, 254, 172, 42, 180, 0, 28]
abbrev dktX0_mourner_1 : List UInt8 := dkwX0_mourner_1 ++ dktX0_mourner_2
def dkwX0_mourner_0 : List UInt8 := [27, 3, 16, 6, 184, 0, 5, 153, 0, 11, 21, 4, 184, 0, 142, 154, 0, 5, 2, 172, 28, 3, 16, 9]
abbrev dktX0_mourner_0 : List UInt8 := dkwX0_mourner_0 ++ dktX0_mourner_1
theorem dksX0_mourner_0 : cX0_mourner.data.toList.drop 0 = dktX0_mourner_0 := by decide +kernel
theorem dksX0_mourner_1 : cX0_mourner.data.toList.drop 24 = dktX0_mourner_1 := dk_seg dksX0_mourner_0 24 rfl rfl
theorem dksX0_mourner_2 : cX0_mourner.data.toList.drop 47 = dktX0_mourner_2 := dk_seg dksX0_mourner_1 23 rfl rfl
theorem dksX0_mourner_3 : cX0_mourner.data.toList.drop 71 = dktX0_mourner_3 := dk_seg dksX0_mourner_2 24 rfl rfl
theorem dksX0_mourner_4 : cX0_mourner.data.toList.drop 93 = dktX0_mourner_4 := dk_seg dksX0_mourner_3 22 rfl rfl
theorem dksX0_mourner_5 : cX0_mourner.data.toList.drop 117 = dktX0_mourner_5 := dk_seg dksX0_mourner_4 24 rfl rfl
theorem dksX0_mourner_6 : cX0_mourner.data.toList.drop 140 = dktX0_mourner_6 := dk_seg dksX0_mourner_5 23 rfl rfl
theorem dksX0_mourner_7 : cX0_mourner.data.toList.drop 163 = dktX0_mourner_7 := dk_seg dksX0_mourner_6 23 rfl rfl
theorem dX0_mourner_0 : decode cX0_mourner 0 = .ok (.iload_n 1, 1) := dk_27 (dk_at dksX0_mourner_0 0 rfl rfl)
theorem dX0_mourner_1 : decode cX0_mourner 1 = .ok (.iconst 0, 1) := dk_3 (dk_at dksX0_mourner_0 1 rfl rfl)
theorem dX0_mourner_2 : decode cX0_mourner 2 = .ok (.bipush 6, 2) := dk_16 6 (dk_at dksX0_mourner_0 2 rfl rfl)
theorem dX0_mourner_4 : decode cX0_mourner 4 = .ok (.invokestatic 5, 3) := dk_184 0 5 (dk_at dksX0_mourner_0 4 rfl rfl)
theorem dX0_mourner_7 : decode cX0_mourner 7 = .ok (.ifCond .eq 11, 3) := dk_153 0 11 (dk_at dksX0_mourner_0 7 rfl rfl)
theorem dX0_mourner_10 : decode cX0_mourner 10 = .ok (.iload 4, 2) := dk_21 4 (dk_at dksX0_mourner_0 10 rfl rfl)
theorem dX0_mourner_12 : decode cX0_mourner 12 = .ok (.invokestatic 142, 3) := dk_184 0 142 (dk_at dksX0_mourner_0 12 rfl rfl)
theorem dX0_mourner_15 : decode cX0_mourner 15 = .ok (.ifCond .ne 5, 3) := dk_154 0 5 (dk_at dksX0_mourner_0 15 rfl rfl)
theorem dX0_mourner_18 : decode cX0_mourner 18 = .ok (.iconst (-1), 1) := dk_2 (dk_at dksX0_mourner_0 18 rfl rfl)
theorem dX0_mourner_19 : decode cX0_mourner 19 = .ok (.ireturn, 1) := dk_172 (dk_at dksX0_mourner_0 19 rfl rfl)
theorem dX0_mourner_20 : decode cX0_mourner 20 = .ok (.iload_n 2, 1) := dk_28 (dk_at dksX0_mourner_0 20 rfl rfl)
theorem dX0_mourner_21 : decode cX0_mourner 21 = .ok (.iconst 0, 1) := dk_3 (dk_at dksX0_mourner_0 21 rfl rfl)
theorem dX0_mourner_22 : decode cX0_mourner 22 = .ok (.bipush 9, 2) := dk_16 9 (dk_at dksX0_mourner_0 22 rfl rfl)
theorem dX0_mourner_24 : decode cX0_mourner 24 = .ok (.invokestatic 5, 3) := dk_184 0 5 (dk_at dksX0_mourner_1 0 rfl rfl)
theorem dX0_mourner_27 : decode cX0_mourner 27 = .ok (.ifCond .eq 13, 3) := dk_153 0 13 (dk_at dksX0_mourner_1 3 rfl rfl)
theorem dX0_mourner_30 : decode cX0_mourner 30 = .ok (.iload_n 3, 1) := dk_29 (dk_at dksX0_mourner_1 6 rfl rfl)
theorem dX0_mourner_31 : decode cX0_mourner 31 = .ok (.iconst 0, 1) := dk_3 (dk_at dksX0_mourner_1 7 rfl rfl)
theorem dX0_mourner_32 : decode cX0_mourner 32 = .ok (.bipush 20, 2) := dk_16 20 (dk_at dksX0_mourner_1 8 rfl rfl)
theorem dX0_mourner_34 : decode cX0_mourner 34 = .ok (.invokestatic 5, 3) := dk_184 0 5 (dk_at dksX0_mourner_1 10 rfl rfl)
theorem dX0_mourner_37 : decode cX0_mourner 37 = .ok (.ifCond .ne 6, 3) := dk_154 0 6 (dk_at dksX0_mourner_1 13 rfl rfl)
theorem dX0_mourner_40 : decode cX0_mourner 40 = .ok (.bipush (-2), 2) := dk_16 254 (dk_at dksX0_mourner_1 16 rfl rfl)
theorem dX0_mourner_42 : decode cX0_mourner 42 = .ok (.ireturn, 1) := dk_172 (dk_at dksX0_mourner_1 18 rfl rfl)
theorem dX0_mourner_43 : decode cX0_mourner 43 = .ok (.aload_n 0, 1) := dk_42 (dk_at dksX0_mourner_1 19 rfl rfl)
theorem dX0_mourner_44 : decode cX0_mourner 44 = .ok (.getfield 28, 3) := dk_180 0 28 (dk_at dksX0_mourner_1 20 rfl rfl)
theorem dX0_mourner_47 : decode cX0_mourner 47 = .ok (.getfield 115, 3) := dk_180 0 115 (dk_at dksX0_mourner_2 0 rfl rfl)
theorem dX0_mourner_50 : decode cX0_mourner 50 = .ok (.bipush 6, 2) := dk_16 6 (dk_at dksX0_mourner_2 3 rfl rfl)
theorem dX0_mourner_52 : decode cX0_mourner 52 = .ok (.if_icmp .ne 6, 3) := dk_160 0 6 (dk_at dksX0_mourner_2 5 rfl rfl)
theorem dX0_mourner_55 : decode cX0_mourner 55 = .ok (.bipush (-4), 2) := dk_16 252 (dk_at dksX0_mourner_2 8 rfl rfl)
theorem dX0_mourner_57 : decode cX0_mourner 57 = .ok (.ireturn, 1) := dk_172 (dk_at dksX0_mourner_2 10 rfl rfl)
theorem dX0_mourner_58 : decode cX0_mourner 58 = .ok (.aload_n 0, 1) := dk_42 (dk_at dksX0_mourner_2 11 rfl rfl)
theorem dX0_mourner_59 : decode cX0_mourner 59 = .ok (.getfield 28, 3) := dk_180 0 28 (dk_at dksX0_mourner_2 12 rfl rfl)
theorem dX0_mourner_62 : decode cX0_mourner 62 = .ok (.getfield 115, 3) := dk_180 0 115 (dk_at dksX0_mourner_2 15 rfl rfl)
theorem dX0_mourner_65 : decode cX0_mourner 65 = .ok (.istore 5, 2) := dk_54 5 (dk_at dksX0_mourner_2 18 rfl rfl)
theorem dX0_mourner_67 : decode cX0_mourner 67 = .ok (.aload_n 0, 1) := dk_42 (dk_at dksX0_mourner_2 20 rfl rfl)
theorem dX0_mourner_68 : decode cX0_mourner 68 = .ok (.getfield 17, 3) := dk_180 0 17 (dk_at dksX0_mourner_2 21 rfl rfl)
theorem dX0_mourner_71 : decode cX0_mourner 71 = .ok (.iload 5, 2) := dk_21 5 (dk_at dksX0_mourner_3 0 rfl rfl)
theorem dX0_mourner_73 : decode cX0_mourner 73 = .ok (.aload_n 0, 1) := dk_42 (dk_at dksX0_mourner_3 2 rfl rfl)
theorem dX0_mourner_74 : decode cX0_mourner 74 = .ok (.iload_n 1, 1) := dk_27 (dk_at dksX0_mourner_3 3 rfl rfl)
theorem dX0_mourner_75 : decode cX0_mourner 75 = .ok (.iload_n 2, 1) := dk_28 (dk_at dksX0_mourner_3 4 rfl rfl)
theorem dX0_mourner_76 : decode cX0_mourner 76 = .ok (.invokevirtual 146, 3) := dk_182 0 146 (dk_at dksX0_mourner_3 5 rfl rfl)
theorem dX0_mourner_79 : decode cX0_mourner 79 = .ok (.aastore, 1) := dk_83 (dk_at dksX0_mourner_3 8 rfl rfl)
theorem dX0_mourner_80 : decode cX0_mourner 80 = .ok (.aload_n 0, 1) := dk_42 (dk_at dksX0_mourner_3 9 rfl rfl)
theorem dX0_mourner_81 : decode cX0_mourner 81 = .ok (.getfield 28, 3) := dk_180 0 28 (dk_at dksX0_mourner_3 10 rfl rfl)
theorem dX0_mourner_84 : decode cX0_mourner 84 = .ok (.getfield 150, 3) := dk_180 0 150 (dk_at dksX0_mourner_3 13 rfl rfl)
theorem dX0_mourner_87 : decode cX0_mourner 87 = .ok (.iload 5, 2) := dk_21 5 (dk_at dksX0_mourner_3 16 rfl rfl)
theorem dX0_mourner_89 : decode cX0_mourner 89 = .ok (.iload_n 3, 1) := dk_29 (dk_at dksX0_mourner_3 18 rfl rfl)
theorem dX0_mourner_90 : decode cX0_mourner 90 = .ok (.i2b, 1) := dk_145 (dk_at dksX0_mourner_3 19 rfl rfl)
theorem dX0_mourner_91 : decode cX0_mourner 91 = .ok (.bastore, 1) := dk_84 (dk_at dksX0_mourner_3 20 rfl rfl)
theorem dX0_mourner_92 : decode cX0_mourner 92 = .ok (.aload_n 0, 1) := dk_42 (dk_at dksX0_mourner_3 21 rfl rfl)
theorem dX0_mourner_93 : decode cX0_mourner 93 = .ok (.getfield 28, 3) := dk_180 0 28 (dk_at dksX0_mourner_4 0 rfl rfl)
theorem dX0_mourner_96 : decode cX0_mourner 96 = .ok (.getfield 153, 3) := dk_180 0 153 (dk_at dksX0_mourner_4 3 rfl rfl)
theorem dX0_mourner_99 : decode cX0_mourner 99 = .ok (.iload 5, 2) := dk_21 5 (dk_at dksX0_mourner_4 6 rfl rfl)
theorem dX0_mourner_101 : decode cX0_mourner 101 = .ok (.iload 4, 2) := dk_21 4 (dk_at dksX0_mourner_4 8 rfl rfl)
theorem dX0_mourner_103 : decode cX0_mourner 103 = .ok (.i2b, 1) := dk_145 (dk_at dksX0_mourner_4 10 rfl rfl)
theorem dX0_mourner_104 : decode cX0_mourner 104 = .ok (.bastore, 1) := dk_84 (dk_at dksX0_mourner_4 11 rfl rfl)
theorem dX0_mourner_105 : decode cX0_mourner 105 = .ok (.aload_n 0, 1) := dk_42 (dk_at dksX0_mourner_4 12 rfl rfl)
theorem dX0_mourner_106 : decode cX0_mourner 106 = .ok (.getfield 28, 3) := dk_180 0 28 (dk_at dksX0_mourner_4 13 rfl rfl)
theorem dX0_mourner_109 : decode cX0_mourner 109 = .ok (.getfield 156, 3) := dk_180 0 156 (dk_at dksX0_mourner_4 16 rfl rfl)
theorem dX0_mourner_112 : decode cX0_mourner 112 = .ok (.iload 5, 2) := dk_21 5 (dk_at dksX0_mourner_4 19 rfl rfl)
theorem dX0_mourner_114 : decode cX0_mourner 114 = .ok (.iconst 0, 1) := dk_3 (dk_at dksX0_mourner_4 21 rfl rfl)
theorem dX0_mourner_115 : decode cX0_mourner 115 = .ok (.iastore, 1) := dk_79 (dk_at dksX0_mourner_4 22 rfl rfl)
theorem dX0_mourner_116 : decode cX0_mourner 116 = .ok (.aload_n 0, 1) := dk_42 (dk_at dksX0_mourner_4 23 rfl rfl)
theorem dX0_mourner_117 : decode cX0_mourner 117 = .ok (.getfield 28, 3) := dk_180 0 28 (dk_at dksX0_mourner_5 0 rfl rfl)
theorem dX0_mourner_120 : decode cX0_mourner 120 = .ok (.dup, 1) := dk_89 (dk_at dksX0_mourner_5 3 rfl rfl)
theorem dX0_mourner_121 : decode cX0_mourner 121 = .ok (.getfield 159, 3) := dk_180 0 159 (dk_at dksX0_mourner_5 4 rfl rfl)
theorem dX0_mourner_124 : decode cX0_mourner 124 = .ok (.iconst 1, 1) := dk_4 (dk_at dksX0_mourner_5 7 rfl rfl)
theorem dX0_mourner_125 : decode cX0_mourner 125 = .ok (.iload 5, 2) := dk_21 5 (dk_at dksX0_mourner_5 8 rfl rfl)
theorem dX0_mourner_127 : decode cX0_mourner 127 = .ok (.ishl, 1) := dk_120 (dk_at dksX0_mourner_5 10 rfl rfl)
theorem dX0_mourner_128 : decode cX0_mourner 128 = .ok (.iconst (-1), 1) := dk_2 (dk_at dksX0_mourner_5 11 rfl rfl)
theorem dX0_mourner_129 : decode cX0_mourner 129 = .ok (.ixor, 1) := dk_130 (dk_at dksX0_mourner_5 12 rfl rfl)
theorem dX0_mourner_130 : decode cX0_mourner 130 = .ok (.iand, 1) := dk_126 (dk_at dksX0_mourner_5 13 rfl rfl)
theorem dX0_mourner_131 : decode cX0_mourner 131 = .ok (.putfield 159, 3) := dk_181 0 159 (dk_at dksX0_mourner_5 14 rfl rfl)
theorem dX0_mourner_134 : decode cX0_mourner 134 = .ok (.iconst 0, 1) := dk_3 (dk_at dksX0_mourner_5 17 rfl rfl)
theorem dX0_mourner_135 : decode cX0_mourner 135 = .ok (.istore 6, 2) := dk_54 6 (dk_at dksX0_mourner_5 18 rfl rfl)
theorem dX0_mourner_137 : decode cX0_mourner 137 = .ok (.iload 6, 2) := dk_21 6 (dk_at dksX0_mourner_5 20 rfl rfl)
theorem dX0_mourner_139 : decode cX0_mourner 139 = .ok (.iconst 4, 1) := dk_7 (dk_at dksX0_mourner_5 22 rfl rfl)
theorem dX0_mourner_140 : decode cX0_mourner 140 = .ok (.if_icmp .ge 22, 3) := dk_162 0 22 (dk_at dksX0_mourner_6 0 rfl rfl)
theorem dX0_mourner_143 : decode cX0_mourner 143 = .ok (.aload_n 0, 1) := dk_42 (dk_at dksX0_mourner_6 3 rfl rfl)
theorem dX0_mourner_144 : decode cX0_mourner 144 = .ok (.getfield 21, 3) := dk_180 0 21 (dk_at dksX0_mourner_6 4 rfl rfl)
theorem dX0_mourner_147 : decode cX0_mourner 147 = .ok (.iconst 4, 1) := dk_7 (dk_at dksX0_mourner_6 7 rfl rfl)
theorem dX0_mourner_148 : decode cX0_mourner 148 = .ok (.iload 5, 2) := dk_21 5 (dk_at dksX0_mourner_6 8 rfl rfl)
theorem dX0_mourner_150 : decode cX0_mourner 150 = .ok (.imul, 1) := dk_104 (dk_at dksX0_mourner_6 10 rfl rfl)
theorem dX0_mourner_151 : decode cX0_mourner 151 = .ok (.iload 6, 2) := dk_21 6 (dk_at dksX0_mourner_6 11 rfl rfl)
theorem dX0_mourner_153 : decode cX0_mourner 153 = .ok (.iadd, 1) := dk_96 (dk_at dksX0_mourner_6 13 rfl rfl)
theorem dX0_mourner_154 : decode cX0_mourner 154 = .ok (.iconst 0, 1) := dk_3 (dk_at dksX0_mourner_6 14 rfl rfl)
theorem dX0_mourner_155 : decode cX0_mourner 155 = .ok (.iastore, 1) := dk_79 (dk_at dksX0_mourner_6 15 rfl rfl)
theorem dX0_mourner_156 : decode cX0_mourner 156 = .ok (.iinc 6 1, 3) := dk_132 6 1 (dk_at dksX0_mourner_6 16 rfl rfl)
theorem dX0_mourner_159 : decode cX0_mourner 159 = .ok (.goto (-22), 3) := dk_167 255 234 (dk_at dksX0_mourner_6 19 rfl rfl)
theorem dX0_mourner_162 : decode cX0_mourner 162 = .ok (.aload_n 0, 1) := dk_42 (dk_at dksX0_mourner_6 22 rfl rfl)
theorem dX0_mourner_163 : decode cX0_mourner 163 = .ok (.getfield 28, 3) := dk_180 0 28 (dk_at dksX0_mourner_7 0 rfl rfl)
theorem dX0_mourner_166 : decode cX0_mourner 166 = .ok (.dup, 1) := dk_89 (dk_at dksX0_mourner_7 3 rfl rfl)
theorem dX0_mourner_167 : decode cX0_mourner 167 = .ok (.getfield 115, 3) := dk_180 0 115 (dk_at dksX0_mourner_7 4 rfl rfl)
theorem dX0_mourner_170 : decode cX0_mourner 170 = .ok (.iconst 1, 1) := dk_4 (dk_at dksX0_mourner_7 7 rfl rfl)
theorem dX0_mourner_171 : decode cX0_mourner 171 = .ok (.iadd, 1) := dk_96 (dk_at dksX0_mourner_7 8 rfl rfl)
theorem dX0_mourner_172 : decode cX0_mourner 172 = .ok (.putfield 115, 3) := dk_181 0 115 (dk_at dksX0_mourner_7 9 rfl rfl)
theorem dX0_mourner_175 : decode cX0_mourner 175 = .ok (.iload 5, 2) := dk_21 5 (dk_at dksX0_mourner_7 12 rfl rfl)
theorem dX0_mourner_177 : decode cX0_mourner 177 = .ok (.ireturn, 1) := dk_172 (dk_at dksX0_mourner_7 14 rfl rfl)
abbrev cX0_in : ByteArray := prog_1_method_1_code
def yX0_in : MethodName := ⟨RX0, "in", "(III)Z"⟩
def dkwX0_in_0 : List UInt8 := [26, 27, 161, 0, 12, 26, 28, 163, 0, 7, 4, 167, 0, 4, 3, 172]
abbrev dktX0_in_0 : List UInt8 := dkwX0_in_0 ++ []
theorem dksX0_in_0 : cX0_in.data.toList.drop 0 = dktX0_in_0 := by decide +kernel
theorem dX0_in_0 : decode cX0_in 0 = .ok (.iload_n 0, 1) := dk_26 (dk_at dksX0_in_0 0 rfl rfl)
theorem dX0_in_1 : decode cX0_in 1 = .ok (.iload_n 1, 1) := dk_27 (dk_at dksX0_in_0 1 rfl rfl)
theorem dX0_in_2 : decode cX0_in 2 = .ok (.if_icmp .lt 12, 3) := dk_161 0 12 (dk_at dksX0_in_0 2 rfl rfl)
theorem dX0_in_5 : decode cX0_in 5 = .ok (.iload_n 0, 1) := dk_26 (dk_at dksX0_in_0 5 rfl rfl)
theorem dX0_in_6 : decode cX0_in 6 = .ok (.iload_n 2, 1) := dk_28 (dk_at dksX0_in_0 6 rfl rfl)
theorem dX0_in_7 : decode cX0_in 7 = .ok (.if_icmp .gt 7, 3) := dk_163 0 7 (dk_at dksX0_in_0 7 rfl rfl)
theorem dX0_in_10 : decode cX0_in 10 = .ok (.iconst 1, 1) := dk_4 (dk_at dksX0_in_0 10 rfl rfl)
theorem dX0_in_11 : decode cX0_in 11 = .ok (.goto 4, 3) := dk_167 0 4 (dk_at dksX0_in_0 11 rfl rfl)
theorem dX0_in_14 : decode cX0_in 14 = .ok (.iconst 0, 1) := dk_3 (dk_at dksX0_in_0 14 rfl rfl)
theorem dX0_in_15 : decode cX0_in 15 = .ok (.ireturn, 1) := dk_172 (dk_at dksX0_in_0 15 rfl rfl)
abbrev cX0_isYard : ByteArray := prog_1_method_3_code
def yX0_isYard : MethodName := ⟨RX0, "isYard", "(I)Z"⟩
def dkwX0_isYard_0 : List UInt8 := [26, 3, 16, 9, 184, 0, 5, 172]
abbrev dktX0_isYard_0 : List UInt8 := dkwX0_isYard_0 ++ []
theorem dksX0_isYard_0 : cX0_isYard.data.toList.drop 0 = dktX0_isYard_0 := by decide +kernel
theorem dX0_isYard_0 : decode cX0_isYard 0 = .ok (.iload_n 0, 1) := dk_26 (dk_at dksX0_isYard_0 0 rfl rfl)
theorem dX0_isYard_1 : decode cX0_isYard 1 = .ok (.iconst 0, 1) := dk_3 (dk_at dksX0_isYard_0 1 rfl rfl)
theorem dX0_isYard_2 : decode cX0_isYard 2 = .ok (.bipush 9, 2) := dk_16 9 (dk_at dksX0_isYard_0 2 rfl rfl)
theorem dX0_isYard_4 : decode cX0_isYard 4 = .ok (.invokestatic 5, 3) := dk_184 0 5 (dk_at dksX0_isYard_0 4 rfl rfl)
theorem dX0_isYard_7 : decode cX0_isYard 7 = .ok (.ireturn, 1) := dk_172 (dk_at dksX0_isYard_0 7 rfl rfl)
abbrev cX0_mournerOf : ByteArray := prog_1_method_8_code
def yX0_mournerOf : MethodName := ⟨RX0, "mournerOf", "(II)LFuneralDebts$Mourner;"⟩
def dkwX0_mournerOf_7 : List UInt8 := [183, 0, 138, 176, 187, 0, 15, 89, 42, 180, 0, 56, 42, 180, 0, 28, 180, 0, 115, 28, 183, 0, 141, 176]
abbrev dktX0_mournerOf_7 : List UInt8 := dkwX0_mournerOf_7 ++ []
def dkwX0_mournerOf_6 : List UInt8 := [183, 0, 135, 176, 187, 0, 136, 89, 42, 180, 0, 56, 42, 180, 0, 28, 180, 0, 115, 28, 42, 180, 0, 21]
abbrev dktX0_mournerOf_6 : List UInt8 := dkwX0_mournerOf_6 ++ dktX0_mournerOf_7
def dkwX0_mournerOf_5 : List UInt8 := [180, 0, 115, 28, 183, 0, 132, 176, 187, 0, 133, 89, 42, 180, 0, 56, 42, 180, 0, 28, 180, 0, 115, 28]
abbrev dktX0_mournerOf_5 : List UInt8 := dkwX0_mournerOf_5 ++ dktX0_mournerOf_6
def dkwX0_mournerOf_4 : List UInt8 := [42, 180, 0, 28, 180, 0, 115, 28, 183, 0, 129, 176, 187, 0, 130, 89, 42, 180, 0, 56, 42, 180, 0, 28]
abbrev dktX0_mournerOf_4 : List UInt8 := dkwX0_mournerOf_4 ++ dktX0_mournerOf_5
def dkwX0_mournerOf_3 : List UInt8 := [42, 180, 0, 56, 42, 180, 0, 28, 180, 0, 115, 28, 183, 0, 126, 176, 187, 0, 127, 89, 42, 180, 0, 56]
abbrev dktX0_mournerOf_3 : List UInt8 := dkwX0_mournerOf_3 ++ dktX0_mournerOf_4
def dkwX0_mournerOf_2 : List UInt8 := [187, 0, 119, 89, 42, 180, 0, 56, 42, 180, 0, 28, 180, 0, 115, 28, 183, 0, 121, 176, 187, 0, 124, 89]
abbrev dktX0_mournerOf_2 : List UInt8 := dkwX0_mournerOf_2 ++ dktX0_mournerOf_3
def dkwX0_mournerOf_1 : List UInt8 := [170, 0, 0, 0, 0, 0, 163, 0, 0, 0, 1, 0, 0, 0, 6, 0, 0, 0, 39, 0, 0, 0, 59, 0, 0, 0, 79, 0, 0, 0, 99, 0, 0, 0, 119, 0, 0, 0, 139]
abbrev dktX0_mournerOf_1 : List UInt8 := dkwX0_mournerOf_1 ++ dktX0_mournerOf_2
def dkwX0_mournerOf_0 : List UInt8 := [27]
abbrev dktX0_mournerOf_0 : List UInt8 := dkwX0_mournerOf_0 ++ dktX0_mournerOf_1
theorem dksX0_mournerOf_0 : cX0_mournerOf.data.toList.drop 0 = dktX0_mournerOf_0 := by decide +kernel
theorem dksX0_mournerOf_1 : cX0_mournerOf.data.toList.drop 1 = dktX0_mournerOf_1 := dk_seg dksX0_mournerOf_0 1 rfl rfl
theorem dksX0_mournerOf_2 : cX0_mournerOf.data.toList.drop 40 = dktX0_mournerOf_2 := dk_seg dksX0_mournerOf_1 39 rfl rfl
theorem dksX0_mournerOf_3 : cX0_mournerOf.data.toList.drop 64 = dktX0_mournerOf_3 := dk_seg dksX0_mournerOf_2 24 rfl rfl
theorem dksX0_mournerOf_4 : cX0_mournerOf.data.toList.drop 88 = dktX0_mournerOf_4 := dk_seg dksX0_mournerOf_3 24 rfl rfl
theorem dksX0_mournerOf_5 : cX0_mournerOf.data.toList.drop 112 = dktX0_mournerOf_5 := dk_seg dksX0_mournerOf_4 24 rfl rfl
theorem dksX0_mournerOf_6 : cX0_mournerOf.data.toList.drop 136 = dktX0_mournerOf_6 := dk_seg dksX0_mournerOf_5 24 rfl rfl
theorem dksX0_mournerOf_7 : cX0_mournerOf.data.toList.drop 160 = dktX0_mournerOf_7 := dk_seg dksX0_mournerOf_6 24 rfl rfl
theorem dX0_mournerOf_0 : decode cX0_mournerOf 0 = .ok (.iload_n 1, 1) := dk_27 (dk_at dksX0_mournerOf_0 0 rfl rfl)
theorem dX0_mournerOf_1 : decode cX0_mournerOf 1 = .ok (.tableswitch 163 1 6 #[39, 59, 79, 99, 119, 139], 39) := by decide +kernel
theorem dX0_mournerOf_40 : decode cX0_mournerOf 40 = .ok (.new 119, 3) := dk_187 0 119 (dk_at dksX0_mournerOf_2 0 rfl rfl)
theorem dX0_mournerOf_43 : decode cX0_mournerOf 43 = .ok (.dup, 1) := dk_89 (dk_at dksX0_mournerOf_2 3 rfl rfl)
theorem dX0_mournerOf_44 : decode cX0_mournerOf 44 = .ok (.aload_n 0, 1) := dk_42 (dk_at dksX0_mournerOf_2 4 rfl rfl)
theorem dX0_mournerOf_45 : decode cX0_mournerOf 45 = .ok (.getfield 56, 3) := dk_180 0 56 (dk_at dksX0_mournerOf_2 5 rfl rfl)
theorem dX0_mournerOf_48 : decode cX0_mournerOf 48 = .ok (.aload_n 0, 1) := dk_42 (dk_at dksX0_mournerOf_2 8 rfl rfl)
theorem dX0_mournerOf_49 : decode cX0_mournerOf 49 = .ok (.getfield 28, 3) := dk_180 0 28 (dk_at dksX0_mournerOf_2 9 rfl rfl)
theorem dX0_mournerOf_52 : decode cX0_mournerOf 52 = .ok (.getfield 115, 3) := dk_180 0 115 (dk_at dksX0_mournerOf_2 12 rfl rfl)
theorem dX0_mournerOf_55 : decode cX0_mournerOf 55 = .ok (.iload_n 2, 1) := dk_28 (dk_at dksX0_mournerOf_2 15 rfl rfl)
theorem dX0_mournerOf_56 : decode cX0_mournerOf 56 = .ok (.invokespecial 121, 3) := dk_183 0 121 (dk_at dksX0_mournerOf_2 16 rfl rfl)
theorem dX0_mournerOf_59 : decode cX0_mournerOf 59 = .ok (.areturn, 1) := dk_176 (dk_at dksX0_mournerOf_2 19 rfl rfl)
theorem dX0_mournerOf_60 : decode cX0_mournerOf 60 = .ok (.new 124, 3) := dk_187 0 124 (dk_at dksX0_mournerOf_2 20 rfl rfl)
theorem dX0_mournerOf_63 : decode cX0_mournerOf 63 = .ok (.dup, 1) := dk_89 (dk_at dksX0_mournerOf_2 23 rfl rfl)
theorem dX0_mournerOf_64 : decode cX0_mournerOf 64 = .ok (.aload_n 0, 1) := dk_42 (dk_at dksX0_mournerOf_3 0 rfl rfl)
theorem dX0_mournerOf_65 : decode cX0_mournerOf 65 = .ok (.getfield 56, 3) := dk_180 0 56 (dk_at dksX0_mournerOf_3 1 rfl rfl)
theorem dX0_mournerOf_68 : decode cX0_mournerOf 68 = .ok (.aload_n 0, 1) := dk_42 (dk_at dksX0_mournerOf_3 4 rfl rfl)
theorem dX0_mournerOf_69 : decode cX0_mournerOf 69 = .ok (.getfield 28, 3) := dk_180 0 28 (dk_at dksX0_mournerOf_3 5 rfl rfl)
theorem dX0_mournerOf_72 : decode cX0_mournerOf 72 = .ok (.getfield 115, 3) := dk_180 0 115 (dk_at dksX0_mournerOf_3 8 rfl rfl)
theorem dX0_mournerOf_75 : decode cX0_mournerOf 75 = .ok (.iload_n 2, 1) := dk_28 (dk_at dksX0_mournerOf_3 11 rfl rfl)
theorem dX0_mournerOf_76 : decode cX0_mournerOf 76 = .ok (.invokespecial 126, 3) := dk_183 0 126 (dk_at dksX0_mournerOf_3 12 rfl rfl)
theorem dX0_mournerOf_79 : decode cX0_mournerOf 79 = .ok (.areturn, 1) := dk_176 (dk_at dksX0_mournerOf_3 15 rfl rfl)
theorem dX0_mournerOf_80 : decode cX0_mournerOf 80 = .ok (.new 127, 3) := dk_187 0 127 (dk_at dksX0_mournerOf_3 16 rfl rfl)
theorem dX0_mournerOf_83 : decode cX0_mournerOf 83 = .ok (.dup, 1) := dk_89 (dk_at dksX0_mournerOf_3 19 rfl rfl)
theorem dX0_mournerOf_84 : decode cX0_mournerOf 84 = .ok (.aload_n 0, 1) := dk_42 (dk_at dksX0_mournerOf_3 20 rfl rfl)
theorem dX0_mournerOf_85 : decode cX0_mournerOf 85 = .ok (.getfield 56, 3) := dk_180 0 56 (dk_at dksX0_mournerOf_3 21 rfl rfl)
theorem dX0_mournerOf_88 : decode cX0_mournerOf 88 = .ok (.aload_n 0, 1) := dk_42 (dk_at dksX0_mournerOf_4 0 rfl rfl)
theorem dX0_mournerOf_89 : decode cX0_mournerOf 89 = .ok (.getfield 28, 3) := dk_180 0 28 (dk_at dksX0_mournerOf_4 1 rfl rfl)
theorem dX0_mournerOf_92 : decode cX0_mournerOf 92 = .ok (.getfield 115, 3) := dk_180 0 115 (dk_at dksX0_mournerOf_4 4 rfl rfl)
theorem dX0_mournerOf_95 : decode cX0_mournerOf 95 = .ok (.iload_n 2, 1) := dk_28 (dk_at dksX0_mournerOf_4 7 rfl rfl)
theorem dX0_mournerOf_96 : decode cX0_mournerOf 96 = .ok (.invokespecial 129, 3) := dk_183 0 129 (dk_at dksX0_mournerOf_4 8 rfl rfl)
theorem dX0_mournerOf_99 : decode cX0_mournerOf 99 = .ok (.areturn, 1) := dk_176 (dk_at dksX0_mournerOf_4 11 rfl rfl)
theorem dX0_mournerOf_100 : decode cX0_mournerOf 100 = .ok (.new 130, 3) := dk_187 0 130 (dk_at dksX0_mournerOf_4 12 rfl rfl)
theorem dX0_mournerOf_103 : decode cX0_mournerOf 103 = .ok (.dup, 1) := dk_89 (dk_at dksX0_mournerOf_4 15 rfl rfl)
theorem dX0_mournerOf_104 : decode cX0_mournerOf 104 = .ok (.aload_n 0, 1) := dk_42 (dk_at dksX0_mournerOf_4 16 rfl rfl)
theorem dX0_mournerOf_105 : decode cX0_mournerOf 105 = .ok (.getfield 56, 3) := dk_180 0 56 (dk_at dksX0_mournerOf_4 17 rfl rfl)
theorem dX0_mournerOf_108 : decode cX0_mournerOf 108 = .ok (.aload_n 0, 1) := dk_42 (dk_at dksX0_mournerOf_4 20 rfl rfl)
theorem dX0_mournerOf_109 : decode cX0_mournerOf 109 = .ok (.getfield 28, 3) := dk_180 0 28 (dk_at dksX0_mournerOf_4 21 rfl rfl)
theorem dX0_mournerOf_112 : decode cX0_mournerOf 112 = .ok (.getfield 115, 3) := dk_180 0 115 (dk_at dksX0_mournerOf_5 0 rfl rfl)
theorem dX0_mournerOf_115 : decode cX0_mournerOf 115 = .ok (.iload_n 2, 1) := dk_28 (dk_at dksX0_mournerOf_5 3 rfl rfl)
theorem dX0_mournerOf_116 : decode cX0_mournerOf 116 = .ok (.invokespecial 132, 3) := dk_183 0 132 (dk_at dksX0_mournerOf_5 4 rfl rfl)
theorem dX0_mournerOf_119 : decode cX0_mournerOf 119 = .ok (.areturn, 1) := dk_176 (dk_at dksX0_mournerOf_5 7 rfl rfl)
theorem dX0_mournerOf_120 : decode cX0_mournerOf 120 = .ok (.new 133, 3) := dk_187 0 133 (dk_at dksX0_mournerOf_5 8 rfl rfl)
theorem dX0_mournerOf_123 : decode cX0_mournerOf 123 = .ok (.dup, 1) := dk_89 (dk_at dksX0_mournerOf_5 11 rfl rfl)
theorem dX0_mournerOf_124 : decode cX0_mournerOf 124 = .ok (.aload_n 0, 1) := dk_42 (dk_at dksX0_mournerOf_5 12 rfl rfl)
theorem dX0_mournerOf_125 : decode cX0_mournerOf 125 = .ok (.getfield 56, 3) := dk_180 0 56 (dk_at dksX0_mournerOf_5 13 rfl rfl)
theorem dX0_mournerOf_128 : decode cX0_mournerOf 128 = .ok (.aload_n 0, 1) := dk_42 (dk_at dksX0_mournerOf_5 16 rfl rfl)
theorem dX0_mournerOf_129 : decode cX0_mournerOf 129 = .ok (.getfield 28, 3) := dk_180 0 28 (dk_at dksX0_mournerOf_5 17 rfl rfl)
theorem dX0_mournerOf_132 : decode cX0_mournerOf 132 = .ok (.getfield 115, 3) := dk_180 0 115 (dk_at dksX0_mournerOf_5 20 rfl rfl)
theorem dX0_mournerOf_135 : decode cX0_mournerOf 135 = .ok (.iload_n 2, 1) := dk_28 (dk_at dksX0_mournerOf_5 23 rfl rfl)
theorem dX0_mournerOf_136 : decode cX0_mournerOf 136 = .ok (.invokespecial 135, 3) := dk_183 0 135 (dk_at dksX0_mournerOf_6 0 rfl rfl)
theorem dX0_mournerOf_139 : decode cX0_mournerOf 139 = .ok (.areturn, 1) := dk_176 (dk_at dksX0_mournerOf_6 3 rfl rfl)
theorem dX0_mournerOf_140 : decode cX0_mournerOf 140 = .ok (.new 136, 3) := dk_187 0 136 (dk_at dksX0_mournerOf_6 4 rfl rfl)
theorem dX0_mournerOf_143 : decode cX0_mournerOf 143 = .ok (.dup, 1) := dk_89 (dk_at dksX0_mournerOf_6 7 rfl rfl)
theorem dX0_mournerOf_144 : decode cX0_mournerOf 144 = .ok (.aload_n 0, 1) := dk_42 (dk_at dksX0_mournerOf_6 8 rfl rfl)
theorem dX0_mournerOf_145 : decode cX0_mournerOf 145 = .ok (.getfield 56, 3) := dk_180 0 56 (dk_at dksX0_mournerOf_6 9 rfl rfl)
theorem dX0_mournerOf_148 : decode cX0_mournerOf 148 = .ok (.aload_n 0, 1) := dk_42 (dk_at dksX0_mournerOf_6 12 rfl rfl)
theorem dX0_mournerOf_149 : decode cX0_mournerOf 149 = .ok (.getfield 28, 3) := dk_180 0 28 (dk_at dksX0_mournerOf_6 13 rfl rfl)
theorem dX0_mournerOf_152 : decode cX0_mournerOf 152 = .ok (.getfield 115, 3) := dk_180 0 115 (dk_at dksX0_mournerOf_6 16 rfl rfl)
theorem dX0_mournerOf_155 : decode cX0_mournerOf 155 = .ok (.iload_n 2, 1) := dk_28 (dk_at dksX0_mournerOf_6 19 rfl rfl)
theorem dX0_mournerOf_156 : decode cX0_mournerOf 156 = .ok (.aload_n 0, 1) := dk_42 (dk_at dksX0_mournerOf_6 20 rfl rfl)
theorem dX0_mournerOf_157 : decode cX0_mournerOf 157 = .ok (.getfield 21, 3) := dk_180 0 21 (dk_at dksX0_mournerOf_6 21 rfl rfl)
theorem dX0_mournerOf_160 : decode cX0_mournerOf 160 = .ok (.invokespecial 138, 3) := dk_183 0 138 (dk_at dksX0_mournerOf_7 0 rfl rfl)
theorem dX0_mournerOf_163 : decode cX0_mournerOf 163 = .ok (.areturn, 1) := dk_176 (dk_at dksX0_mournerOf_7 3 rfl rfl)
theorem dX0_mournerOf_164 : decode cX0_mournerOf 164 = .ok (.new 15, 3) := dk_187 0 15 (dk_at dksX0_mournerOf_7 4 rfl rfl)
theorem dX0_mournerOf_167 : decode cX0_mournerOf 167 = .ok (.dup, 1) := dk_89 (dk_at dksX0_mournerOf_7 7 rfl rfl)
theorem dX0_mournerOf_168 : decode cX0_mournerOf 168 = .ok (.aload_n 0, 1) := dk_42 (dk_at dksX0_mournerOf_7 8 rfl rfl)
theorem dX0_mournerOf_169 : decode cX0_mournerOf 169 = .ok (.getfield 56, 3) := dk_180 0 56 (dk_at dksX0_mournerOf_7 9 rfl rfl)
theorem dX0_mournerOf_172 : decode cX0_mournerOf 172 = .ok (.aload_n 0, 1) := dk_42 (dk_at dksX0_mournerOf_7 12 rfl rfl)
theorem dX0_mournerOf_173 : decode cX0_mournerOf 173 = .ok (.getfield 28, 3) := dk_180 0 28 (dk_at dksX0_mournerOf_7 13 rfl rfl)
theorem dX0_mournerOf_176 : decode cX0_mournerOf 176 = .ok (.getfield 115, 3) := dk_180 0 115 (dk_at dksX0_mournerOf_7 16 rfl rfl)
theorem dX0_mournerOf_179 : decode cX0_mournerOf 179 = .ok (.iload_n 2, 1) := dk_28 (dk_at dksX0_mournerOf_7 19 rfl rfl)
theorem dX0_mournerOf_180 : decode cX0_mournerOf 180 = .ok (.invokespecial 141, 3) := dk_183 0 141 (dk_at dksX0_mournerOf_7 20 rfl rfl)
theorem dX0_mournerOf_183 : decode cX0_mournerOf 183 = .ok (.areturn, 1) := dk_176 (dk_at dksX0_mournerOf_7 23 rfl rfl)
abbrev cX0_pass : ByteArray := prog_1_method_22_code
def yX0_pass : MethodName := ⟨RX0, "pass", "(I)I"⟩
def dkwX0_pass_4 : List UInt8 := [167, 255, 219, 42, 180, 0, 28, 180, 0, 181, 172]
abbrev dktX0_pass_4 : List UInt8 := dkwX0_pass_4 ++ []
def dkwX0_pass_3 : List UInt8 := [180, 0, 156, 28, 18, 254, 42, 180, 0, 28, 180, 0, 156, 28, 46, 184, 0, 255, 79, 132, 2, 1]
abbrev dktX0_pass_3 : List UInt8 := dkwX0_pass_3 ++ dktX0_pass_4
def dkwX0_pass_2 : List UInt8 := [132, 2, 1, 167, 255, 239, 3, 61, 28, 42, 180, 0, 28, 180, 0, 115, 162, 0, 32, 42, 180, 0, 28]
abbrev dktX0_pass_2 : List UInt8 := dkwX0_pass_2 ++ dktX0_pass_3
def dkwX0_pass_1 : List UInt8 := [164, 0, 6, 16, 253, 172, 3, 61, 28, 27, 162, 0, 18, 42, 42, 180, 0, 28, 182, 0, 251, 87]
abbrev dktX0_pass_1 : List UInt8 := dkwX0_pass_1 ++ dktX0_pass_2
def dkwX0_pass_0 : List UInt8 := [27, 184, 0, 248, 154, 0, 6, 16, 254, 172, 42, 180, 0, 28, 180, 0, 181, 27, 96, 17, 39, 15]
abbrev dktX0_pass_0 : List UInt8 := dkwX0_pass_0 ++ dktX0_pass_1
theorem dksX0_pass_0 : cX0_pass.data.toList.drop 0 = dktX0_pass_0 := by decide +kernel
theorem dksX0_pass_1 : cX0_pass.data.toList.drop 22 = dktX0_pass_1 := dk_seg dksX0_pass_0 22 rfl rfl
theorem dksX0_pass_2 : cX0_pass.data.toList.drop 44 = dktX0_pass_2 := dk_seg dksX0_pass_1 22 rfl rfl
theorem dksX0_pass_3 : cX0_pass.data.toList.drop 67 = dktX0_pass_3 := dk_seg dksX0_pass_2 23 rfl rfl
theorem dksX0_pass_4 : cX0_pass.data.toList.drop 89 = dktX0_pass_4 := dk_seg dksX0_pass_3 22 rfl rfl
theorem dX0_pass_0 : decode cX0_pass 0 = .ok (.iload_n 1, 1) := dk_27 (dk_at dksX0_pass_0 0 rfl rfl)
theorem dX0_pass_1 : decode cX0_pass 1 = .ok (.invokestatic 248, 3) := dk_184 0 248 (dk_at dksX0_pass_0 1 rfl rfl)
theorem dX0_pass_4 : decode cX0_pass 4 = .ok (.ifCond .ne 6, 3) := dk_154 0 6 (dk_at dksX0_pass_0 4 rfl rfl)
theorem dX0_pass_7 : decode cX0_pass 7 = .ok (.bipush (-2), 2) := dk_16 254 (dk_at dksX0_pass_0 7 rfl rfl)
theorem dX0_pass_9 : decode cX0_pass 9 = .ok (.ireturn, 1) := dk_172 (dk_at dksX0_pass_0 9 rfl rfl)
theorem dX0_pass_10 : decode cX0_pass 10 = .ok (.aload_n 0, 1) := dk_42 (dk_at dksX0_pass_0 10 rfl rfl)
theorem dX0_pass_11 : decode cX0_pass 11 = .ok (.getfield 28, 3) := dk_180 0 28 (dk_at dksX0_pass_0 11 rfl rfl)
theorem dX0_pass_14 : decode cX0_pass 14 = .ok (.getfield 181, 3) := dk_180 0 181 (dk_at dksX0_pass_0 14 rfl rfl)
theorem dX0_pass_17 : decode cX0_pass 17 = .ok (.iload_n 1, 1) := dk_27 (dk_at dksX0_pass_0 17 rfl rfl)
theorem dX0_pass_18 : decode cX0_pass 18 = .ok (.iadd, 1) := dk_96 (dk_at dksX0_pass_0 18 rfl rfl)
theorem dX0_pass_19 : decode cX0_pass 19 = .ok (.sipush 9999, 3) := dk_17 39 15 (dk_at dksX0_pass_0 19 rfl rfl)
theorem dX0_pass_22 : decode cX0_pass 22 = .ok (.if_icmp .le 6, 3) := dk_164 0 6 (dk_at dksX0_pass_1 0 rfl rfl)
theorem dX0_pass_25 : decode cX0_pass 25 = .ok (.bipush (-3), 2) := dk_16 253 (dk_at dksX0_pass_1 3 rfl rfl)
theorem dX0_pass_27 : decode cX0_pass 27 = .ok (.ireturn, 1) := dk_172 (dk_at dksX0_pass_1 5 rfl rfl)
theorem dX0_pass_28 : decode cX0_pass 28 = .ok (.iconst 0, 1) := dk_3 (dk_at dksX0_pass_1 6 rfl rfl)
theorem dX0_pass_29 : decode cX0_pass 29 = .ok (.istore_n 2, 1) := dk_61 (dk_at dksX0_pass_1 7 rfl rfl)
theorem dX0_pass_30 : decode cX0_pass 30 = .ok (.iload_n 2, 1) := dk_28 (dk_at dksX0_pass_1 8 rfl rfl)
theorem dX0_pass_31 : decode cX0_pass 31 = .ok (.iload_n 1, 1) := dk_27 (dk_at dksX0_pass_1 9 rfl rfl)
theorem dX0_pass_32 : decode cX0_pass 32 = .ok (.if_icmp .ge 18, 3) := dk_162 0 18 (dk_at dksX0_pass_1 10 rfl rfl)
theorem dX0_pass_35 : decode cX0_pass 35 = .ok (.aload_n 0, 1) := dk_42 (dk_at dksX0_pass_1 13 rfl rfl)
theorem dX0_pass_36 : decode cX0_pass 36 = .ok (.aload_n 0, 1) := dk_42 (dk_at dksX0_pass_1 14 rfl rfl)
theorem dX0_pass_37 : decode cX0_pass 37 = .ok (.getfield 28, 3) := dk_180 0 28 (dk_at dksX0_pass_1 15 rfl rfl)
theorem dX0_pass_40 : decode cX0_pass 40 = .ok (.invokevirtual 251, 3) := dk_182 0 251 (dk_at dksX0_pass_1 18 rfl rfl)
theorem dX0_pass_43 : decode cX0_pass 43 = .ok (.pop, 1) := dk_87 (dk_at dksX0_pass_1 21 rfl rfl)
theorem dX0_pass_44 : decode cX0_pass 44 = .ok (.iinc 2 1, 3) := dk_132 2 1 (dk_at dksX0_pass_2 0 rfl rfl)
theorem dX0_pass_47 : decode cX0_pass 47 = .ok (.goto (-17), 3) := dk_167 255 239 (dk_at dksX0_pass_2 3 rfl rfl)
theorem dX0_pass_50 : decode cX0_pass 50 = .ok (.iconst 0, 1) := dk_3 (dk_at dksX0_pass_2 6 rfl rfl)
theorem dX0_pass_51 : decode cX0_pass 51 = .ok (.istore_n 2, 1) := dk_61 (dk_at dksX0_pass_2 7 rfl rfl)
theorem dX0_pass_52 : decode cX0_pass 52 = .ok (.iload_n 2, 1) := dk_28 (dk_at dksX0_pass_2 8 rfl rfl)
theorem dX0_pass_53 : decode cX0_pass 53 = .ok (.aload_n 0, 1) := dk_42 (dk_at dksX0_pass_2 9 rfl rfl)
theorem dX0_pass_54 : decode cX0_pass 54 = .ok (.getfield 28, 3) := dk_180 0 28 (dk_at dksX0_pass_2 10 rfl rfl)
theorem dX0_pass_57 : decode cX0_pass 57 = .ok (.getfield 115, 3) := dk_180 0 115 (dk_at dksX0_pass_2 13 rfl rfl)
theorem dX0_pass_60 : decode cX0_pass 60 = .ok (.if_icmp .ge 32, 3) := dk_162 0 32 (dk_at dksX0_pass_2 16 rfl rfl)
theorem dX0_pass_63 : decode cX0_pass 63 = .ok (.aload_n 0, 1) := dk_42 (dk_at dksX0_pass_2 19 rfl rfl)
theorem dX0_pass_64 : decode cX0_pass 64 = .ok (.getfield 28, 3) := dk_180 0 28 (dk_at dksX0_pass_2 20 rfl rfl)
theorem dX0_pass_67 : decode cX0_pass 67 = .ok (.getfield 156, 3) := dk_180 0 156 (dk_at dksX0_pass_3 0 rfl rfl)
theorem dX0_pass_70 : decode cX0_pass 70 = .ok (.iload_n 2, 1) := dk_28 (dk_at dksX0_pass_3 3 rfl rfl)
theorem dX0_pass_71 : decode cX0_pass 71 = .ok (.ldc 254, 2) := dk_18 254 (dk_at dksX0_pass_3 4 rfl rfl)
theorem dX0_pass_73 : decode cX0_pass 73 = .ok (.aload_n 0, 1) := dk_42 (dk_at dksX0_pass_3 6 rfl rfl)
theorem dX0_pass_74 : decode cX0_pass 74 = .ok (.getfield 28, 3) := dk_180 0 28 (dk_at dksX0_pass_3 7 rfl rfl)
theorem dX0_pass_77 : decode cX0_pass 77 = .ok (.getfield 156, 3) := dk_180 0 156 (dk_at dksX0_pass_3 10 rfl rfl)
theorem dX0_pass_80 : decode cX0_pass 80 = .ok (.iload_n 2, 1) := dk_28 (dk_at dksX0_pass_3 13 rfl rfl)
theorem dX0_pass_81 : decode cX0_pass 81 = .ok (.iaload, 1) := dk_46 (dk_at dksX0_pass_3 14 rfl rfl)
theorem dX0_pass_82 : decode cX0_pass 82 = .ok (.invokestatic 255, 3) := dk_184 0 255 (dk_at dksX0_pass_3 15 rfl rfl)
theorem dX0_pass_85 : decode cX0_pass 85 = .ok (.iastore, 1) := dk_79 (dk_at dksX0_pass_3 18 rfl rfl)
theorem dX0_pass_86 : decode cX0_pass 86 = .ok (.iinc 2 1, 3) := dk_132 2 1 (dk_at dksX0_pass_3 19 rfl rfl)
theorem dX0_pass_89 : decode cX0_pass 89 = .ok (.goto (-37), 3) := dk_167 255 219 (dk_at dksX0_pass_4 0 rfl rfl)
theorem dX0_pass_92 : decode cX0_pass 92 = .ok (.aload_n 0, 1) := dk_42 (dk_at dksX0_pass_4 3 rfl rfl)
theorem dX0_pass_93 : decode cX0_pass 93 = .ok (.getfield 28, 3) := dk_180 0 28 (dk_at dksX0_pass_4 4 rfl rfl)
theorem dX0_pass_96 : decode cX0_pass 96 = .ok (.getfield 181, 3) := dk_180 0 181 (dk_at dksX0_pass_4 7 rfl rfl)
theorem dX0_pass_99 : decode cX0_pass 99 = .ok (.ireturn, 1) := dk_172 (dk_at dksX0_pass_4 10 rfl rfl)
abbrev cX0_isOn : ByteArray := prog_1_method_5_code
def yX0_isOn : MethodName := ⟨RX0, "isOn", "(I)Z"⟩
def dkwX0_isOn_0 : List UInt8 := [26, 3, 16, 20, 184, 0, 5, 172]
abbrev dktX0_isOn_0 : List UInt8 := dkwX0_isOn_0 ++ []
theorem dksX0_isOn_0 : cX0_isOn.data.toList.drop 0 = dktX0_isOn_0 := by decide +kernel
theorem dX0_isOn_0 : decode cX0_isOn 0 = .ok (.iload_n 0, 1) := dk_26 (dk_at dksX0_isOn_0 0 rfl rfl)
theorem dX0_isOn_1 : decode cX0_isOn 1 = .ok (.iconst 0, 1) := dk_3 (dk_at dksX0_isOn_0 1 rfl rfl)
theorem dX0_isOn_2 : decode cX0_isOn 2 = .ok (.bipush 20, 2) := dk_16 20 (dk_at dksX0_isOn_0 2 rfl rfl)
theorem dX0_isOn_4 : decode cX0_isOn 4 = .ok (.invokestatic 5, 3) := dk_184 0 5 (dk_at dksX0_isOn_0 4 rfl rfl)
theorem dX0_isOn_7 : decode cX0_isOn 7 = .ok (.ireturn, 1) := dk_172 (dk_at dksX0_isOn_0 7 rfl rfl)
abbrev cX0_goes : ByteArray := prog_1_method_21_code
def yX0_goes : MethodName := ⟨RX0, "goes", "(LFuneralDebts$Time;)Z"⟩
def dkwX0_goes_2 : List UInt8 := [181, 0, 181, 28, 172]
abbrev dktX0_goes_2 : List UInt8 := dkwX0_goes_2 ++ []
def dkwX0_goes_1 : List UInt8 := [43, 29, 43, 182, 0, 225, 182, 0, 228, 96, 79, 132, 3, 1, 167, 255, 226, 43, 89, 180, 0, 181, 4, 96]
abbrev dktX0_goes_1 : List UInt8 := dkwX0_goes_1 ++ dktX0_goes_2
def dkwX0_goes_0 : List UInt8 := [42, 43, 182, 0, 244, 61, 3, 62, 29, 43, 180, 0, 115, 162, 0, 28, 43, 180, 0, 156, 29, 92, 46, 42]
abbrev dktX0_goes_0 : List UInt8 := dkwX0_goes_0 ++ dktX0_goes_1
theorem dksX0_goes_0 : cX0_goes.data.toList.drop 0 = dktX0_goes_0 := by decide +kernel
theorem dksX0_goes_1 : cX0_goes.data.toList.drop 24 = dktX0_goes_1 := dk_seg dksX0_goes_0 24 rfl rfl
theorem dksX0_goes_2 : cX0_goes.data.toList.drop 48 = dktX0_goes_2 := dk_seg dksX0_goes_1 24 rfl rfl
theorem dX0_goes_0 : decode cX0_goes 0 = .ok (.aload_n 0, 1) := dk_42 (dk_at dksX0_goes_0 0 rfl rfl)
theorem dX0_goes_1 : decode cX0_goes 1 = .ok (.aload_n 1, 1) := dk_43 (dk_at dksX0_goes_0 1 rfl rfl)
theorem dX0_goes_2 : decode cX0_goes 2 = .ok (.invokevirtual 244, 3) := dk_182 0 244 (dk_at dksX0_goes_0 2 rfl rfl)
theorem dX0_goes_5 : decode cX0_goes 5 = .ok (.istore_n 2, 1) := dk_61 (dk_at dksX0_goes_0 5 rfl rfl)
theorem dX0_goes_6 : decode cX0_goes 6 = .ok (.iconst 0, 1) := dk_3 (dk_at dksX0_goes_0 6 rfl rfl)
theorem dX0_goes_7 : decode cX0_goes 7 = .ok (.istore_n 3, 1) := dk_62 (dk_at dksX0_goes_0 7 rfl rfl)
theorem dX0_goes_8 : decode cX0_goes 8 = .ok (.iload_n 3, 1) := dk_29 (dk_at dksX0_goes_0 8 rfl rfl)
theorem dX0_goes_9 : decode cX0_goes 9 = .ok (.aload_n 1, 1) := dk_43 (dk_at dksX0_goes_0 9 rfl rfl)
theorem dX0_goes_10 : decode cX0_goes 10 = .ok (.getfield 115, 3) := dk_180 0 115 (dk_at dksX0_goes_0 10 rfl rfl)
theorem dX0_goes_13 : decode cX0_goes 13 = .ok (.if_icmp .ge 28, 3) := dk_162 0 28 (dk_at dksX0_goes_0 13 rfl rfl)
theorem dX0_goes_16 : decode cX0_goes 16 = .ok (.aload_n 1, 1) := dk_43 (dk_at dksX0_goes_0 16 rfl rfl)
theorem dX0_goes_17 : decode cX0_goes 17 = .ok (.getfield 156, 3) := dk_180 0 156 (dk_at dksX0_goes_0 17 rfl rfl)
theorem dX0_goes_20 : decode cX0_goes 20 = .ok (.iload_n 3, 1) := dk_29 (dk_at dksX0_goes_0 20 rfl rfl)
theorem dX0_goes_21 : decode cX0_goes 21 = .ok (.dup2, 1) := dk_92 (dk_at dksX0_goes_0 21 rfl rfl)
theorem dX0_goes_22 : decode cX0_goes 22 = .ok (.iaload, 1) := dk_46 (dk_at dksX0_goes_0 22 rfl rfl)
theorem dX0_goes_23 : decode cX0_goes 23 = .ok (.aload_n 0, 1) := dk_42 (dk_at dksX0_goes_0 23 rfl rfl)
theorem dX0_goes_24 : decode cX0_goes 24 = .ok (.aload_n 1, 1) := dk_43 (dk_at dksX0_goes_1 0 rfl rfl)
theorem dX0_goes_25 : decode cX0_goes 25 = .ok (.iload_n 3, 1) := dk_29 (dk_at dksX0_goes_1 1 rfl rfl)
theorem dX0_goes_26 : decode cX0_goes 26 = .ok (.aload_n 1, 1) := dk_43 (dk_at dksX0_goes_1 2 rfl rfl)
theorem dX0_goes_27 : decode cX0_goes 27 = .ok (.invokevirtual 225, 3) := dk_182 0 225 (dk_at dksX0_goes_1 3 rfl rfl)
theorem dX0_goes_30 : decode cX0_goes 30 = .ok (.invokevirtual 228, 3) := dk_182 0 228 (dk_at dksX0_goes_1 6 rfl rfl)
theorem dX0_goes_33 : decode cX0_goes 33 = .ok (.iadd, 1) := dk_96 (dk_at dksX0_goes_1 9 rfl rfl)
theorem dX0_goes_34 : decode cX0_goes 34 = .ok (.iastore, 1) := dk_79 (dk_at dksX0_goes_1 10 rfl rfl)
theorem dX0_goes_35 : decode cX0_goes 35 = .ok (.iinc 3 1, 3) := dk_132 3 1 (dk_at dksX0_goes_1 11 rfl rfl)
theorem dX0_goes_38 : decode cX0_goes 38 = .ok (.goto (-30), 3) := dk_167 255 226 (dk_at dksX0_goes_1 14 rfl rfl)
theorem dX0_goes_41 : decode cX0_goes 41 = .ok (.aload_n 1, 1) := dk_43 (dk_at dksX0_goes_1 17 rfl rfl)
theorem dX0_goes_42 : decode cX0_goes 42 = .ok (.dup, 1) := dk_89 (dk_at dksX0_goes_1 18 rfl rfl)
theorem dX0_goes_43 : decode cX0_goes 43 = .ok (.getfield 181, 3) := dk_180 0 181 (dk_at dksX0_goes_1 19 rfl rfl)
theorem dX0_goes_46 : decode cX0_goes 46 = .ok (.iconst 1, 1) := dk_4 (dk_at dksX0_goes_1 22 rfl rfl)
theorem dX0_goes_47 : decode cX0_goes 47 = .ok (.iadd, 1) := dk_96 (dk_at dksX0_goes_1 23 rfl rfl)
theorem dX0_goes_48 : decode cX0_goes 48 = .ok (.putfield 181, 3) := dk_181 0 181 (dk_at dksX0_goes_2 0 rfl rfl)
theorem dX0_goes_51 : decode cX0_goes 51 = .ok (.iload_n 2, 1) := dk_28 (dk_at dksX0_goes_2 3 rfl rfl)
theorem dX0_goes_52 : decode cX0_goes 52 = .ok (.ireturn, 1) := dk_172 (dk_at dksX0_goes_2 4 rfl rfl)
abbrev cX0_doMove : ByteArray := prog_1_method_20_code
def yX0_doMove : MethodName := ⟨RX0, "doMove", "(LFuneralDebts$Time;)Z"⟩
def dkwX0_doMove_3 : List UInt8 := [84, 4, 61, 132, 3, 1, 167, 255, 189, 28, 172]
abbrev dktX0_doMove_3 : List UInt8 := dkwX0_doMove_3 ++ []
def dkwX0_doMove_2 : List UInt8 := [29, 43, 180, 0, 153, 29, 51, 182, 0, 231, 163, 0, 6, 167, 0, 14, 43, 180, 0, 153, 29, 21, 4, 145]
abbrev dktX0_doMove_2 : List UInt8 := dkwX0_doMove_2 ++ dktX0_doMove_3
def dkwX0_doMove_1 : List UInt8 := [153, 0, 6, 167, 0, 48, 42, 43, 29, 182, 0, 241, 54, 4, 42, 43, 29, 21, 4, 182, 0, 231, 42, 43]
abbrev dktX0_doMove_1 : List UInt8 := dkwX0_doMove_1 ++ dktX0_doMove_2
def dkwX0_doMove_0 : List UInt8 := [42, 43, 182, 0, 234, 3, 61, 3, 62, 29, 43, 180, 0, 115, 162, 0, 65, 43, 29, 182, 0, 238]
abbrev dktX0_doMove_0 : List UInt8 := dkwX0_doMove_0 ++ dktX0_doMove_1
theorem dksX0_doMove_0 : cX0_doMove.data.toList.drop 0 = dktX0_doMove_0 := by decide +kernel
theorem dksX0_doMove_1 : cX0_doMove.data.toList.drop 22 = dktX0_doMove_1 := dk_seg dksX0_doMove_0 22 rfl rfl
theorem dksX0_doMove_2 : cX0_doMove.data.toList.drop 46 = dktX0_doMove_2 := dk_seg dksX0_doMove_1 24 rfl rfl
theorem dksX0_doMove_3 : cX0_doMove.data.toList.drop 70 = dktX0_doMove_3 := dk_seg dksX0_doMove_2 24 rfl rfl
theorem dX0_doMove_0 : decode cX0_doMove 0 = .ok (.aload_n 0, 1) := dk_42 (dk_at dksX0_doMove_0 0 rfl rfl)
theorem dX0_doMove_1 : decode cX0_doMove 1 = .ok (.aload_n 1, 1) := dk_43 (dk_at dksX0_doMove_0 1 rfl rfl)
theorem dX0_doMove_2 : decode cX0_doMove 2 = .ok (.invokevirtual 234, 3) := dk_182 0 234 (dk_at dksX0_doMove_0 2 rfl rfl)
theorem dX0_doMove_5 : decode cX0_doMove 5 = .ok (.iconst 0, 1) := dk_3 (dk_at dksX0_doMove_0 5 rfl rfl)
theorem dX0_doMove_6 : decode cX0_doMove 6 = .ok (.istore_n 2, 1) := dk_61 (dk_at dksX0_doMove_0 6 rfl rfl)
theorem dX0_doMove_7 : decode cX0_doMove 7 = .ok (.iconst 0, 1) := dk_3 (dk_at dksX0_doMove_0 7 rfl rfl)
theorem dX0_doMove_8 : decode cX0_doMove 8 = .ok (.istore_n 3, 1) := dk_62 (dk_at dksX0_doMove_0 8 rfl rfl)
theorem dX0_doMove_9 : decode cX0_doMove 9 = .ok (.iload_n 3, 1) := dk_29 (dk_at dksX0_doMove_0 9 rfl rfl)
theorem dX0_doMove_10 : decode cX0_doMove 10 = .ok (.aload_n 1, 1) := dk_43 (dk_at dksX0_doMove_0 10 rfl rfl)
theorem dX0_doMove_11 : decode cX0_doMove 11 = .ok (.getfield 115, 3) := dk_180 0 115 (dk_at dksX0_doMove_0 11 rfl rfl)
theorem dX0_doMove_14 : decode cX0_doMove 14 = .ok (.if_icmp .ge 65, 3) := dk_162 0 65 (dk_at dksX0_doMove_0 14 rfl rfl)
theorem dX0_doMove_17 : decode cX0_doMove 17 = .ok (.aload_n 1, 1) := dk_43 (dk_at dksX0_doMove_0 17 rfl rfl)
theorem dX0_doMove_18 : decode cX0_doMove 18 = .ok (.iload_n 3, 1) := dk_29 (dk_at dksX0_doMove_0 18 rfl rfl)
theorem dX0_doMove_19 : decode cX0_doMove 19 = .ok (.invokevirtual 238, 3) := dk_182 0 238 (dk_at dksX0_doMove_0 19 rfl rfl)
theorem dX0_doMove_22 : decode cX0_doMove 22 = .ok (.ifCond .eq 6, 3) := dk_153 0 6 (dk_at dksX0_doMove_1 0 rfl rfl)
theorem dX0_doMove_25 : decode cX0_doMove 25 = .ok (.goto 48, 3) := dk_167 0 48 (dk_at dksX0_doMove_1 3 rfl rfl)
theorem dX0_doMove_28 : decode cX0_doMove 28 = .ok (.aload_n 0, 1) := dk_42 (dk_at dksX0_doMove_1 6 rfl rfl)
theorem dX0_doMove_29 : decode cX0_doMove 29 = .ok (.aload_n 1, 1) := dk_43 (dk_at dksX0_doMove_1 7 rfl rfl)
theorem dX0_doMove_30 : decode cX0_doMove 30 = .ok (.iload_n 3, 1) := dk_29 (dk_at dksX0_doMove_1 8 rfl rfl)
theorem dX0_doMove_31 : decode cX0_doMove 31 = .ok (.invokevirtual 241, 3) := dk_182 0 241 (dk_at dksX0_doMove_1 9 rfl rfl)
theorem dX0_doMove_34 : decode cX0_doMove 34 = .ok (.istore 4, 2) := dk_54 4 (dk_at dksX0_doMove_1 12 rfl rfl)
theorem dX0_doMove_36 : decode cX0_doMove 36 = .ok (.aload_n 0, 1) := dk_42 (dk_at dksX0_doMove_1 14 rfl rfl)
theorem dX0_doMove_37 : decode cX0_doMove 37 = .ok (.aload_n 1, 1) := dk_43 (dk_at dksX0_doMove_1 15 rfl rfl)
theorem dX0_doMove_38 : decode cX0_doMove 38 = .ok (.iload_n 3, 1) := dk_29 (dk_at dksX0_doMove_1 16 rfl rfl)
theorem dX0_doMove_39 : decode cX0_doMove 39 = .ok (.iload 4, 2) := dk_21 4 (dk_at dksX0_doMove_1 17 rfl rfl)
theorem dX0_doMove_41 : decode cX0_doMove 41 = .ok (.invokevirtual 231, 3) := dk_182 0 231 (dk_at dksX0_doMove_1 19 rfl rfl)
theorem dX0_doMove_44 : decode cX0_doMove 44 = .ok (.aload_n 0, 1) := dk_42 (dk_at dksX0_doMove_1 22 rfl rfl)
theorem dX0_doMove_45 : decode cX0_doMove 45 = .ok (.aload_n 1, 1) := dk_43 (dk_at dksX0_doMove_1 23 rfl rfl)
theorem dX0_doMove_46 : decode cX0_doMove 46 = .ok (.iload_n 3, 1) := dk_29 (dk_at dksX0_doMove_2 0 rfl rfl)
theorem dX0_doMove_47 : decode cX0_doMove 47 = .ok (.aload_n 1, 1) := dk_43 (dk_at dksX0_doMove_2 1 rfl rfl)
theorem dX0_doMove_48 : decode cX0_doMove 48 = .ok (.getfield 153, 3) := dk_180 0 153 (dk_at dksX0_doMove_2 2 rfl rfl)
theorem dX0_doMove_51 : decode cX0_doMove 51 = .ok (.iload_n 3, 1) := dk_29 (dk_at dksX0_doMove_2 5 rfl rfl)
theorem dX0_doMove_52 : decode cX0_doMove 52 = .ok (.baload, 1) := dk_51 (dk_at dksX0_doMove_2 6 rfl rfl)
theorem dX0_doMove_53 : decode cX0_doMove 53 = .ok (.invokevirtual 231, 3) := dk_182 0 231 (dk_at dksX0_doMove_2 7 rfl rfl)
theorem dX0_doMove_56 : decode cX0_doMove 56 = .ok (.if_icmp .gt 6, 3) := dk_163 0 6 (dk_at dksX0_doMove_2 10 rfl rfl)
theorem dX0_doMove_59 : decode cX0_doMove 59 = .ok (.goto 14, 3) := dk_167 0 14 (dk_at dksX0_doMove_2 13 rfl rfl)
theorem dX0_doMove_62 : decode cX0_doMove 62 = .ok (.aload_n 1, 1) := dk_43 (dk_at dksX0_doMove_2 16 rfl rfl)
theorem dX0_doMove_63 : decode cX0_doMove 63 = .ok (.getfield 153, 3) := dk_180 0 153 (dk_at dksX0_doMove_2 17 rfl rfl)
theorem dX0_doMove_66 : decode cX0_doMove 66 = .ok (.iload_n 3, 1) := dk_29 (dk_at dksX0_doMove_2 20 rfl rfl)
theorem dX0_doMove_67 : decode cX0_doMove 67 = .ok (.iload 4, 2) := dk_21 4 (dk_at dksX0_doMove_2 21 rfl rfl)
theorem dX0_doMove_69 : decode cX0_doMove 69 = .ok (.i2b, 1) := dk_145 (dk_at dksX0_doMove_2 23 rfl rfl)
theorem dX0_doMove_70 : decode cX0_doMove 70 = .ok (.bastore, 1) := dk_84 (dk_at dksX0_doMove_3 0 rfl rfl)
theorem dX0_doMove_71 : decode cX0_doMove 71 = .ok (.iconst 1, 1) := dk_4 (dk_at dksX0_doMove_3 1 rfl rfl)
theorem dX0_doMove_72 : decode cX0_doMove 72 = .ok (.istore_n 2, 1) := dk_61 (dk_at dksX0_doMove_3 2 rfl rfl)
theorem dX0_doMove_73 : decode cX0_doMove 73 = .ok (.iinc 3 1, 3) := dk_132 3 1 (dk_at dksX0_doMove_3 3 rfl rfl)
theorem dX0_doMove_76 : decode cX0_doMove 76 = .ok (.goto (-67), 3) := dk_167 255 189 (dk_at dksX0_doMove_3 6 rfl rfl)
theorem dX0_doMove_79 : decode cX0_doMove 79 = .ok (.iload_n 2, 1) := dk_28 (dk_at dksX0_doMove_3 9 rfl rfl)
theorem dX0_doMove_80 : decode cX0_doMove 80 = .ok (.ireturn, 1) := dk_172 (dk_at dksX0_doMove_3 10 rfl rfl)
abbrev cX0_looksForRates : ByteArray := prog_1_method_11_code
def yX0_looksForRates : MethodName := ⟨RX0, "looksForRates", "(LFuneralDebts$Time;)V"⟩
def dkwX0_looksForRates_2 : List UInt8 := [132, 2, 1, 167, 255, 209, 177]
abbrev dktX0_looksForRates_2 : List UInt8 := dkwX0_looksForRates_2 ++ []
def dkwX0_looksForRates_1 : List UInt8 := [28, 104, 29, 96, 3, 42, 43, 28, 29, 182, 0, 192, 184, 0, 196, 79, 132, 3, 1, 167, 255, 225]
abbrev dktX0_looksForRates_1 : List UInt8 := dkwX0_looksForRates_1 ++ dktX0_looksForRates_2
def dkwX0_looksForRates_0 : List UInt8 := [3, 61, 28, 43, 180, 0, 115, 162, 0, 45, 3, 62, 29, 16, 10, 162, 0, 31, 42, 180, 0, 84, 16, 10]
abbrev dktX0_looksForRates_0 : List UInt8 := dkwX0_looksForRates_0 ++ dktX0_looksForRates_1
theorem dksX0_looksForRates_0 : cX0_looksForRates.data.toList.drop 0 = dktX0_looksForRates_0 := by decide +kernel
theorem dksX0_looksForRates_1 : cX0_looksForRates.data.toList.drop 24 = dktX0_looksForRates_1 := dk_seg dksX0_looksForRates_0 24 rfl rfl
theorem dksX0_looksForRates_2 : cX0_looksForRates.data.toList.drop 46 = dktX0_looksForRates_2 := dk_seg dksX0_looksForRates_1 22 rfl rfl
theorem dX0_looksForRates_0 : decode cX0_looksForRates 0 = .ok (.iconst 0, 1) := dk_3 (dk_at dksX0_looksForRates_0 0 rfl rfl)
theorem dX0_looksForRates_1 : decode cX0_looksForRates 1 = .ok (.istore_n 2, 1) := dk_61 (dk_at dksX0_looksForRates_0 1 rfl rfl)
theorem dX0_looksForRates_2 : decode cX0_looksForRates 2 = .ok (.iload_n 2, 1) := dk_28 (dk_at dksX0_looksForRates_0 2 rfl rfl)
theorem dX0_looksForRates_3 : decode cX0_looksForRates 3 = .ok (.aload_n 1, 1) := dk_43 (dk_at dksX0_looksForRates_0 3 rfl rfl)
theorem dX0_looksForRates_4 : decode cX0_looksForRates 4 = .ok (.getfield 115, 3) := dk_180 0 115 (dk_at dksX0_looksForRates_0 4 rfl rfl)
theorem dX0_looksForRates_7 : decode cX0_looksForRates 7 = .ok (.if_icmp .ge 45, 3) := dk_162 0 45 (dk_at dksX0_looksForRates_0 7 rfl rfl)
theorem dX0_looksForRates_10 : decode cX0_looksForRates 10 = .ok (.iconst 0, 1) := dk_3 (dk_at dksX0_looksForRates_0 10 rfl rfl)
theorem dX0_looksForRates_11 : decode cX0_looksForRates 11 = .ok (.istore_n 3, 1) := dk_62 (dk_at dksX0_looksForRates_0 11 rfl rfl)
theorem dX0_looksForRates_12 : decode cX0_looksForRates 12 = .ok (.iload_n 3, 1) := dk_29 (dk_at dksX0_looksForRates_0 12 rfl rfl)
theorem dX0_looksForRates_13 : decode cX0_looksForRates 13 = .ok (.bipush 10, 2) := dk_16 10 (dk_at dksX0_looksForRates_0 13 rfl rfl)
theorem dX0_looksForRates_15 : decode cX0_looksForRates 15 = .ok (.if_icmp .ge 31, 3) := dk_162 0 31 (dk_at dksX0_looksForRates_0 15 rfl rfl)
theorem dX0_looksForRates_18 : decode cX0_looksForRates 18 = .ok (.aload_n 0, 1) := dk_42 (dk_at dksX0_looksForRates_0 18 rfl rfl)
theorem dX0_looksForRates_19 : decode cX0_looksForRates 19 = .ok (.getfield 84, 3) := dk_180 0 84 (dk_at dksX0_looksForRates_0 19 rfl rfl)
theorem dX0_looksForRates_22 : decode cX0_looksForRates 22 = .ok (.bipush 10, 2) := dk_16 10 (dk_at dksX0_looksForRates_0 22 rfl rfl)
theorem dX0_looksForRates_24 : decode cX0_looksForRates 24 = .ok (.iload_n 2, 1) := dk_28 (dk_at dksX0_looksForRates_1 0 rfl rfl)
theorem dX0_looksForRates_25 : decode cX0_looksForRates 25 = .ok (.imul, 1) := dk_104 (dk_at dksX0_looksForRates_1 1 rfl rfl)
theorem dX0_looksForRates_26 : decode cX0_looksForRates 26 = .ok (.iload_n 3, 1) := dk_29 (dk_at dksX0_looksForRates_1 2 rfl rfl)
theorem dX0_looksForRates_27 : decode cX0_looksForRates 27 = .ok (.iadd, 1) := dk_96 (dk_at dksX0_looksForRates_1 3 rfl rfl)
theorem dX0_looksForRates_28 : decode cX0_looksForRates 28 = .ok (.iconst 0, 1) := dk_3 (dk_at dksX0_looksForRates_1 4 rfl rfl)
theorem dX0_looksForRates_29 : decode cX0_looksForRates 29 = .ok (.aload_n 0, 1) := dk_42 (dk_at dksX0_looksForRates_1 5 rfl rfl)
theorem dX0_looksForRates_30 : decode cX0_looksForRates 30 = .ok (.aload_n 1, 1) := dk_43 (dk_at dksX0_looksForRates_1 6 rfl rfl)
theorem dX0_looksForRates_31 : decode cX0_looksForRates 31 = .ok (.iload_n 2, 1) := dk_28 (dk_at dksX0_looksForRates_1 7 rfl rfl)
theorem dX0_looksForRates_32 : decode cX0_looksForRates 32 = .ok (.iload_n 3, 1) := dk_29 (dk_at dksX0_looksForRates_1 8 rfl rfl)
theorem dX0_looksForRates_33 : decode cX0_looksForRates 33 = .ok (.invokevirtual 192, 3) := dk_182 0 192 (dk_at dksX0_looksForRates_1 9 rfl rfl)
theorem dX0_looksForRates_36 : decode cX0_looksForRates 36 = .ok (.invokestatic 196, 3) := dk_184 0 196 (dk_at dksX0_looksForRates_1 12 rfl rfl)
theorem dX0_looksForRates_39 : decode cX0_looksForRates 39 = .ok (.iastore, 1) := dk_79 (dk_at dksX0_looksForRates_1 15 rfl rfl)
theorem dX0_looksForRates_40 : decode cX0_looksForRates 40 = .ok (.iinc 3 1, 3) := dk_132 3 1 (dk_at dksX0_looksForRates_1 16 rfl rfl)
theorem dX0_looksForRates_43 : decode cX0_looksForRates 43 = .ok (.goto (-31), 3) := dk_167 255 225 (dk_at dksX0_looksForRates_1 19 rfl rfl)
theorem dX0_looksForRates_46 : decode cX0_looksForRates 46 = .ok (.iinc 2 1, 3) := dk_132 2 1 (dk_at dksX0_looksForRates_2 0 rfl rfl)
theorem dX0_looksForRates_49 : decode cX0_looksForRates 49 = .ok (.goto (-47), 3) := dk_167 255 209 (dk_at dksX0_looksForRates_2 3 rfl rfl)
theorem dX0_looksForRates_52 : decode cX0_looksForRates 52 = .ok (.return_, 1) := dk_177 (dk_at dksX0_looksForRates_2 6 rfl rfl)
abbrev cX0_rateOf : ByteArray := prog_1_method_10_code
def yX0_rateOf : MethodName := ⟨RX0, "rateOf", "(LFuneralDebts$Time;II)I"⟩
def dkwX0_rateOf_4 : List UInt8 := [180, 0, 181, 182, 0, 189, 172]
abbrev dktX0_rateOf_4 : List UInt8 := dkwX0_rateOf_4 ++ []
def dkwX0_rateOf_3 : List UInt8 := [181, 0, 184, 42, 180, 0, 17, 28, 50, 42, 180, 0, 42, 42, 180, 0, 49, 182, 0, 185, 29, 43]
abbrev dktX0_rateOf_3 : List UInt8 := dkwX0_rateOf_3 ++ dktX0_rateOf_4
def dkwX0_rateOf_2 : List UInt8 := [28, 51, 181, 0, 175, 42, 180, 0, 49, 29, 181, 0, 178, 42, 180, 0, 49, 43, 180, 0, 181, 16, 10, 112]
abbrev dktX0_rateOf_2 : List UInt8 := dkwX0_rateOf_2 ++ dktX0_rateOf_3
def dkwX0_rateOf_1 : List UInt8 := [42, 180, 0, 49, 42, 180, 0, 17, 28, 50, 180, 0, 171, 181, 0, 174, 42, 180, 0, 49, 43, 180, 0, 150]
abbrev dktX0_rateOf_1 : List UInt8 := dkwX0_rateOf_1 ++ dktX0_rateOf_2
def dkwX0_rateOf_0 : List UInt8 := [42, 180, 0, 49, 28, 181, 0, 162, 42, 180, 0, 49, 42, 180, 0, 17, 28, 50, 182, 0, 165, 181, 0, 169]
abbrev dktX0_rateOf_0 : List UInt8 := dkwX0_rateOf_0 ++ dktX0_rateOf_1
theorem dksX0_rateOf_0 : cX0_rateOf.data.toList.drop 0 = dktX0_rateOf_0 := by decide +kernel
theorem dksX0_rateOf_1 : cX0_rateOf.data.toList.drop 24 = dktX0_rateOf_1 := dk_seg dksX0_rateOf_0 24 rfl rfl
theorem dksX0_rateOf_2 : cX0_rateOf.data.toList.drop 48 = dktX0_rateOf_2 := dk_seg dksX0_rateOf_1 24 rfl rfl
theorem dksX0_rateOf_3 : cX0_rateOf.data.toList.drop 72 = dktX0_rateOf_3 := dk_seg dksX0_rateOf_2 24 rfl rfl
theorem dksX0_rateOf_4 : cX0_rateOf.data.toList.drop 94 = dktX0_rateOf_4 := dk_seg dksX0_rateOf_3 22 rfl rfl
theorem dX0_rateOf_0 : decode cX0_rateOf 0 = .ok (.aload_n 0, 1) := dk_42 (dk_at dksX0_rateOf_0 0 rfl rfl)
theorem dX0_rateOf_1 : decode cX0_rateOf 1 = .ok (.getfield 49, 3) := dk_180 0 49 (dk_at dksX0_rateOf_0 1 rfl rfl)
theorem dX0_rateOf_4 : decode cX0_rateOf 4 = .ok (.iload_n 2, 1) := dk_28 (dk_at dksX0_rateOf_0 4 rfl rfl)
theorem dX0_rateOf_5 : decode cX0_rateOf 5 = .ok (.putfield 162, 3) := dk_181 0 162 (dk_at dksX0_rateOf_0 5 rfl rfl)
theorem dX0_rateOf_8 : decode cX0_rateOf 8 = .ok (.aload_n 0, 1) := dk_42 (dk_at dksX0_rateOf_0 8 rfl rfl)
theorem dX0_rateOf_9 : decode cX0_rateOf 9 = .ok (.getfield 49, 3) := dk_180 0 49 (dk_at dksX0_rateOf_0 9 rfl rfl)
theorem dX0_rateOf_12 : decode cX0_rateOf 12 = .ok (.aload_n 0, 1) := dk_42 (dk_at dksX0_rateOf_0 12 rfl rfl)
theorem dX0_rateOf_13 : decode cX0_rateOf 13 = .ok (.getfield 17, 3) := dk_180 0 17 (dk_at dksX0_rateOf_0 13 rfl rfl)
theorem dX0_rateOf_16 : decode cX0_rateOf 16 = .ok (.iload_n 2, 1) := dk_28 (dk_at dksX0_rateOf_0 16 rfl rfl)
theorem dX0_rateOf_17 : decode cX0_rateOf 17 = .ok (.aaload, 1) := dk_50 (dk_at dksX0_rateOf_0 17 rfl rfl)
theorem dX0_rateOf_18 : decode cX0_rateOf 18 = .ok (.invokevirtual 165, 3) := dk_182 0 165 (dk_at dksX0_rateOf_0 18 rfl rfl)
theorem dX0_rateOf_21 : decode cX0_rateOf 21 = .ok (.putfield 169, 3) := dk_181 0 169 (dk_at dksX0_rateOf_0 21 rfl rfl)
theorem dX0_rateOf_24 : decode cX0_rateOf 24 = .ok (.aload_n 0, 1) := dk_42 (dk_at dksX0_rateOf_1 0 rfl rfl)
theorem dX0_rateOf_25 : decode cX0_rateOf 25 = .ok (.getfield 49, 3) := dk_180 0 49 (dk_at dksX0_rateOf_1 1 rfl rfl)
theorem dX0_rateOf_28 : decode cX0_rateOf 28 = .ok (.aload_n 0, 1) := dk_42 (dk_at dksX0_rateOf_1 4 rfl rfl)
theorem dX0_rateOf_29 : decode cX0_rateOf 29 = .ok (.getfield 17, 3) := dk_180 0 17 (dk_at dksX0_rateOf_1 5 rfl rfl)
theorem dX0_rateOf_32 : decode cX0_rateOf 32 = .ok (.iload_n 2, 1) := dk_28 (dk_at dksX0_rateOf_1 8 rfl rfl)
theorem dX0_rateOf_33 : decode cX0_rateOf 33 = .ok (.aaload, 1) := dk_50 (dk_at dksX0_rateOf_1 9 rfl rfl)
theorem dX0_rateOf_34 : decode cX0_rateOf 34 = .ok (.getfield 171, 3) := dk_180 0 171 (dk_at dksX0_rateOf_1 10 rfl rfl)
theorem dX0_rateOf_37 : decode cX0_rateOf 37 = .ok (.putfield 174, 3) := dk_181 0 174 (dk_at dksX0_rateOf_1 13 rfl rfl)
theorem dX0_rateOf_40 : decode cX0_rateOf 40 = .ok (.aload_n 0, 1) := dk_42 (dk_at dksX0_rateOf_1 16 rfl rfl)
theorem dX0_rateOf_41 : decode cX0_rateOf 41 = .ok (.getfield 49, 3) := dk_180 0 49 (dk_at dksX0_rateOf_1 17 rfl rfl)
theorem dX0_rateOf_44 : decode cX0_rateOf 44 = .ok (.aload_n 1, 1) := dk_43 (dk_at dksX0_rateOf_1 20 rfl rfl)
theorem dX0_rateOf_45 : decode cX0_rateOf 45 = .ok (.getfield 150, 3) := dk_180 0 150 (dk_at dksX0_rateOf_1 21 rfl rfl)
theorem dX0_rateOf_48 : decode cX0_rateOf 48 = .ok (.iload_n 2, 1) := dk_28 (dk_at dksX0_rateOf_2 0 rfl rfl)
theorem dX0_rateOf_49 : decode cX0_rateOf 49 = .ok (.baload, 1) := dk_51 (dk_at dksX0_rateOf_2 1 rfl rfl)
theorem dX0_rateOf_50 : decode cX0_rateOf 50 = .ok (.putfield 175, 3) := dk_181 0 175 (dk_at dksX0_rateOf_2 2 rfl rfl)
theorem dX0_rateOf_53 : decode cX0_rateOf 53 = .ok (.aload_n 0, 1) := dk_42 (dk_at dksX0_rateOf_2 5 rfl rfl)
theorem dX0_rateOf_54 : decode cX0_rateOf 54 = .ok (.getfield 49, 3) := dk_180 0 49 (dk_at dksX0_rateOf_2 6 rfl rfl)
theorem dX0_rateOf_57 : decode cX0_rateOf 57 = .ok (.iload_n 3, 1) := dk_29 (dk_at dksX0_rateOf_2 9 rfl rfl)
theorem dX0_rateOf_58 : decode cX0_rateOf 58 = .ok (.putfield 178, 3) := dk_181 0 178 (dk_at dksX0_rateOf_2 10 rfl rfl)
theorem dX0_rateOf_61 : decode cX0_rateOf 61 = .ok (.aload_n 0, 1) := dk_42 (dk_at dksX0_rateOf_2 13 rfl rfl)
theorem dX0_rateOf_62 : decode cX0_rateOf 62 = .ok (.getfield 49, 3) := dk_180 0 49 (dk_at dksX0_rateOf_2 14 rfl rfl)
theorem dX0_rateOf_65 : decode cX0_rateOf 65 = .ok (.aload_n 1, 1) := dk_43 (dk_at dksX0_rateOf_2 17 rfl rfl)
theorem dX0_rateOf_66 : decode cX0_rateOf 66 = .ok (.getfield 181, 3) := dk_180 0 181 (dk_at dksX0_rateOf_2 18 rfl rfl)
theorem dX0_rateOf_69 : decode cX0_rateOf 69 = .ok (.bipush 10, 2) := dk_16 10 (dk_at dksX0_rateOf_2 21 rfl rfl)
theorem dX0_rateOf_71 : decode cX0_rateOf 71 = .ok (.irem, 1) := dk_112 (dk_at dksX0_rateOf_2 23 rfl rfl)
theorem dX0_rateOf_72 : decode cX0_rateOf 72 = .ok (.putfield 184, 3) := dk_181 0 184 (dk_at dksX0_rateOf_3 0 rfl rfl)
theorem dX0_rateOf_75 : decode cX0_rateOf 75 = .ok (.aload_n 0, 1) := dk_42 (dk_at dksX0_rateOf_3 3 rfl rfl)
theorem dX0_rateOf_76 : decode cX0_rateOf 76 = .ok (.getfield 17, 3) := dk_180 0 17 (dk_at dksX0_rateOf_3 4 rfl rfl)
theorem dX0_rateOf_79 : decode cX0_rateOf 79 = .ok (.iload_n 2, 1) := dk_28 (dk_at dksX0_rateOf_3 7 rfl rfl)
theorem dX0_rateOf_80 : decode cX0_rateOf 80 = .ok (.aaload, 1) := dk_50 (dk_at dksX0_rateOf_3 8 rfl rfl)
theorem dX0_rateOf_81 : decode cX0_rateOf 81 = .ok (.aload_n 0, 1) := dk_42 (dk_at dksX0_rateOf_3 9 rfl rfl)
theorem dX0_rateOf_82 : decode cX0_rateOf 82 = .ok (.getfield 42, 3) := dk_180 0 42 (dk_at dksX0_rateOf_3 10 rfl rfl)
theorem dX0_rateOf_85 : decode cX0_rateOf 85 = .ok (.aload_n 0, 1) := dk_42 (dk_at dksX0_rateOf_3 13 rfl rfl)
theorem dX0_rateOf_86 : decode cX0_rateOf 86 = .ok (.getfield 49, 3) := dk_180 0 49 (dk_at dksX0_rateOf_3 14 rfl rfl)
theorem dX0_rateOf_89 : decode cX0_rateOf 89 = .ok (.invokevirtual 185, 3) := dk_182 0 185 (dk_at dksX0_rateOf_3 17 rfl rfl)
theorem dX0_rateOf_92 : decode cX0_rateOf 92 = .ok (.iload_n 3, 1) := dk_29 (dk_at dksX0_rateOf_3 20 rfl rfl)
theorem dX0_rateOf_93 : decode cX0_rateOf 93 = .ok (.aload_n 1, 1) := dk_43 (dk_at dksX0_rateOf_3 21 rfl rfl)
theorem dX0_rateOf_94 : decode cX0_rateOf 94 = .ok (.getfield 181, 3) := dk_180 0 181 (dk_at dksX0_rateOf_4 0 rfl rfl)
theorem dX0_rateOf_97 : decode cX0_rateOf 97 = .ok (.invokevirtual 189, 3) := dk_182 0 189 (dk_at dksX0_rateOf_4 3 rfl rfl)
theorem dX0_rateOf_100 : decode cX0_rateOf 100 = .ok (.ireturn, 1) := dk_172 (dk_at dksX0_rateOf_4 6 rfl rfl)
abbrev cX0_isIn : ByteArray := prog_1_method_2_code
def yX0_isIn : MethodName := ⟨RX0, "isIn", "(II)Z"⟩
def dkwX0_isIn_0 : List UInt8 := [26, 27, 122, 4, 126, 4, 160, 0, 7, 4, 167, 0, 4, 3, 172]
abbrev dktX0_isIn_0 : List UInt8 := dkwX0_isIn_0 ++ []
theorem dksX0_isIn_0 : cX0_isIn.data.toList.drop 0 = dktX0_isIn_0 := by decide +kernel
theorem dX0_isIn_0 : decode cX0_isIn 0 = .ok (.iload_n 0, 1) := dk_26 (dk_at dksX0_isIn_0 0 rfl rfl)
theorem dX0_isIn_1 : decode cX0_isIn 1 = .ok (.iload_n 1, 1) := dk_27 (dk_at dksX0_isIn_0 1 rfl rfl)
theorem dX0_isIn_2 : decode cX0_isIn 2 = .ok (.ishr, 1) := dk_122 (dk_at dksX0_isIn_0 2 rfl rfl)
theorem dX0_isIn_3 : decode cX0_isIn 3 = .ok (.iconst 1, 1) := dk_4 (dk_at dksX0_isIn_0 3 rfl rfl)
theorem dX0_isIn_4 : decode cX0_isIn 4 = .ok (.iand, 1) := dk_126 (dk_at dksX0_isIn_0 4 rfl rfl)
theorem dX0_isIn_5 : decode cX0_isIn 5 = .ok (.iconst 1, 1) := dk_4 (dk_at dksX0_isIn_0 5 rfl rfl)
theorem dX0_isIn_6 : decode cX0_isIn 6 = .ok (.if_icmp .ne 7, 3) := dk_160 0 7 (dk_at dksX0_isIn_0 6 rfl rfl)
theorem dX0_isIn_9 : decode cX0_isIn 9 = .ok (.iconst 1, 1) := dk_4 (dk_at dksX0_isIn_0 9 rfl rfl)
theorem dX0_isIn_10 : decode cX0_isIn 10 = .ok (.goto 4, 3) := dk_167 0 4 (dk_at dksX0_isIn_0 10 rfl rfl)
theorem dX0_isIn_13 : decode cX0_isIn 13 = .ok (.iconst 0, 1) := dk_3 (dk_at dksX0_isIn_0 13 rfl rfl)
theorem dX0_isIn_14 : decode cX0_isIn 14 = .ok (.ireturn, 1) := dk_172 (dk_at dksX0_isIn_0 14 rfl rfl)
abbrev cX0_bestOf : ByteArray := prog_1_method_19_code
def yX0_bestOf : MethodName := ⟨RX0, "bestOf", "(LFuneralDebts$Time;I)I"⟩
def dkwX0_bestOf_2 : List UInt8 := [132, 5, 1, 167, 255, 219, 29, 172]
abbrev dktX0_bestOf_2 : List UInt8 := dkwX0_bestOf_2 ++ []
def dkwX0_bestOf_1 : List UInt8 := [21, 5, 182, 0, 231, 54, 6, 21, 6, 21, 4, 163, 0, 6, 167, 0, 10, 21, 6, 54, 4, 21, 5, 62]
abbrev dktX0_bestOf_1 : List UInt8 := dkwX0_bestOf_1 ++ dktX0_bestOf_2
def dkwX0_bestOf_0 : List UInt8 := [3, 62, 42, 43, 28, 3, 182, 0, 231, 54, 4, 4, 54, 5, 21, 5, 16, 10, 162, 0, 36, 42, 43, 28]
abbrev dktX0_bestOf_0 : List UInt8 := dkwX0_bestOf_0 ++ dktX0_bestOf_1
theorem dksX0_bestOf_0 : cX0_bestOf.data.toList.drop 0 = dktX0_bestOf_0 := by decide +kernel
theorem dksX0_bestOf_1 : cX0_bestOf.data.toList.drop 24 = dktX0_bestOf_1 := dk_seg dksX0_bestOf_0 24 rfl rfl
theorem dksX0_bestOf_2 : cX0_bestOf.data.toList.drop 48 = dktX0_bestOf_2 := dk_seg dksX0_bestOf_1 24 rfl rfl
theorem dX0_bestOf_0 : decode cX0_bestOf 0 = .ok (.iconst 0, 1) := dk_3 (dk_at dksX0_bestOf_0 0 rfl rfl)
theorem dX0_bestOf_1 : decode cX0_bestOf 1 = .ok (.istore_n 3, 1) := dk_62 (dk_at dksX0_bestOf_0 1 rfl rfl)
theorem dX0_bestOf_2 : decode cX0_bestOf 2 = .ok (.aload_n 0, 1) := dk_42 (dk_at dksX0_bestOf_0 2 rfl rfl)
theorem dX0_bestOf_3 : decode cX0_bestOf 3 = .ok (.aload_n 1, 1) := dk_43 (dk_at dksX0_bestOf_0 3 rfl rfl)
theorem dX0_bestOf_4 : decode cX0_bestOf 4 = .ok (.iload_n 2, 1) := dk_28 (dk_at dksX0_bestOf_0 4 rfl rfl)
theorem dX0_bestOf_5 : decode cX0_bestOf 5 = .ok (.iconst 0, 1) := dk_3 (dk_at dksX0_bestOf_0 5 rfl rfl)
theorem dX0_bestOf_6 : decode cX0_bestOf 6 = .ok (.invokevirtual 231, 3) := dk_182 0 231 (dk_at dksX0_bestOf_0 6 rfl rfl)
theorem dX0_bestOf_9 : decode cX0_bestOf 9 = .ok (.istore 4, 2) := dk_54 4 (dk_at dksX0_bestOf_0 9 rfl rfl)
theorem dX0_bestOf_11 : decode cX0_bestOf 11 = .ok (.iconst 1, 1) := dk_4 (dk_at dksX0_bestOf_0 11 rfl rfl)
theorem dX0_bestOf_12 : decode cX0_bestOf 12 = .ok (.istore 5, 2) := dk_54 5 (dk_at dksX0_bestOf_0 12 rfl rfl)
theorem dX0_bestOf_14 : decode cX0_bestOf 14 = .ok (.iload 5, 2) := dk_21 5 (dk_at dksX0_bestOf_0 14 rfl rfl)
theorem dX0_bestOf_16 : decode cX0_bestOf 16 = .ok (.bipush 10, 2) := dk_16 10 (dk_at dksX0_bestOf_0 16 rfl rfl)
theorem dX0_bestOf_18 : decode cX0_bestOf 18 = .ok (.if_icmp .ge 36, 3) := dk_162 0 36 (dk_at dksX0_bestOf_0 18 rfl rfl)
theorem dX0_bestOf_21 : decode cX0_bestOf 21 = .ok (.aload_n 0, 1) := dk_42 (dk_at dksX0_bestOf_0 21 rfl rfl)
theorem dX0_bestOf_22 : decode cX0_bestOf 22 = .ok (.aload_n 1, 1) := dk_43 (dk_at dksX0_bestOf_0 22 rfl rfl)
theorem dX0_bestOf_23 : decode cX0_bestOf 23 = .ok (.iload_n 2, 1) := dk_28 (dk_at dksX0_bestOf_0 23 rfl rfl)
theorem dX0_bestOf_24 : decode cX0_bestOf 24 = .ok (.iload 5, 2) := dk_21 5 (dk_at dksX0_bestOf_1 0 rfl rfl)
theorem dX0_bestOf_26 : decode cX0_bestOf 26 = .ok (.invokevirtual 231, 3) := dk_182 0 231 (dk_at dksX0_bestOf_1 2 rfl rfl)
theorem dX0_bestOf_29 : decode cX0_bestOf 29 = .ok (.istore 6, 2) := dk_54 6 (dk_at dksX0_bestOf_1 5 rfl rfl)
theorem dX0_bestOf_31 : decode cX0_bestOf 31 = .ok (.iload 6, 2) := dk_21 6 (dk_at dksX0_bestOf_1 7 rfl rfl)
theorem dX0_bestOf_33 : decode cX0_bestOf 33 = .ok (.iload 4, 2) := dk_21 4 (dk_at dksX0_bestOf_1 9 rfl rfl)
theorem dX0_bestOf_35 : decode cX0_bestOf 35 = .ok (.if_icmp .gt 6, 3) := dk_163 0 6 (dk_at dksX0_bestOf_1 11 rfl rfl)
theorem dX0_bestOf_38 : decode cX0_bestOf 38 = .ok (.goto 10, 3) := dk_167 0 10 (dk_at dksX0_bestOf_1 14 rfl rfl)
theorem dX0_bestOf_41 : decode cX0_bestOf 41 = .ok (.iload 6, 2) := dk_21 6 (dk_at dksX0_bestOf_1 17 rfl rfl)
theorem dX0_bestOf_43 : decode cX0_bestOf 43 = .ok (.istore 4, 2) := dk_54 4 (dk_at dksX0_bestOf_1 19 rfl rfl)
theorem dX0_bestOf_45 : decode cX0_bestOf 45 = .ok (.iload 5, 2) := dk_21 5 (dk_at dksX0_bestOf_1 21 rfl rfl)
theorem dX0_bestOf_47 : decode cX0_bestOf 47 = .ok (.istore_n 3, 1) := dk_62 (dk_at dksX0_bestOf_1 23 rfl rfl)
theorem dX0_bestOf_48 : decode cX0_bestOf 48 = .ok (.iinc 5 1, 3) := dk_132 5 1 (dk_at dksX0_bestOf_2 0 rfl rfl)
theorem dX0_bestOf_51 : decode cX0_bestOf 51 = .ok (.goto (-37), 3) := dk_167 255 219 (dk_at dksX0_bestOf_2 3 rfl rfl)
theorem dX0_bestOf_54 : decode cX0_bestOf 54 = .ok (.iload_n 3, 1) := dk_29 (dk_at dksX0_bestOf_2 6 rfl rfl)
theorem dX0_bestOf_55 : decode cX0_bestOf 55 = .ok (.ireturn, 1) := dk_172 (dk_at dksX0_bestOf_2 7 rfl rfl)
abbrev cX0_worthOf : ByteArray := prog_1_method_18_code
def yX0_worthOf : MethodName := ⟨RX0, "worthOf", "(LFuneralDebts$Time;II)I"⟩
def dkwX0_worthOf_2 : List UInt8 := [28, 21, 4, 145, 84, 21, 5, 172]
abbrev dktX0_worthOf_2 : List UInt8 := dkwX0_worthOf_2 ++ []
def dkwX0_worthOf_1 : List UInt8 := [29, 100, 104, 42, 43, 28, 43, 182, 0, 225, 4, 28, 120, 128, 182, 0, 228, 100, 54, 5, 43, 180, 0, 153]
abbrev dktX0_worthOf_1 : List UInt8 := dkwX0_worthOf_1 ++ dktX0_worthOf_2
def dkwX0_worthOf_0 : List UInt8 := [43, 180, 0, 153, 28, 51, 54, 4, 43, 180, 0, 153, 28, 29, 145, 84, 43, 180, 0, 150, 28, 51, 16, 10]
abbrev dktX0_worthOf_0 : List UInt8 := dkwX0_worthOf_0 ++ dktX0_worthOf_1
theorem dksX0_worthOf_0 : cX0_worthOf.data.toList.drop 0 = dktX0_worthOf_0 := by decide +kernel
theorem dksX0_worthOf_1 : cX0_worthOf.data.toList.drop 24 = dktX0_worthOf_1 := dk_seg dksX0_worthOf_0 24 rfl rfl
theorem dksX0_worthOf_2 : cX0_worthOf.data.toList.drop 48 = dktX0_worthOf_2 := dk_seg dksX0_worthOf_1 24 rfl rfl
theorem dX0_worthOf_0 : decode cX0_worthOf 0 = .ok (.aload_n 1, 1) := dk_43 (dk_at dksX0_worthOf_0 0 rfl rfl)
theorem dX0_worthOf_1 : decode cX0_worthOf 1 = .ok (.getfield 153, 3) := dk_180 0 153 (dk_at dksX0_worthOf_0 1 rfl rfl)
theorem dX0_worthOf_4 : decode cX0_worthOf 4 = .ok (.iload_n 2, 1) := dk_28 (dk_at dksX0_worthOf_0 4 rfl rfl)
theorem dX0_worthOf_5 : decode cX0_worthOf 5 = .ok (.baload, 1) := dk_51 (dk_at dksX0_worthOf_0 5 rfl rfl)
theorem dX0_worthOf_6 : decode cX0_worthOf 6 = .ok (.istore 4, 2) := dk_54 4 (dk_at dksX0_worthOf_0 6 rfl rfl)
theorem dX0_worthOf_8 : decode cX0_worthOf 8 = .ok (.aload_n 1, 1) := dk_43 (dk_at dksX0_worthOf_0 8 rfl rfl)
theorem dX0_worthOf_9 : decode cX0_worthOf 9 = .ok (.getfield 153, 3) := dk_180 0 153 (dk_at dksX0_worthOf_0 9 rfl rfl)
theorem dX0_worthOf_12 : decode cX0_worthOf 12 = .ok (.iload_n 2, 1) := dk_28 (dk_at dksX0_worthOf_0 12 rfl rfl)
theorem dX0_worthOf_13 : decode cX0_worthOf 13 = .ok (.iload_n 3, 1) := dk_29 (dk_at dksX0_worthOf_0 13 rfl rfl)
theorem dX0_worthOf_14 : decode cX0_worthOf 14 = .ok (.i2b, 1) := dk_145 (dk_at dksX0_worthOf_0 14 rfl rfl)
theorem dX0_worthOf_15 : decode cX0_worthOf 15 = .ok (.bastore, 1) := dk_84 (dk_at dksX0_worthOf_0 15 rfl rfl)
theorem dX0_worthOf_16 : decode cX0_worthOf 16 = .ok (.aload_n 1, 1) := dk_43 (dk_at dksX0_worthOf_0 16 rfl rfl)
theorem dX0_worthOf_17 : decode cX0_worthOf 17 = .ok (.getfield 150, 3) := dk_180 0 150 (dk_at dksX0_worthOf_0 17 rfl rfl)
theorem dX0_worthOf_20 : decode cX0_worthOf 20 = .ok (.iload_n 2, 1) := dk_28 (dk_at dksX0_worthOf_0 20 rfl rfl)
theorem dX0_worthOf_21 : decode cX0_worthOf 21 = .ok (.baload, 1) := dk_51 (dk_at dksX0_worthOf_0 21 rfl rfl)
theorem dX0_worthOf_22 : decode cX0_worthOf 22 = .ok (.bipush 10, 2) := dk_16 10 (dk_at dksX0_worthOf_0 22 rfl rfl)
theorem dX0_worthOf_24 : decode cX0_worthOf 24 = .ok (.iload_n 3, 1) := dk_29 (dk_at dksX0_worthOf_1 0 rfl rfl)
theorem dX0_worthOf_25 : decode cX0_worthOf 25 = .ok (.isub, 1) := dk_100 (dk_at dksX0_worthOf_1 1 rfl rfl)
theorem dX0_worthOf_26 : decode cX0_worthOf 26 = .ok (.imul, 1) := dk_104 (dk_at dksX0_worthOf_1 2 rfl rfl)
theorem dX0_worthOf_27 : decode cX0_worthOf 27 = .ok (.aload_n 0, 1) := dk_42 (dk_at dksX0_worthOf_1 3 rfl rfl)
theorem dX0_worthOf_28 : decode cX0_worthOf 28 = .ok (.aload_n 1, 1) := dk_43 (dk_at dksX0_worthOf_1 4 rfl rfl)
theorem dX0_worthOf_29 : decode cX0_worthOf 29 = .ok (.iload_n 2, 1) := dk_28 (dk_at dksX0_worthOf_1 5 rfl rfl)
theorem dX0_worthOf_30 : decode cX0_worthOf 30 = .ok (.aload_n 1, 1) := dk_43 (dk_at dksX0_worthOf_1 6 rfl rfl)
theorem dX0_worthOf_31 : decode cX0_worthOf 31 = .ok (.invokevirtual 225, 3) := dk_182 0 225 (dk_at dksX0_worthOf_1 7 rfl rfl)
theorem dX0_worthOf_34 : decode cX0_worthOf 34 = .ok (.iconst 1, 1) := dk_4 (dk_at dksX0_worthOf_1 10 rfl rfl)
theorem dX0_worthOf_35 : decode cX0_worthOf 35 = .ok (.iload_n 2, 1) := dk_28 (dk_at dksX0_worthOf_1 11 rfl rfl)
theorem dX0_worthOf_36 : decode cX0_worthOf 36 = .ok (.ishl, 1) := dk_120 (dk_at dksX0_worthOf_1 12 rfl rfl)
theorem dX0_worthOf_37 : decode cX0_worthOf 37 = .ok (.ior, 1) := dk_128 (dk_at dksX0_worthOf_1 13 rfl rfl)
theorem dX0_worthOf_38 : decode cX0_worthOf 38 = .ok (.invokevirtual 228, 3) := dk_182 0 228 (dk_at dksX0_worthOf_1 14 rfl rfl)
theorem dX0_worthOf_41 : decode cX0_worthOf 41 = .ok (.isub, 1) := dk_100 (dk_at dksX0_worthOf_1 17 rfl rfl)
theorem dX0_worthOf_42 : decode cX0_worthOf 42 = .ok (.istore 5, 2) := dk_54 5 (dk_at dksX0_worthOf_1 18 rfl rfl)
theorem dX0_worthOf_44 : decode cX0_worthOf 44 = .ok (.aload_n 1, 1) := dk_43 (dk_at dksX0_worthOf_1 20 rfl rfl)
theorem dX0_worthOf_45 : decode cX0_worthOf 45 = .ok (.getfield 153, 3) := dk_180 0 153 (dk_at dksX0_worthOf_1 21 rfl rfl)
theorem dX0_worthOf_48 : decode cX0_worthOf 48 = .ok (.iload_n 2, 1) := dk_28 (dk_at dksX0_worthOf_2 0 rfl rfl)
theorem dX0_worthOf_49 : decode cX0_worthOf 49 = .ok (.iload 4, 2) := dk_21 4 (dk_at dksX0_worthOf_2 1 rfl rfl)
theorem dX0_worthOf_51 : decode cX0_worthOf 51 = .ok (.i2b, 1) := dk_145 (dk_at dksX0_worthOf_2 3 rfl rfl)
theorem dX0_worthOf_52 : decode cX0_worthOf 52 = .ok (.bastore, 1) := dk_84 (dk_at dksX0_worthOf_2 4 rfl rfl)
theorem dX0_worthOf_53 : decode cX0_worthOf 53 = .ok (.iload 5, 2) := dk_21 5 (dk_at dksX0_worthOf_2 5 rfl rfl)
theorem dX0_worthOf_55 : decode cX0_worthOf 55 = .ok (.ireturn, 1) := dk_172 (dk_at dksX0_worthOf_2 7 rfl rfl)
abbrev cX0_shareOf : ByteArray := prog_1_method_17_code
def yX0_shareOf : MethodName := ⟨RX0, "shareOf", "(LFuneralDebts$Time;II)I"⟩
def dkwX0_shareOf_1 : List UInt8 := [160, 0, 12, 42, 43, 29, 182, 0, 222, 167, 0, 4, 3, 96, 167, 0, 4, 3, 172]
abbrev dktX0_shareOf_1 : List UInt8 := dkwX0_shareOf_1 ++ []
def dkwX0_shareOf_0 : List UInt8 := [29, 28, 184, 0, 202, 153, 0, 34, 42, 43, 28, 29, 182, 0, 216, 28, 42, 43, 29, 182, 0, 219]
abbrev dktX0_shareOf_0 : List UInt8 := dkwX0_shareOf_0 ++ dktX0_shareOf_1
theorem dksX0_shareOf_0 : cX0_shareOf.data.toList.drop 0 = dktX0_shareOf_0 := by decide +kernel
theorem dksX0_shareOf_1 : cX0_shareOf.data.toList.drop 22 = dktX0_shareOf_1 := dk_seg dksX0_shareOf_0 22 rfl rfl
theorem dX0_shareOf_0 : decode cX0_shareOf 0 = .ok (.iload_n 3, 1) := dk_29 (dk_at dksX0_shareOf_0 0 rfl rfl)
theorem dX0_shareOf_1 : decode cX0_shareOf 1 = .ok (.iload_n 2, 1) := dk_28 (dk_at dksX0_shareOf_0 1 rfl rfl)
theorem dX0_shareOf_2 : decode cX0_shareOf 2 = .ok (.invokestatic 202, 3) := dk_184 0 202 (dk_at dksX0_shareOf_0 2 rfl rfl)
theorem dX0_shareOf_5 : decode cX0_shareOf 5 = .ok (.ifCond .eq 34, 3) := dk_153 0 34 (dk_at dksX0_shareOf_0 5 rfl rfl)
theorem dX0_shareOf_8 : decode cX0_shareOf 8 = .ok (.aload_n 0, 1) := dk_42 (dk_at dksX0_shareOf_0 8 rfl rfl)
theorem dX0_shareOf_9 : decode cX0_shareOf 9 = .ok (.aload_n 1, 1) := dk_43 (dk_at dksX0_shareOf_0 9 rfl rfl)
theorem dX0_shareOf_10 : decode cX0_shareOf 10 = .ok (.iload_n 2, 1) := dk_28 (dk_at dksX0_shareOf_0 10 rfl rfl)
theorem dX0_shareOf_11 : decode cX0_shareOf 11 = .ok (.iload_n 3, 1) := dk_29 (dk_at dksX0_shareOf_0 11 rfl rfl)
theorem dX0_shareOf_12 : decode cX0_shareOf 12 = .ok (.invokevirtual 216, 3) := dk_182 0 216 (dk_at dksX0_shareOf_0 12 rfl rfl)
theorem dX0_shareOf_15 : decode cX0_shareOf 15 = .ok (.iload_n 2, 1) := dk_28 (dk_at dksX0_shareOf_0 15 rfl rfl)
theorem dX0_shareOf_16 : decode cX0_shareOf 16 = .ok (.aload_n 0, 1) := dk_42 (dk_at dksX0_shareOf_0 16 rfl rfl)
theorem dX0_shareOf_17 : decode cX0_shareOf 17 = .ok (.aload_n 1, 1) := dk_43 (dk_at dksX0_shareOf_0 17 rfl rfl)
theorem dX0_shareOf_18 : decode cX0_shareOf 18 = .ok (.iload_n 3, 1) := dk_29 (dk_at dksX0_shareOf_0 18 rfl rfl)
theorem dX0_shareOf_19 : decode cX0_shareOf 19 = .ok (.invokevirtual 219, 3) := dk_182 0 219 (dk_at dksX0_shareOf_0 19 rfl rfl)
theorem dX0_shareOf_22 : decode cX0_shareOf 22 = .ok (.if_icmp .ne 12, 3) := dk_160 0 12 (dk_at dksX0_shareOf_1 0 rfl rfl)
theorem dX0_shareOf_25 : decode cX0_shareOf 25 = .ok (.aload_n 0, 1) := dk_42 (dk_at dksX0_shareOf_1 3 rfl rfl)
theorem dX0_shareOf_26 : decode cX0_shareOf 26 = .ok (.aload_n 1, 1) := dk_43 (dk_at dksX0_shareOf_1 4 rfl rfl)
theorem dX0_shareOf_27 : decode cX0_shareOf 27 = .ok (.iload_n 3, 1) := dk_29 (dk_at dksX0_shareOf_1 5 rfl rfl)
theorem dX0_shareOf_28 : decode cX0_shareOf 28 = .ok (.invokevirtual 222, 3) := dk_182 0 222 (dk_at dksX0_shareOf_1 6 rfl rfl)
theorem dX0_shareOf_31 : decode cX0_shareOf 31 = .ok (.goto 4, 3) := dk_167 0 4 (dk_at dksX0_shareOf_1 9 rfl rfl)
theorem dX0_shareOf_34 : decode cX0_shareOf 34 = .ok (.iconst 0, 1) := dk_3 (dk_at dksX0_shareOf_1 12 rfl rfl)
theorem dX0_shareOf_35 : decode cX0_shareOf 35 = .ok (.iadd, 1) := dk_96 (dk_at dksX0_shareOf_1 13 rfl rfl)
theorem dX0_shareOf_36 : decode cX0_shareOf 36 = .ok (.goto 4, 3) := dk_167 0 4 (dk_at dksX0_shareOf_1 14 rfl rfl)
theorem dX0_shareOf_39 : decode cX0_shareOf 39 = .ok (.iconst 0, 1) := dk_3 (dk_at dksX0_shareOf_1 17 rfl rfl)
theorem dX0_shareOf_40 : decode cX0_shareOf 40 = .ok (.ireturn, 1) := dk_172 (dk_at dksX0_shareOf_1 18 rfl rfl)
abbrev cX0_partOf : ByteArray := prog_1_method_14_code
def yX0_partOf : MethodName := ⟨RX0, "partOf", "(LFuneralDebts$Time;II)I"⟩
def dkwX0_partOf_1 : List UInt8 := [182, 0, 206, 104, 21, 4, 108, 172]
abbrev dktX0_partOf_1 : List UInt8 := dkwX0_partOf_1 ++ []
def dkwX0_partOf_0 : List UInt8 := [42, 43, 29, 182, 0, 210, 54, 4, 21, 4, 154, 0, 7, 3, 167, 0, 17, 43, 180, 0, 213, 42, 43, 28]
abbrev dktX0_partOf_0 : List UInt8 := dkwX0_partOf_0 ++ dktX0_partOf_1
theorem dksX0_partOf_0 : cX0_partOf.data.toList.drop 0 = dktX0_partOf_0 := by decide +kernel
theorem dksX0_partOf_1 : cX0_partOf.data.toList.drop 24 = dktX0_partOf_1 := dk_seg dksX0_partOf_0 24 rfl rfl
theorem dX0_partOf_0 : decode cX0_partOf 0 = .ok (.aload_n 0, 1) := dk_42 (dk_at dksX0_partOf_0 0 rfl rfl)
theorem dX0_partOf_1 : decode cX0_partOf 1 = .ok (.aload_n 1, 1) := dk_43 (dk_at dksX0_partOf_0 1 rfl rfl)
theorem dX0_partOf_2 : decode cX0_partOf 2 = .ok (.iload_n 3, 1) := dk_29 (dk_at dksX0_partOf_0 2 rfl rfl)
theorem dX0_partOf_3 : decode cX0_partOf 3 = .ok (.invokevirtual 210, 3) := dk_182 0 210 (dk_at dksX0_partOf_0 3 rfl rfl)
theorem dX0_partOf_6 : decode cX0_partOf 6 = .ok (.istore 4, 2) := dk_54 4 (dk_at dksX0_partOf_0 6 rfl rfl)
theorem dX0_partOf_8 : decode cX0_partOf 8 = .ok (.iload 4, 2) := dk_21 4 (dk_at dksX0_partOf_0 8 rfl rfl)
theorem dX0_partOf_10 : decode cX0_partOf 10 = .ok (.ifCond .ne 7, 3) := dk_154 0 7 (dk_at dksX0_partOf_0 10 rfl rfl)
theorem dX0_partOf_13 : decode cX0_partOf 13 = .ok (.iconst 0, 1) := dk_3 (dk_at dksX0_partOf_0 13 rfl rfl)
theorem dX0_partOf_14 : decode cX0_partOf 14 = .ok (.goto 17, 3) := dk_167 0 17 (dk_at dksX0_partOf_0 14 rfl rfl)
theorem dX0_partOf_17 : decode cX0_partOf 17 = .ok (.aload_n 1, 1) := dk_43 (dk_at dksX0_partOf_0 17 rfl rfl)
theorem dX0_partOf_18 : decode cX0_partOf 18 = .ok (.getfield 213, 3) := dk_180 0 213 (dk_at dksX0_partOf_0 18 rfl rfl)
theorem dX0_partOf_21 : decode cX0_partOf 21 = .ok (.aload_n 0, 1) := dk_42 (dk_at dksX0_partOf_0 21 rfl rfl)
theorem dX0_partOf_22 : decode cX0_partOf 22 = .ok (.aload_n 1, 1) := dk_43 (dk_at dksX0_partOf_0 22 rfl rfl)
theorem dX0_partOf_23 : decode cX0_partOf 23 = .ok (.iload_n 2, 1) := dk_28 (dk_at dksX0_partOf_0 23 rfl rfl)
theorem dX0_partOf_24 : decode cX0_partOf 24 = .ok (.invokevirtual 206, 3) := dk_182 0 206 (dk_at dksX0_partOf_1 0 rfl rfl)
theorem dX0_partOf_27 : decode cX0_partOf 27 = .ok (.imul, 1) := dk_104 (dk_at dksX0_partOf_1 3 rfl rfl)
theorem dX0_partOf_28 : decode cX0_partOf 28 = .ok (.iload 4, 2) := dk_21 4 (dk_at dksX0_partOf_1 4 rfl rfl)
theorem dX0_partOf_30 : decode cX0_partOf 30 = .ok (.idiv, 1) := dk_108 (dk_at dksX0_partOf_1 6 rfl rfl)
theorem dX0_partOf_31 : decode cX0_partOf 31 = .ok (.ireturn, 1) := dk_172 (dk_at dksX0_partOf_1 7 rfl rfl)
abbrev cX0_allRates : ByteArray := prog_1_method_13_code
def yX0_allRates : MethodName := ⟨RX0, "allRates", "(LFuneralDebts$Time;I)I"⟩
def dkwX0_allRates_1 : List UInt8 := [42, 43, 21, 4, 182, 0, 206, 96, 62, 132, 4, 1, 167, 255, 225, 29, 172]
abbrev dktX0_allRates_1 : List UInt8 := dkwX0_allRates_1 ++ []
def dkwX0_allRates_0 : List UInt8 := [3, 62, 3, 54, 4, 21, 4, 43, 180, 0, 115, 162, 0, 28, 28, 21, 4, 184, 0, 202, 153, 0, 13, 29]
abbrev dktX0_allRates_0 : List UInt8 := dkwX0_allRates_0 ++ dktX0_allRates_1
theorem dksX0_allRates_0 : cX0_allRates.data.toList.drop 0 = dktX0_allRates_0 := by decide +kernel
theorem dksX0_allRates_1 : cX0_allRates.data.toList.drop 24 = dktX0_allRates_1 := dk_seg dksX0_allRates_0 24 rfl rfl
theorem dX0_allRates_0 : decode cX0_allRates 0 = .ok (.iconst 0, 1) := dk_3 (dk_at dksX0_allRates_0 0 rfl rfl)
theorem dX0_allRates_1 : decode cX0_allRates 1 = .ok (.istore_n 3, 1) := dk_62 (dk_at dksX0_allRates_0 1 rfl rfl)
theorem dX0_allRates_2 : decode cX0_allRates 2 = .ok (.iconst 0, 1) := dk_3 (dk_at dksX0_allRates_0 2 rfl rfl)
theorem dX0_allRates_3 : decode cX0_allRates 3 = .ok (.istore 4, 2) := dk_54 4 (dk_at dksX0_allRates_0 3 rfl rfl)
theorem dX0_allRates_5 : decode cX0_allRates 5 = .ok (.iload 4, 2) := dk_21 4 (dk_at dksX0_allRates_0 5 rfl rfl)
theorem dX0_allRates_7 : decode cX0_allRates 7 = .ok (.aload_n 1, 1) := dk_43 (dk_at dksX0_allRates_0 7 rfl rfl)
theorem dX0_allRates_8 : decode cX0_allRates 8 = .ok (.getfield 115, 3) := dk_180 0 115 (dk_at dksX0_allRates_0 8 rfl rfl)
theorem dX0_allRates_11 : decode cX0_allRates 11 = .ok (.if_icmp .ge 28, 3) := dk_162 0 28 (dk_at dksX0_allRates_0 11 rfl rfl)
theorem dX0_allRates_14 : decode cX0_allRates 14 = .ok (.iload_n 2, 1) := dk_28 (dk_at dksX0_allRates_0 14 rfl rfl)
theorem dX0_allRates_15 : decode cX0_allRates 15 = .ok (.iload 4, 2) := dk_21 4 (dk_at dksX0_allRates_0 15 rfl rfl)
theorem dX0_allRates_17 : decode cX0_allRates 17 = .ok (.invokestatic 202, 3) := dk_184 0 202 (dk_at dksX0_allRates_0 17 rfl rfl)
theorem dX0_allRates_20 : decode cX0_allRates 20 = .ok (.ifCond .eq 13, 3) := dk_153 0 13 (dk_at dksX0_allRates_0 20 rfl rfl)
theorem dX0_allRates_23 : decode cX0_allRates 23 = .ok (.iload_n 3, 1) := dk_29 (dk_at dksX0_allRates_0 23 rfl rfl)
theorem dX0_allRates_24 : decode cX0_allRates 24 = .ok (.aload_n 0, 1) := dk_42 (dk_at dksX0_allRates_1 0 rfl rfl)
theorem dX0_allRates_25 : decode cX0_allRates 25 = .ok (.aload_n 1, 1) := dk_43 (dk_at dksX0_allRates_1 1 rfl rfl)
theorem dX0_allRates_26 : decode cX0_allRates 26 = .ok (.iload 4, 2) := dk_21 4 (dk_at dksX0_allRates_1 2 rfl rfl)
theorem dX0_allRates_28 : decode cX0_allRates 28 = .ok (.invokevirtual 206, 3) := dk_182 0 206 (dk_at dksX0_allRates_1 4 rfl rfl)
theorem dX0_allRates_31 : decode cX0_allRates 31 = .ok (.iadd, 1) := dk_96 (dk_at dksX0_allRates_1 7 rfl rfl)
theorem dX0_allRates_32 : decode cX0_allRates 32 = .ok (.istore_n 3, 1) := dk_62 (dk_at dksX0_allRates_1 8 rfl rfl)
theorem dX0_allRates_33 : decode cX0_allRates 33 = .ok (.iinc 4 1, 3) := dk_132 4 1 (dk_at dksX0_allRates_1 9 rfl rfl)
theorem dX0_allRates_36 : decode cX0_allRates 36 = .ok (.goto (-31), 3) := dk_167 255 225 (dk_at dksX0_allRates_1 12 rfl rfl)
theorem dX0_allRates_39 : decode cX0_allRates 39 = .ok (.iload_n 3, 1) := dk_29 (dk_at dksX0_allRates_1 15 rfl rfl)
theorem dX0_allRates_40 : decode cX0_allRates 40 = .ok (.ireturn, 1) := dk_172 (dk_at dksX0_allRates_1 16 rfl rfl)
abbrev cX0_rateHere : ByteArray := prog_1_method_12_code
def yX0_rateHere : MethodName := ⟨RX0, "rateHere", "(LFuneralDebts$Time;I)I"⟩
def dkwX0_rateHere_0 : List UInt8 := [42, 180, 0, 84, 16, 10, 28, 104, 43, 180, 0, 153, 28, 51, 96, 46, 172]
abbrev dktX0_rateHere_0 : List UInt8 := dkwX0_rateHere_0 ++ []
theorem dksX0_rateHere_0 : cX0_rateHere.data.toList.drop 0 = dktX0_rateHere_0 := by decide +kernel
theorem dX0_rateHere_0 : decode cX0_rateHere 0 = .ok (.aload_n 0, 1) := dk_42 (dk_at dksX0_rateHere_0 0 rfl rfl)
theorem dX0_rateHere_1 : decode cX0_rateHere 1 = .ok (.getfield 84, 3) := dk_180 0 84 (dk_at dksX0_rateHere_0 1 rfl rfl)
theorem dX0_rateHere_4 : decode cX0_rateHere 4 = .ok (.bipush 10, 2) := dk_16 10 (dk_at dksX0_rateHere_0 4 rfl rfl)
theorem dX0_rateHere_6 : decode cX0_rateHere 6 = .ok (.iload_n 2, 1) := dk_28 (dk_at dksX0_rateHere_0 6 rfl rfl)
theorem dX0_rateHere_7 : decode cX0_rateHere 7 = .ok (.imul, 1) := dk_104 (dk_at dksX0_rateHere_0 7 rfl rfl)
theorem dX0_rateHere_8 : decode cX0_rateHere 8 = .ok (.aload_n 1, 1) := dk_43 (dk_at dksX0_rateHere_0 8 rfl rfl)
theorem dX0_rateHere_9 : decode cX0_rateHere 9 = .ok (.getfield 153, 3) := dk_180 0 153 (dk_at dksX0_rateHere_0 9 rfl rfl)
theorem dX0_rateHere_12 : decode cX0_rateHere 12 = .ok (.iload_n 2, 1) := dk_28 (dk_at dksX0_rateHere_0 12 rfl rfl)
theorem dX0_rateHere_13 : decode cX0_rateHere 13 = .ok (.baload, 1) := dk_51 (dk_at dksX0_rateHere_0 13 rfl rfl)
theorem dX0_rateHere_14 : decode cX0_rateHere 14 = .ok (.iadd, 1) := dk_96 (dk_at dksX0_rateHere_0 14 rfl rfl)
theorem dX0_rateHere_15 : decode cX0_rateHere 15 = .ok (.iaload, 1) := dk_46 (dk_at dksX0_rateHere_0 15 rfl rfl)
theorem dX0_rateHere_16 : decode cX0_rateHere 16 = .ok (.ireturn, 1) := dk_172 (dk_at dksX0_rateHere_0 16 rfl rfl)
abbrev cX0_greatest : ByteArray := prog_1_method_15_code
def yX0_greatest : MethodName := ⟨RX0, "greatest", "(LFuneralDebts$Time;I)I"⟩
def dkwX0_greatest_2 : List UInt8 := [62, 132, 4, 1, 167, 255, 210, 29, 172]
abbrev dktX0_greatest_2 : List UInt8 := dkwX0_greatest_2 ++ []
def dkwX0_greatest_1 : List UInt8 := [29, 16, 251, 159, 0, 19, 42, 43, 21, 4, 182, 0, 206, 42, 43, 29, 182, 0, 206, 164, 0, 6, 21, 4]
abbrev dktX0_greatest_1 : List UInt8 := dkwX0_greatest_1 ++ dktX0_greatest_2
def dkwX0_greatest_0 : List UInt8 := [16, 251, 62, 3, 54, 4, 21, 4, 43, 180, 0, 115, 162, 0, 43, 28, 21, 4, 184, 0, 202, 153, 0, 28]
abbrev dktX0_greatest_0 : List UInt8 := dkwX0_greatest_0 ++ dktX0_greatest_1
theorem dksX0_greatest_0 : cX0_greatest.data.toList.drop 0 = dktX0_greatest_0 := by decide +kernel
theorem dksX0_greatest_1 : cX0_greatest.data.toList.drop 24 = dktX0_greatest_1 := dk_seg dksX0_greatest_0 24 rfl rfl
theorem dksX0_greatest_2 : cX0_greatest.data.toList.drop 48 = dktX0_greatest_2 := dk_seg dksX0_greatest_1 24 rfl rfl
theorem dX0_greatest_0 : decode cX0_greatest 0 = .ok (.bipush (-5), 2) := dk_16 251 (dk_at dksX0_greatest_0 0 rfl rfl)
theorem dX0_greatest_2 : decode cX0_greatest 2 = .ok (.istore_n 3, 1) := dk_62 (dk_at dksX0_greatest_0 2 rfl rfl)
theorem dX0_greatest_3 : decode cX0_greatest 3 = .ok (.iconst 0, 1) := dk_3 (dk_at dksX0_greatest_0 3 rfl rfl)
theorem dX0_greatest_4 : decode cX0_greatest 4 = .ok (.istore 4, 2) := dk_54 4 (dk_at dksX0_greatest_0 4 rfl rfl)
theorem dX0_greatest_6 : decode cX0_greatest 6 = .ok (.iload 4, 2) := dk_21 4 (dk_at dksX0_greatest_0 6 rfl rfl)
theorem dX0_greatest_8 : decode cX0_greatest 8 = .ok (.aload_n 1, 1) := dk_43 (dk_at dksX0_greatest_0 8 rfl rfl)
theorem dX0_greatest_9 : decode cX0_greatest 9 = .ok (.getfield 115, 3) := dk_180 0 115 (dk_at dksX0_greatest_0 9 rfl rfl)
theorem dX0_greatest_12 : decode cX0_greatest 12 = .ok (.if_icmp .ge 43, 3) := dk_162 0 43 (dk_at dksX0_greatest_0 12 rfl rfl)
theorem dX0_greatest_15 : decode cX0_greatest 15 = .ok (.iload_n 2, 1) := dk_28 (dk_at dksX0_greatest_0 15 rfl rfl)
theorem dX0_greatest_16 : decode cX0_greatest 16 = .ok (.iload 4, 2) := dk_21 4 (dk_at dksX0_greatest_0 16 rfl rfl)
theorem dX0_greatest_18 : decode cX0_greatest 18 = .ok (.invokestatic 202, 3) := dk_184 0 202 (dk_at dksX0_greatest_0 18 rfl rfl)
theorem dX0_greatest_21 : decode cX0_greatest 21 = .ok (.ifCond .eq 28, 3) := dk_153 0 28 (dk_at dksX0_greatest_0 21 rfl rfl)
theorem dX0_greatest_24 : decode cX0_greatest 24 = .ok (.iload_n 3, 1) := dk_29 (dk_at dksX0_greatest_1 0 rfl rfl)
theorem dX0_greatest_25 : decode cX0_greatest 25 = .ok (.bipush (-5), 2) := dk_16 251 (dk_at dksX0_greatest_1 1 rfl rfl)
theorem dX0_greatest_27 : decode cX0_greatest 27 = .ok (.if_icmp .eq 19, 3) := dk_159 0 19 (dk_at dksX0_greatest_1 3 rfl rfl)
theorem dX0_greatest_30 : decode cX0_greatest 30 = .ok (.aload_n 0, 1) := dk_42 (dk_at dksX0_greatest_1 6 rfl rfl)
theorem dX0_greatest_31 : decode cX0_greatest 31 = .ok (.aload_n 1, 1) := dk_43 (dk_at dksX0_greatest_1 7 rfl rfl)
theorem dX0_greatest_32 : decode cX0_greatest 32 = .ok (.iload 4, 2) := dk_21 4 (dk_at dksX0_greatest_1 8 rfl rfl)
theorem dX0_greatest_34 : decode cX0_greatest 34 = .ok (.invokevirtual 206, 3) := dk_182 0 206 (dk_at dksX0_greatest_1 10 rfl rfl)
theorem dX0_greatest_37 : decode cX0_greatest 37 = .ok (.aload_n 0, 1) := dk_42 (dk_at dksX0_greatest_1 13 rfl rfl)
theorem dX0_greatest_38 : decode cX0_greatest 38 = .ok (.aload_n 1, 1) := dk_43 (dk_at dksX0_greatest_1 14 rfl rfl)
theorem dX0_greatest_39 : decode cX0_greatest 39 = .ok (.iload_n 3, 1) := dk_29 (dk_at dksX0_greatest_1 15 rfl rfl)
theorem dX0_greatest_40 : decode cX0_greatest 40 = .ok (.invokevirtual 206, 3) := dk_182 0 206 (dk_at dksX0_greatest_1 16 rfl rfl)
theorem dX0_greatest_43 : decode cX0_greatest 43 = .ok (.if_icmp .le 6, 3) := dk_164 0 6 (dk_at dksX0_greatest_1 19 rfl rfl)
theorem dX0_greatest_46 : decode cX0_greatest 46 = .ok (.iload 4, 2) := dk_21 4 (dk_at dksX0_greatest_1 22 rfl rfl)
theorem dX0_greatest_48 : decode cX0_greatest 48 = .ok (.istore_n 3, 1) := dk_62 (dk_at dksX0_greatest_2 0 rfl rfl)
theorem dX0_greatest_49 : decode cX0_greatest 49 = .ok (.iinc 4 1, 3) := dk_132 4 1 (dk_at dksX0_greatest_2 1 rfl rfl)
theorem dX0_greatest_52 : decode cX0_greatest 52 = .ok (.goto (-46), 3) := dk_167 255 210 (dk_at dksX0_greatest_2 4 rfl rfl)
theorem dX0_greatest_55 : decode cX0_greatest 55 = .ok (.iload_n 3, 1) := dk_29 (dk_at dksX0_greatest_2 7 rfl rfl)
theorem dX0_greatest_56 : decode cX0_greatest 56 = .ok (.ireturn, 1) := dk_172 (dk_at dksX0_greatest_2 8 rfl rfl)
abbrev cX0_leftOver : ByteArray := prog_1_method_16_code
def yX0_leftOver : MethodName := ⟨RX0, "leftOver", "(LFuneralDebts$Time;I)I"⟩
def dkwX0_leftOver_2 : List UInt8 := [21, 4, 28, 182, 0, 216, 100, 62, 132, 4, 1, 167, 255, 224, 29, 172]
abbrev dktX0_leftOver_2 : List UInt8 := dkwX0_leftOver_2 ++ []
def dkwX0_leftOver_1 : List UInt8 := [54, 4, 21, 4, 43, 180, 0, 115, 162, 0, 29, 28, 21, 4, 184, 0, 202, 153, 0, 14, 29, 42, 43]
abbrev dktX0_leftOver_1 : List UInt8 := dkwX0_leftOver_1 ++ dktX0_leftOver_2
def dkwX0_leftOver_0 : List UInt8 := [42, 43, 28, 182, 0, 210, 154, 0, 7, 3, 167, 0, 7, 43, 180, 0, 213, 62, 29, 158, 0, 41, 3]
abbrev dktX0_leftOver_0 : List UInt8 := dkwX0_leftOver_0 ++ dktX0_leftOver_1
theorem dksX0_leftOver_0 : cX0_leftOver.data.toList.drop 0 = dktX0_leftOver_0 := by decide +kernel
theorem dksX0_leftOver_1 : cX0_leftOver.data.toList.drop 23 = dktX0_leftOver_1 := dk_seg dksX0_leftOver_0 23 rfl rfl
theorem dksX0_leftOver_2 : cX0_leftOver.data.toList.drop 46 = dktX0_leftOver_2 := dk_seg dksX0_leftOver_1 23 rfl rfl
theorem dX0_leftOver_0 : decode cX0_leftOver 0 = .ok (.aload_n 0, 1) := dk_42 (dk_at dksX0_leftOver_0 0 rfl rfl)
theorem dX0_leftOver_1 : decode cX0_leftOver 1 = .ok (.aload_n 1, 1) := dk_43 (dk_at dksX0_leftOver_0 1 rfl rfl)
theorem dX0_leftOver_2 : decode cX0_leftOver 2 = .ok (.iload_n 2, 1) := dk_28 (dk_at dksX0_leftOver_0 2 rfl rfl)
theorem dX0_leftOver_3 : decode cX0_leftOver 3 = .ok (.invokevirtual 210, 3) := dk_182 0 210 (dk_at dksX0_leftOver_0 3 rfl rfl)
theorem dX0_leftOver_6 : decode cX0_leftOver 6 = .ok (.ifCond .ne 7, 3) := dk_154 0 7 (dk_at dksX0_leftOver_0 6 rfl rfl)
theorem dX0_leftOver_9 : decode cX0_leftOver 9 = .ok (.iconst 0, 1) := dk_3 (dk_at dksX0_leftOver_0 9 rfl rfl)
theorem dX0_leftOver_10 : decode cX0_leftOver 10 = .ok (.goto 7, 3) := dk_167 0 7 (dk_at dksX0_leftOver_0 10 rfl rfl)
theorem dX0_leftOver_13 : decode cX0_leftOver 13 = .ok (.aload_n 1, 1) := dk_43 (dk_at dksX0_leftOver_0 13 rfl rfl)
theorem dX0_leftOver_14 : decode cX0_leftOver 14 = .ok (.getfield 213, 3) := dk_180 0 213 (dk_at dksX0_leftOver_0 14 rfl rfl)
theorem dX0_leftOver_17 : decode cX0_leftOver 17 = .ok (.istore_n 3, 1) := dk_62 (dk_at dksX0_leftOver_0 17 rfl rfl)
theorem dX0_leftOver_18 : decode cX0_leftOver 18 = .ok (.iload_n 3, 1) := dk_29 (dk_at dksX0_leftOver_0 18 rfl rfl)
theorem dX0_leftOver_19 : decode cX0_leftOver 19 = .ok (.ifCond .le 41, 3) := dk_158 0 41 (dk_at dksX0_leftOver_0 19 rfl rfl)
theorem dX0_leftOver_22 : decode cX0_leftOver 22 = .ok (.iconst 0, 1) := dk_3 (dk_at dksX0_leftOver_0 22 rfl rfl)
theorem dX0_leftOver_23 : decode cX0_leftOver 23 = .ok (.istore 4, 2) := dk_54 4 (dk_at dksX0_leftOver_1 0 rfl rfl)
theorem dX0_leftOver_25 : decode cX0_leftOver 25 = .ok (.iload 4, 2) := dk_21 4 (dk_at dksX0_leftOver_1 2 rfl rfl)
theorem dX0_leftOver_27 : decode cX0_leftOver 27 = .ok (.aload_n 1, 1) := dk_43 (dk_at dksX0_leftOver_1 4 rfl rfl)
theorem dX0_leftOver_28 : decode cX0_leftOver 28 = .ok (.getfield 115, 3) := dk_180 0 115 (dk_at dksX0_leftOver_1 5 rfl rfl)
theorem dX0_leftOver_31 : decode cX0_leftOver 31 = .ok (.if_icmp .ge 29, 3) := dk_162 0 29 (dk_at dksX0_leftOver_1 8 rfl rfl)
theorem dX0_leftOver_34 : decode cX0_leftOver 34 = .ok (.iload_n 2, 1) := dk_28 (dk_at dksX0_leftOver_1 11 rfl rfl)
theorem dX0_leftOver_35 : decode cX0_leftOver 35 = .ok (.iload 4, 2) := dk_21 4 (dk_at dksX0_leftOver_1 12 rfl rfl)
theorem dX0_leftOver_37 : decode cX0_leftOver 37 = .ok (.invokestatic 202, 3) := dk_184 0 202 (dk_at dksX0_leftOver_1 14 rfl rfl)
theorem dX0_leftOver_40 : decode cX0_leftOver 40 = .ok (.ifCond .eq 14, 3) := dk_153 0 14 (dk_at dksX0_leftOver_1 17 rfl rfl)
theorem dX0_leftOver_43 : decode cX0_leftOver 43 = .ok (.iload_n 3, 1) := dk_29 (dk_at dksX0_leftOver_1 20 rfl rfl)
theorem dX0_leftOver_44 : decode cX0_leftOver 44 = .ok (.aload_n 0, 1) := dk_42 (dk_at dksX0_leftOver_1 21 rfl rfl)
theorem dX0_leftOver_45 : decode cX0_leftOver 45 = .ok (.aload_n 1, 1) := dk_43 (dk_at dksX0_leftOver_1 22 rfl rfl)
theorem dX0_leftOver_46 : decode cX0_leftOver 46 = .ok (.iload 4, 2) := dk_21 4 (dk_at dksX0_leftOver_2 0 rfl rfl)
theorem dX0_leftOver_48 : decode cX0_leftOver 48 = .ok (.iload_n 2, 1) := dk_28 (dk_at dksX0_leftOver_2 2 rfl rfl)
theorem dX0_leftOver_49 : decode cX0_leftOver 49 = .ok (.invokevirtual 216, 3) := dk_182 0 216 (dk_at dksX0_leftOver_2 3 rfl rfl)
theorem dX0_leftOver_52 : decode cX0_leftOver 52 = .ok (.isub, 1) := dk_100 (dk_at dksX0_leftOver_2 6 rfl rfl)
theorem dX0_leftOver_53 : decode cX0_leftOver 53 = .ok (.istore_n 3, 1) := dk_62 (dk_at dksX0_leftOver_2 7 rfl rfl)
theorem dX0_leftOver_54 : decode cX0_leftOver 54 = .ok (.iinc 4 1, 3) := dk_132 4 1 (dk_at dksX0_leftOver_2 8 rfl rfl)
theorem dX0_leftOver_57 : decode cX0_leftOver 57 = .ok (.goto (-32), 3) := dk_167 255 224 (dk_at dksX0_leftOver_2 11 rfl rfl)
theorem dX0_leftOver_60 : decode cX0_leftOver 60 = .ok (.iload_n 3, 1) := dk_29 (dk_at dksX0_leftOver_2 14 rfl rfl)
theorem dX0_leftOver_61 : decode cX0_leftOver 61 = .ok (.ireturn, 1) := dk_172 (dk_at dksX0_leftOver_2 15 rfl rfl)
abbrev cX0_on : ByteArray := prog_1_method_24_code
def yX0_on : MethodName := ⟨RX0, "on", "(II)I"⟩
def dkwX0_on_3 : List UInt8 := [100, 46, 172]
abbrev dktX0_on_3 : List UInt8 := dkwX0_on_3 ++ []
def dkwX0_on_2 : List UInt8 := [180, 0, 32, 180, 0, 153, 28, 16, 10, 100, 51, 167, 0, 15, 42, 180, 0, 32, 180, 0, 156, 28, 16, 20]
abbrev dktX0_on_2 : List UInt8 := dkwX0_on_2 ++ dktX0_on_3
def dkwX0_on_1 : List UInt8 := [27, 184, 0, 248, 154, 0, 6, 16, 254, 172, 42, 27, 182, 1, 8, 28, 16, 20, 162, 0, 18, 42]
abbrev dktX0_on_1 : List UInt8 := dkwX0_on_1 ++ dktX0_on_2
def dkwX0_on_0 : List UInt8 := [42, 28, 16, 10, 100, 182, 1, 5, 154, 0, 16, 42, 28, 16, 20, 100, 182, 1, 5, 154, 0, 5, 2, 172]
abbrev dktX0_on_0 : List UInt8 := dkwX0_on_0 ++ dktX0_on_1
theorem dksX0_on_0 : cX0_on.data.toList.drop 0 = dktX0_on_0 := by decide +kernel
theorem dksX0_on_1 : cX0_on.data.toList.drop 24 = dktX0_on_1 := dk_seg dksX0_on_0 24 rfl rfl
theorem dksX0_on_2 : cX0_on.data.toList.drop 46 = dktX0_on_2 := dk_seg dksX0_on_1 22 rfl rfl
theorem dksX0_on_3 : cX0_on.data.toList.drop 70 = dktX0_on_3 := dk_seg dksX0_on_2 24 rfl rfl
theorem dX0_on_0 : decode cX0_on 0 = .ok (.aload_n 0, 1) := dk_42 (dk_at dksX0_on_0 0 rfl rfl)
theorem dX0_on_1 : decode cX0_on 1 = .ok (.iload_n 2, 1) := dk_28 (dk_at dksX0_on_0 1 rfl rfl)
theorem dX0_on_2 : decode cX0_on 2 = .ok (.bipush 10, 2) := dk_16 10 (dk_at dksX0_on_0 2 rfl rfl)
theorem dX0_on_4 : decode cX0_on 4 = .ok (.isub, 1) := dk_100 (dk_at dksX0_on_0 4 rfl rfl)
theorem dX0_on_5 : decode cX0_on 5 = .ok (.invokevirtual 261, 3) := dk_182 1 5 (dk_at dksX0_on_0 5 rfl rfl)
theorem dX0_on_8 : decode cX0_on 8 = .ok (.ifCond .ne 16, 3) := dk_154 0 16 (dk_at dksX0_on_0 8 rfl rfl)
theorem dX0_on_11 : decode cX0_on 11 = .ok (.aload_n 0, 1) := dk_42 (dk_at dksX0_on_0 11 rfl rfl)
theorem dX0_on_12 : decode cX0_on 12 = .ok (.iload_n 2, 1) := dk_28 (dk_at dksX0_on_0 12 rfl rfl)
theorem dX0_on_13 : decode cX0_on 13 = .ok (.bipush 20, 2) := dk_16 20 (dk_at dksX0_on_0 13 rfl rfl)
theorem dX0_on_15 : decode cX0_on 15 = .ok (.isub, 1) := dk_100 (dk_at dksX0_on_0 15 rfl rfl)
theorem dX0_on_16 : decode cX0_on 16 = .ok (.invokevirtual 261, 3) := dk_182 1 5 (dk_at dksX0_on_0 16 rfl rfl)
theorem dX0_on_19 : decode cX0_on 19 = .ok (.ifCond .ne 5, 3) := dk_154 0 5 (dk_at dksX0_on_0 19 rfl rfl)
theorem dX0_on_22 : decode cX0_on 22 = .ok (.iconst (-1), 1) := dk_2 (dk_at dksX0_on_0 22 rfl rfl)
theorem dX0_on_23 : decode cX0_on 23 = .ok (.ireturn, 1) := dk_172 (dk_at dksX0_on_0 23 rfl rfl)
theorem dX0_on_24 : decode cX0_on 24 = .ok (.iload_n 1, 1) := dk_27 (dk_at dksX0_on_1 0 rfl rfl)
theorem dX0_on_25 : decode cX0_on 25 = .ok (.invokestatic 248, 3) := dk_184 0 248 (dk_at dksX0_on_1 1 rfl rfl)
theorem dX0_on_28 : decode cX0_on 28 = .ok (.ifCond .ne 6, 3) := dk_154 0 6 (dk_at dksX0_on_1 4 rfl rfl)
theorem dX0_on_31 : decode cX0_on 31 = .ok (.bipush (-2), 2) := dk_16 254 (dk_at dksX0_on_1 7 rfl rfl)
theorem dX0_on_33 : decode cX0_on 33 = .ok (.ireturn, 1) := dk_172 (dk_at dksX0_on_1 9 rfl rfl)
theorem dX0_on_34 : decode cX0_on 34 = .ok (.aload_n 0, 1) := dk_42 (dk_at dksX0_on_1 10 rfl rfl)
theorem dX0_on_35 : decode cX0_on 35 = .ok (.iload_n 1, 1) := dk_27 (dk_at dksX0_on_1 11 rfl rfl)
theorem dX0_on_36 : decode cX0_on 36 = .ok (.invokevirtual 264, 3) := dk_182 1 8 (dk_at dksX0_on_1 12 rfl rfl)
theorem dX0_on_39 : decode cX0_on 39 = .ok (.iload_n 2, 1) := dk_28 (dk_at dksX0_on_1 15 rfl rfl)
theorem dX0_on_40 : decode cX0_on 40 = .ok (.bipush 20, 2) := dk_16 20 (dk_at dksX0_on_1 16 rfl rfl)
theorem dX0_on_42 : decode cX0_on 42 = .ok (.if_icmp .ge 18, 3) := dk_162 0 18 (dk_at dksX0_on_1 18 rfl rfl)
theorem dX0_on_45 : decode cX0_on 45 = .ok (.aload_n 0, 1) := dk_42 (dk_at dksX0_on_1 21 rfl rfl)
theorem dX0_on_46 : decode cX0_on 46 = .ok (.getfield 32, 3) := dk_180 0 32 (dk_at dksX0_on_2 0 rfl rfl)
theorem dX0_on_49 : decode cX0_on 49 = .ok (.getfield 153, 3) := dk_180 0 153 (dk_at dksX0_on_2 3 rfl rfl)
theorem dX0_on_52 : decode cX0_on 52 = .ok (.iload_n 2, 1) := dk_28 (dk_at dksX0_on_2 6 rfl rfl)
theorem dX0_on_53 : decode cX0_on 53 = .ok (.bipush 10, 2) := dk_16 10 (dk_at dksX0_on_2 7 rfl rfl)
theorem dX0_on_55 : decode cX0_on 55 = .ok (.isub, 1) := dk_100 (dk_at dksX0_on_2 9 rfl rfl)
theorem dX0_on_56 : decode cX0_on 56 = .ok (.baload, 1) := dk_51 (dk_at dksX0_on_2 10 rfl rfl)
theorem dX0_on_57 : decode cX0_on 57 = .ok (.goto 15, 3) := dk_167 0 15 (dk_at dksX0_on_2 11 rfl rfl)
theorem dX0_on_60 : decode cX0_on 60 = .ok (.aload_n 0, 1) := dk_42 (dk_at dksX0_on_2 14 rfl rfl)
theorem dX0_on_61 : decode cX0_on 61 = .ok (.getfield 32, 3) := dk_180 0 32 (dk_at dksX0_on_2 15 rfl rfl)
theorem dX0_on_64 : decode cX0_on 64 = .ok (.getfield 156, 3) := dk_180 0 156 (dk_at dksX0_on_2 18 rfl rfl)
theorem dX0_on_67 : decode cX0_on 67 = .ok (.iload_n 2, 1) := dk_28 (dk_at dksX0_on_2 21 rfl rfl)
theorem dX0_on_68 : decode cX0_on 68 = .ok (.bipush 20, 2) := dk_16 20 (dk_at dksX0_on_2 22 rfl rfl)
theorem dX0_on_70 : decode cX0_on 70 = .ok (.isub, 1) := dk_100 (dk_at dksX0_on_3 0 rfl rfl)
theorem dX0_on_71 : decode cX0_on 71 = .ok (.iaload, 1) := dk_46 (dk_at dksX0_on_3 1 rfl rfl)
theorem dX0_on_72 : decode cX0_on 72 = .ok (.ireturn, 1) := dk_172 (dk_at dksX0_on_3 2 rfl rfl)
abbrev cX0_isMourner : ByteArray := prog_1_method_7_code
def yX0_isMourner : MethodName := ⟨RX0, "isMourner", "(I)Z"⟩
def dkwX0_isMourner_0 : List UInt8 := [27, 3, 42, 180, 0, 28, 180, 0, 115, 4, 100, 184, 0, 5, 172]
abbrev dktX0_isMourner_0 : List UInt8 := dkwX0_isMourner_0 ++ []
theorem dksX0_isMourner_0 : cX0_isMourner.data.toList.drop 0 = dktX0_isMourner_0 := by decide +kernel
theorem dX0_isMourner_0 : decode cX0_isMourner 0 = .ok (.iload_n 1, 1) := dk_27 (dk_at dksX0_isMourner_0 0 rfl rfl)
theorem dX0_isMourner_1 : decode cX0_isMourner 1 = .ok (.iconst 0, 1) := dk_3 (dk_at dksX0_isMourner_0 1 rfl rfl)
theorem dX0_isMourner_2 : decode cX0_isMourner 2 = .ok (.aload_n 0, 1) := dk_42 (dk_at dksX0_isMourner_0 2 rfl rfl)
theorem dX0_isMourner_3 : decode cX0_isMourner 3 = .ok (.getfield 28, 3) := dk_180 0 28 (dk_at dksX0_isMourner_0 3 rfl rfl)
theorem dX0_isMourner_6 : decode cX0_isMourner 6 = .ok (.getfield 115, 3) := dk_180 0 115 (dk_at dksX0_isMourner_0 6 rfl rfl)
theorem dX0_isMourner_9 : decode cX0_isMourner 9 = .ok (.iconst 1, 1) := dk_4 (dk_at dksX0_isMourner_0 9 rfl rfl)
theorem dX0_isMourner_10 : decode cX0_isMourner 10 = .ok (.isub, 1) := dk_100 (dk_at dksX0_isMourner_0 10 rfl rfl)
theorem dX0_isMourner_11 : decode cX0_isMourner 11 = .ok (.invokestatic 5, 3) := dk_184 0 5 (dk_at dksX0_isMourner_0 11 rfl rfl)
theorem dX0_isMourner_14 : decode cX0_isMourner 14 = .ok (.ireturn, 1) := dk_172 (dk_at dksX0_isMourner_0 14 rfl rfl)
abbrev cX0_tries : ByteArray := prog_1_method_23_code
def yX0_tries : MethodName := ⟨RX0, "tries", "(I)V"⟩
def dkwX0_tries_1 : List UInt8 := [182, 0, 251, 87, 132, 2, 1, 167, 255, 239, 177]
abbrev dktX0_tries_1 : List UInt8 := dkwX0_tries_1 ++ []
def dkwX0_tries_0 : List UInt8 := [42, 180, 0, 32, 42, 180, 0, 28, 182, 1, 2, 3, 61, 28, 27, 162, 0, 18, 42, 42, 180, 0, 32]
abbrev dktX0_tries_0 : List UInt8 := dkwX0_tries_0 ++ dktX0_tries_1
theorem dksX0_tries_0 : cX0_tries.data.toList.drop 0 = dktX0_tries_0 := by decide +kernel
theorem dksX0_tries_1 : cX0_tries.data.toList.drop 23 = dktX0_tries_1 := dk_seg dksX0_tries_0 23 rfl rfl
theorem dX0_tries_0 : decode cX0_tries 0 = .ok (.aload_n 0, 1) := dk_42 (dk_at dksX0_tries_0 0 rfl rfl)
theorem dX0_tries_1 : decode cX0_tries 1 = .ok (.getfield 32, 3) := dk_180 0 32 (dk_at dksX0_tries_0 1 rfl rfl)
theorem dX0_tries_4 : decode cX0_tries 4 = .ok (.aload_n 0, 1) := dk_42 (dk_at dksX0_tries_0 4 rfl rfl)
theorem dX0_tries_5 : decode cX0_tries 5 = .ok (.getfield 28, 3) := dk_180 0 28 (dk_at dksX0_tries_0 5 rfl rfl)
theorem dX0_tries_8 : decode cX0_tries 8 = .ok (.invokevirtual 258, 3) := dk_182 1 2 (dk_at dksX0_tries_0 8 rfl rfl)
theorem dX0_tries_11 : decode cX0_tries 11 = .ok (.iconst 0, 1) := dk_3 (dk_at dksX0_tries_0 11 rfl rfl)
theorem dX0_tries_12 : decode cX0_tries 12 = .ok (.istore_n 2, 1) := dk_61 (dk_at dksX0_tries_0 12 rfl rfl)
theorem dX0_tries_13 : decode cX0_tries 13 = .ok (.iload_n 2, 1) := dk_28 (dk_at dksX0_tries_0 13 rfl rfl)
theorem dX0_tries_14 : decode cX0_tries 14 = .ok (.iload_n 1, 1) := dk_27 (dk_at dksX0_tries_0 14 rfl rfl)
theorem dX0_tries_15 : decode cX0_tries 15 = .ok (.if_icmp .ge 18, 3) := dk_162 0 18 (dk_at dksX0_tries_0 15 rfl rfl)
theorem dX0_tries_18 : decode cX0_tries 18 = .ok (.aload_n 0, 1) := dk_42 (dk_at dksX0_tries_0 18 rfl rfl)
theorem dX0_tries_19 : decode cX0_tries 19 = .ok (.aload_n 0, 1) := dk_42 (dk_at dksX0_tries_0 19 rfl rfl)
theorem dX0_tries_20 : decode cX0_tries 20 = .ok (.getfield 32, 3) := dk_180 0 32 (dk_at dksX0_tries_0 20 rfl rfl)
theorem dX0_tries_23 : decode cX0_tries 23 = .ok (.invokevirtual 251, 3) := dk_182 0 251 (dk_at dksX0_tries_1 0 rfl rfl)
theorem dX0_tries_26 : decode cX0_tries 26 = .ok (.pop, 1) := dk_87 (dk_at dksX0_tries_1 3 rfl rfl)
theorem dX0_tries_27 : decode cX0_tries 27 = .ok (.iinc 2 1, 3) := dk_132 2 1 (dk_at dksX0_tries_1 4 rfl rfl)
theorem dX0_tries_30 : decode cX0_tries 30 = .ok (.goto (-17), 3) := dk_167 255 239 (dk_at dksX0_tries_1 7 rfl rfl)
theorem dX0_tries_33 : decode cX0_tries 33 = .ok (.return_, 1) := dk_177 (dk_at dksX0_tries_1 10 rfl rfl)
abbrev cX0_of : ByteArray := prog_1_method_28_code
def yX0_of : MethodName := ⟨RX0, "of", "(II)I"⟩
def dkwX0_of_6 : List UInt8 := [28, 182, 1, 12, 172]
abbrev dktX0_of_6 : List UInt8 := dkwX0_of_6 ++ []
def dkwX0_of_5 : List UInt8 := [27, 42, 180, 0, 28, 182, 0, 225, 182, 0, 228, 172, 42, 42, 180, 0, 28, 27, 182, 0, 241, 172, 42, 27]
abbrev dktX0_of_5 : List UInt8 := dkwX0_of_5 ++ dktX0_of_6
def dkwX0_of_4 : List UInt8 := [153, 0, 7, 4, 167, 0, 4, 3, 172, 42, 180, 0, 28, 180, 0, 156, 27, 46, 172, 42, 42, 180, 0, 28]
abbrev dktX0_of_4 : List UInt8 := dkwX0_of_4 ++ dktX0_of_5
def dkwX0_of_3 : List UInt8 := [180, 0, 150, 27, 51, 172, 42, 180, 0, 28, 180, 0, 153, 27, 51, 172, 42, 180, 0, 28, 27, 182, 0, 238]
abbrev dktX0_of_3 : List UInt8 := dkwX0_of_3 ++ dktX0_of_4
def dkwX0_of_2 : List UInt8 := [42, 180, 0, 17, 27, 50, 182, 0, 165, 172, 42, 180, 0, 17, 27, 50, 180, 0, 171, 172, 42, 180, 0, 28]
abbrev dktX0_of_2 : List UInt8 := dkwX0_of_2 ++ dktX0_of_3
def dkwX0_of_1 : List UInt8 := [170, 0, 0, 0, 0, 0, 141, 0, 0, 0, 0, 0, 0, 0, 7, 0, 0, 0, 47, 0, 0, 0, 57, 0, 0, 0, 67, 0, 0, 0, 77, 0, 0, 0, 87, 0, 0, 0, 104, 0, 0, 0, 114, 0, 0, 0, 131]
abbrev dktX0_of_1 : List UInt8 := dkwX0_of_1 ++ dktX0_of_2
def dkwX0_of_0 : List UInt8 := [42, 27, 182, 1, 5, 154, 0, 7, 17, 216, 239, 172, 42, 42, 180, 0, 28, 182, 0, 234, 28]
abbrev dktX0_of_0 : List UInt8 := dkwX0_of_0 ++ dktX0_of_1
theorem dksX0_of_0 : cX0_of.data.toList.drop 0 = dktX0_of_0 := by decide +kernel
theorem dksX0_of_1 : cX0_of.data.toList.drop 21 = dktX0_of_1 := dk_seg dksX0_of_0 21 rfl rfl
theorem dksX0_of_2 : cX0_of.data.toList.drop 68 = dktX0_of_2 := dk_seg dksX0_of_1 47 rfl rfl
theorem dksX0_of_3 : cX0_of.data.toList.drop 92 = dktX0_of_3 := dk_seg dksX0_of_2 24 rfl rfl
theorem dksX0_of_4 : cX0_of.data.toList.drop 116 = dktX0_of_4 := dk_seg dksX0_of_3 24 rfl rfl
theorem dksX0_of_5 : cX0_of.data.toList.drop 140 = dktX0_of_5 := dk_seg dksX0_of_4 24 rfl rfl
theorem dksX0_of_6 : cX0_of.data.toList.drop 164 = dktX0_of_6 := dk_seg dksX0_of_5 24 rfl rfl
theorem dX0_of_0 : decode cX0_of 0 = .ok (.aload_n 0, 1) := dk_42 (dk_at dksX0_of_0 0 rfl rfl)
theorem dX0_of_1 : decode cX0_of 1 = .ok (.iload_n 1, 1) := dk_27 (dk_at dksX0_of_0 1 rfl rfl)
theorem dX0_of_2 : decode cX0_of 2 = .ok (.invokevirtual 261, 3) := dk_182 1 5 (dk_at dksX0_of_0 2 rfl rfl)
theorem dX0_of_5 : decode cX0_of 5 = .ok (.ifCond .ne 7, 3) := dk_154 0 7 (dk_at dksX0_of_0 5 rfl rfl)
theorem dX0_of_8 : decode cX0_of 8 = .ok (.sipush (-10001), 3) := dk_17 216 239 (dk_at dksX0_of_0 8 rfl rfl)
theorem dX0_of_11 : decode cX0_of 11 = .ok (.ireturn, 1) := dk_172 (dk_at dksX0_of_0 11 rfl rfl)
theorem dX0_of_12 : decode cX0_of 12 = .ok (.aload_n 0, 1) := dk_42 (dk_at dksX0_of_0 12 rfl rfl)
theorem dX0_of_13 : decode cX0_of 13 = .ok (.aload_n 0, 1) := dk_42 (dk_at dksX0_of_0 13 rfl rfl)
theorem dX0_of_14 : decode cX0_of 14 = .ok (.getfield 28, 3) := dk_180 0 28 (dk_at dksX0_of_0 14 rfl rfl)
theorem dX0_of_17 : decode cX0_of 17 = .ok (.invokevirtual 234, 3) := dk_182 0 234 (dk_at dksX0_of_0 17 rfl rfl)
theorem dX0_of_20 : decode cX0_of 20 = .ok (.iload_n 2, 1) := dk_28 (dk_at dksX0_of_0 20 rfl rfl)
theorem dX0_of_21 : decode cX0_of 21 = .ok (.tableswitch 141 0 7 #[47, 57, 67, 77, 87, 104, 114, 131], 47) := by decide +kernel
theorem dX0_of_68 : decode cX0_of 68 = .ok (.aload_n 0, 1) := dk_42 (dk_at dksX0_of_2 0 rfl rfl)
theorem dX0_of_69 : decode cX0_of 69 = .ok (.getfield 17, 3) := dk_180 0 17 (dk_at dksX0_of_2 1 rfl rfl)
theorem dX0_of_72 : decode cX0_of 72 = .ok (.iload_n 1, 1) := dk_27 (dk_at dksX0_of_2 4 rfl rfl)
theorem dX0_of_73 : decode cX0_of 73 = .ok (.aaload, 1) := dk_50 (dk_at dksX0_of_2 5 rfl rfl)
theorem dX0_of_74 : decode cX0_of 74 = .ok (.invokevirtual 165, 3) := dk_182 0 165 (dk_at dksX0_of_2 6 rfl rfl)
theorem dX0_of_77 : decode cX0_of 77 = .ok (.ireturn, 1) := dk_172 (dk_at dksX0_of_2 9 rfl rfl)
theorem dX0_of_78 : decode cX0_of 78 = .ok (.aload_n 0, 1) := dk_42 (dk_at dksX0_of_2 10 rfl rfl)
theorem dX0_of_79 : decode cX0_of 79 = .ok (.getfield 17, 3) := dk_180 0 17 (dk_at dksX0_of_2 11 rfl rfl)
theorem dX0_of_82 : decode cX0_of 82 = .ok (.iload_n 1, 1) := dk_27 (dk_at dksX0_of_2 14 rfl rfl)
theorem dX0_of_83 : decode cX0_of 83 = .ok (.aaload, 1) := dk_50 (dk_at dksX0_of_2 15 rfl rfl)
theorem dX0_of_84 : decode cX0_of 84 = .ok (.getfield 171, 3) := dk_180 0 171 (dk_at dksX0_of_2 16 rfl rfl)
theorem dX0_of_87 : decode cX0_of 87 = .ok (.ireturn, 1) := dk_172 (dk_at dksX0_of_2 19 rfl rfl)
theorem dX0_of_88 : decode cX0_of 88 = .ok (.aload_n 0, 1) := dk_42 (dk_at dksX0_of_2 20 rfl rfl)
theorem dX0_of_89 : decode cX0_of 89 = .ok (.getfield 28, 3) := dk_180 0 28 (dk_at dksX0_of_2 21 rfl rfl)
theorem dX0_of_92 : decode cX0_of 92 = .ok (.getfield 150, 3) := dk_180 0 150 (dk_at dksX0_of_3 0 rfl rfl)
theorem dX0_of_95 : decode cX0_of 95 = .ok (.iload_n 1, 1) := dk_27 (dk_at dksX0_of_3 3 rfl rfl)
theorem dX0_of_96 : decode cX0_of 96 = .ok (.baload, 1) := dk_51 (dk_at dksX0_of_3 4 rfl rfl)
theorem dX0_of_97 : decode cX0_of 97 = .ok (.ireturn, 1) := dk_172 (dk_at dksX0_of_3 5 rfl rfl)
theorem dX0_of_98 : decode cX0_of 98 = .ok (.aload_n 0, 1) := dk_42 (dk_at dksX0_of_3 6 rfl rfl)
theorem dX0_of_99 : decode cX0_of 99 = .ok (.getfield 28, 3) := dk_180 0 28 (dk_at dksX0_of_3 7 rfl rfl)
theorem dX0_of_102 : decode cX0_of 102 = .ok (.getfield 153, 3) := dk_180 0 153 (dk_at dksX0_of_3 10 rfl rfl)
theorem dX0_of_105 : decode cX0_of 105 = .ok (.iload_n 1, 1) := dk_27 (dk_at dksX0_of_3 13 rfl rfl)
theorem dX0_of_106 : decode cX0_of 106 = .ok (.baload, 1) := dk_51 (dk_at dksX0_of_3 14 rfl rfl)
theorem dX0_of_107 : decode cX0_of 107 = .ok (.ireturn, 1) := dk_172 (dk_at dksX0_of_3 15 rfl rfl)
theorem dX0_of_108 : decode cX0_of 108 = .ok (.aload_n 0, 1) := dk_42 (dk_at dksX0_of_3 16 rfl rfl)
theorem dX0_of_109 : decode cX0_of 109 = .ok (.getfield 28, 3) := dk_180 0 28 (dk_at dksX0_of_3 17 rfl rfl)
theorem dX0_of_112 : decode cX0_of 112 = .ok (.iload_n 1, 1) := dk_27 (dk_at dksX0_of_3 20 rfl rfl)
theorem dX0_of_113 : decode cX0_of 113 = .ok (.invokevirtual 238, 3) := dk_182 0 238 (dk_at dksX0_of_3 21 rfl rfl)
theorem dX0_of_116 : decode cX0_of 116 = .ok (.ifCond .eq 7, 3) := dk_153 0 7 (dk_at dksX0_of_4 0 rfl rfl)
theorem dX0_of_119 : decode cX0_of 119 = .ok (.iconst 1, 1) := dk_4 (dk_at dksX0_of_4 3 rfl rfl)
theorem dX0_of_120 : decode cX0_of 120 = .ok (.goto 4, 3) := dk_167 0 4 (dk_at dksX0_of_4 4 rfl rfl)
theorem dX0_of_123 : decode cX0_of 123 = .ok (.iconst 0, 1) := dk_3 (dk_at dksX0_of_4 7 rfl rfl)
theorem dX0_of_124 : decode cX0_of 124 = .ok (.ireturn, 1) := dk_172 (dk_at dksX0_of_4 8 rfl rfl)
theorem dX0_of_125 : decode cX0_of 125 = .ok (.aload_n 0, 1) := dk_42 (dk_at dksX0_of_4 9 rfl rfl)
theorem dX0_of_126 : decode cX0_of 126 = .ok (.getfield 28, 3) := dk_180 0 28 (dk_at dksX0_of_4 10 rfl rfl)
theorem dX0_of_129 : decode cX0_of 129 = .ok (.getfield 156, 3) := dk_180 0 156 (dk_at dksX0_of_4 13 rfl rfl)
theorem dX0_of_132 : decode cX0_of 132 = .ok (.iload_n 1, 1) := dk_27 (dk_at dksX0_of_4 16 rfl rfl)
theorem dX0_of_133 : decode cX0_of 133 = .ok (.iaload, 1) := dk_46 (dk_at dksX0_of_4 17 rfl rfl)
theorem dX0_of_134 : decode cX0_of 134 = .ok (.ireturn, 1) := dk_172 (dk_at dksX0_of_4 18 rfl rfl)
theorem dX0_of_135 : decode cX0_of 135 = .ok (.aload_n 0, 1) := dk_42 (dk_at dksX0_of_4 19 rfl rfl)
theorem dX0_of_136 : decode cX0_of 136 = .ok (.aload_n 0, 1) := dk_42 (dk_at dksX0_of_4 20 rfl rfl)
theorem dX0_of_137 : decode cX0_of 137 = .ok (.getfield 28, 3) := dk_180 0 28 (dk_at dksX0_of_4 21 rfl rfl)
theorem dX0_of_140 : decode cX0_of 140 = .ok (.iload_n 1, 1) := dk_27 (dk_at dksX0_of_5 0 rfl rfl)
theorem dX0_of_141 : decode cX0_of 141 = .ok (.aload_n 0, 1) := dk_42 (dk_at dksX0_of_5 1 rfl rfl)
theorem dX0_of_142 : decode cX0_of 142 = .ok (.getfield 28, 3) := dk_180 0 28 (dk_at dksX0_of_5 2 rfl rfl)
theorem dX0_of_145 : decode cX0_of 145 = .ok (.invokevirtual 225, 3) := dk_182 0 225 (dk_at dksX0_of_5 5 rfl rfl)
theorem dX0_of_148 : decode cX0_of 148 = .ok (.invokevirtual 228, 3) := dk_182 0 228 (dk_at dksX0_of_5 8 rfl rfl)
theorem dX0_of_151 : decode cX0_of 151 = .ok (.ireturn, 1) := dk_172 (dk_at dksX0_of_5 11 rfl rfl)
theorem dX0_of_152 : decode cX0_of 152 = .ok (.aload_n 0, 1) := dk_42 (dk_at dksX0_of_5 12 rfl rfl)
theorem dX0_of_153 : decode cX0_of 153 = .ok (.aload_n 0, 1) := dk_42 (dk_at dksX0_of_5 13 rfl rfl)
theorem dX0_of_154 : decode cX0_of 154 = .ok (.getfield 28, 3) := dk_180 0 28 (dk_at dksX0_of_5 14 rfl rfl)
theorem dX0_of_157 : decode cX0_of 157 = .ok (.iload_n 1, 1) := dk_27 (dk_at dksX0_of_5 17 rfl rfl)
theorem dX0_of_158 : decode cX0_of 158 = .ok (.invokevirtual 241, 3) := dk_182 0 241 (dk_at dksX0_of_5 18 rfl rfl)
theorem dX0_of_161 : decode cX0_of 161 = .ok (.ireturn, 1) := dk_172 (dk_at dksX0_of_5 21 rfl rfl)
theorem dX0_of_162 : decode cX0_of 162 = .ok (.aload_n 0, 1) := dk_42 (dk_at dksX0_of_5 22 rfl rfl)
theorem dX0_of_163 : decode cX0_of 163 = .ok (.iload_n 1, 1) := dk_27 (dk_at dksX0_of_5 23 rfl rfl)
theorem dX0_of_164 : decode cX0_of 164 = .ok (.iload_n 2, 1) := dk_28 (dk_at dksX0_of_6 0 rfl rfl)
theorem dX0_of_165 : decode cX0_of 165 = .ok (.invokevirtual 268, 3) := dk_182 1 12 (dk_at dksX0_of_6 1 rfl rfl)
theorem dX0_of_168 : decode cX0_of 168 = .ok (.ireturn, 1) := dk_172 (dk_at dksX0_of_6 4 rfl rfl)
abbrev cX0_atYard : ByteArray := prog_1_method_27_code
def yX0_atYard : MethodName := ⟨RX0, "atYard", "(II)I"⟩
def dkwX0_atYard_2 : List UInt8 := [182, 0, 231, 167, 0, 6, 17, 216, 239, 172]
abbrev dktX0_atYard_2 : List UInt8 := dkwX0_atYard_2 ++ []
def dkwX0_atYard_1 : List UInt8 := [167, 0, 32, 28, 16, 20, 100, 184, 0, 142, 153, 0, 19, 42, 42, 180, 0, 28, 27, 28, 16, 20, 100]
abbrev dktX0_atYard_1 : List UInt8 := dkwX0_atYard_1 ++ dktX0_atYard_2
def dkwX0_atYard_0 : List UInt8 := [28, 16, 10, 100, 184, 0, 142, 153, 0, 19, 42, 42, 180, 0, 28, 27, 28, 16, 10, 100, 182, 0, 192]
abbrev dktX0_atYard_0 : List UInt8 := dkwX0_atYard_0 ++ dktX0_atYard_1
theorem dksX0_atYard_0 : cX0_atYard.data.toList.drop 0 = dktX0_atYard_0 := by decide +kernel
theorem dksX0_atYard_1 : cX0_atYard.data.toList.drop 23 = dktX0_atYard_1 := dk_seg dksX0_atYard_0 23 rfl rfl
theorem dksX0_atYard_2 : cX0_atYard.data.toList.drop 46 = dktX0_atYard_2 := dk_seg dksX0_atYard_1 23 rfl rfl
theorem dX0_atYard_0 : decode cX0_atYard 0 = .ok (.iload_n 2, 1) := dk_28 (dk_at dksX0_atYard_0 0 rfl rfl)
theorem dX0_atYard_1 : decode cX0_atYard 1 = .ok (.bipush 10, 2) := dk_16 10 (dk_at dksX0_atYard_0 1 rfl rfl)
theorem dX0_atYard_3 : decode cX0_atYard 3 = .ok (.isub, 1) := dk_100 (dk_at dksX0_atYard_0 3 rfl rfl)
theorem dX0_atYard_4 : decode cX0_atYard 4 = .ok (.invokestatic 142, 3) := dk_184 0 142 (dk_at dksX0_atYard_0 4 rfl rfl)
theorem dX0_atYard_7 : decode cX0_atYard 7 = .ok (.ifCond .eq 19, 3) := dk_153 0 19 (dk_at dksX0_atYard_0 7 rfl rfl)
theorem dX0_atYard_10 : decode cX0_atYard 10 = .ok (.aload_n 0, 1) := dk_42 (dk_at dksX0_atYard_0 10 rfl rfl)
theorem dX0_atYard_11 : decode cX0_atYard 11 = .ok (.aload_n 0, 1) := dk_42 (dk_at dksX0_atYard_0 11 rfl rfl)
theorem dX0_atYard_12 : decode cX0_atYard 12 = .ok (.getfield 28, 3) := dk_180 0 28 (dk_at dksX0_atYard_0 12 rfl rfl)
theorem dX0_atYard_15 : decode cX0_atYard 15 = .ok (.iload_n 1, 1) := dk_27 (dk_at dksX0_atYard_0 15 rfl rfl)
theorem dX0_atYard_16 : decode cX0_atYard 16 = .ok (.iload_n 2, 1) := dk_28 (dk_at dksX0_atYard_0 16 rfl rfl)
theorem dX0_atYard_17 : decode cX0_atYard 17 = .ok (.bipush 10, 2) := dk_16 10 (dk_at dksX0_atYard_0 17 rfl rfl)
theorem dX0_atYard_19 : decode cX0_atYard 19 = .ok (.isub, 1) := dk_100 (dk_at dksX0_atYard_0 19 rfl rfl)
theorem dX0_atYard_20 : decode cX0_atYard 20 = .ok (.invokevirtual 192, 3) := dk_182 0 192 (dk_at dksX0_atYard_0 20 rfl rfl)
theorem dX0_atYard_23 : decode cX0_atYard 23 = .ok (.goto 32, 3) := dk_167 0 32 (dk_at dksX0_atYard_1 0 rfl rfl)
theorem dX0_atYard_26 : decode cX0_atYard 26 = .ok (.iload_n 2, 1) := dk_28 (dk_at dksX0_atYard_1 3 rfl rfl)
theorem dX0_atYard_27 : decode cX0_atYard 27 = .ok (.bipush 20, 2) := dk_16 20 (dk_at dksX0_atYard_1 4 rfl rfl)
theorem dX0_atYard_29 : decode cX0_atYard 29 = .ok (.isub, 1) := dk_100 (dk_at dksX0_atYard_1 6 rfl rfl)
theorem dX0_atYard_30 : decode cX0_atYard 30 = .ok (.invokestatic 142, 3) := dk_184 0 142 (dk_at dksX0_atYard_1 7 rfl rfl)
theorem dX0_atYard_33 : decode cX0_atYard 33 = .ok (.ifCond .eq 19, 3) := dk_153 0 19 (dk_at dksX0_atYard_1 10 rfl rfl)
theorem dX0_atYard_36 : decode cX0_atYard 36 = .ok (.aload_n 0, 1) := dk_42 (dk_at dksX0_atYard_1 13 rfl rfl)
theorem dX0_atYard_37 : decode cX0_atYard 37 = .ok (.aload_n 0, 1) := dk_42 (dk_at dksX0_atYard_1 14 rfl rfl)
theorem dX0_atYard_38 : decode cX0_atYard 38 = .ok (.getfield 28, 3) := dk_180 0 28 (dk_at dksX0_atYard_1 15 rfl rfl)
theorem dX0_atYard_41 : decode cX0_atYard 41 = .ok (.iload_n 1, 1) := dk_27 (dk_at dksX0_atYard_1 18 rfl rfl)
theorem dX0_atYard_42 : decode cX0_atYard 42 = .ok (.iload_n 2, 1) := dk_28 (dk_at dksX0_atYard_1 19 rfl rfl)
theorem dX0_atYard_43 : decode cX0_atYard 43 = .ok (.bipush 20, 2) := dk_16 20 (dk_at dksX0_atYard_1 20 rfl rfl)
theorem dX0_atYard_45 : decode cX0_atYard 45 = .ok (.isub, 1) := dk_100 (dk_at dksX0_atYard_1 22 rfl rfl)
theorem dX0_atYard_46 : decode cX0_atYard 46 = .ok (.invokevirtual 231, 3) := dk_182 0 231 (dk_at dksX0_atYard_2 0 rfl rfl)
theorem dX0_atYard_49 : decode cX0_atYard 49 = .ok (.goto 6, 3) := dk_167 0 6 (dk_at dksX0_atYard_2 3 rfl rfl)
theorem dX0_atYard_52 : decode cX0_atYard 52 = .ok (.sipush (-10001), 3) := dk_17 216 239 (dk_at dksX0_atYard_2 6 rfl rfl)
theorem dX0_atYard_55 : decode cX0_atYard 55 = .ok (.ireturn, 1) := dk_172 (dk_at dksX0_atYard_2 9 rfl rfl)
abbrev cX0_set : ByteArray := prog_1_method_29_code
def yX0_set : MethodName := ⟨RX0, "set", "(III)I"⟩
def dkwX0_set_3 : List UInt8 := [25, 4, 27, 29, 145, 84, 21, 5, 172]
abbrev dktX0_set_3 : List UInt8 := dkwX0_set_3 ++ []
def dkwX0_set_2 : List UInt8 := [180, 0, 28, 180, 0, 150, 167, 0, 10, 42, 180, 0, 28, 180, 0, 153, 58, 4, 25, 4, 27, 51, 54, 5]
abbrev dktX0_set_2 : List UInt8 := dkwX0_set_2 ++ dktX0_set_3
def dkwX0_set_1 : List UInt8 := [154, 0, 8, 16, 20, 167, 0, 5, 16, 9, 184, 0, 5, 154, 0, 6, 16, 254, 172, 28, 154, 0, 13, 42]
abbrev dktX0_set_1 : List UInt8 := dkwX0_set_1 ++ dktX0_set_2
def dkwX0_set_0 : List UInt8 := [42, 27, 182, 1, 5, 153, 0, 12, 28, 3, 4, 184, 0, 5, 154, 0, 5, 2, 172, 29, 3, 28]
abbrev dktX0_set_0 : List UInt8 := dkwX0_set_0 ++ dktX0_set_1
theorem dksX0_set_0 : cX0_set.data.toList.drop 0 = dktX0_set_0 := by decide +kernel
theorem dksX0_set_1 : cX0_set.data.toList.drop 22 = dktX0_set_1 := dk_seg dksX0_set_0 22 rfl rfl
theorem dksX0_set_2 : cX0_set.data.toList.drop 46 = dktX0_set_2 := dk_seg dksX0_set_1 24 rfl rfl
theorem dksX0_set_3 : cX0_set.data.toList.drop 70 = dktX0_set_3 := dk_seg dksX0_set_2 24 rfl rfl
theorem dX0_set_0 : decode cX0_set 0 = .ok (.aload_n 0, 1) := dk_42 (dk_at dksX0_set_0 0 rfl rfl)
theorem dX0_set_1 : decode cX0_set 1 = .ok (.iload_n 1, 1) := dk_27 (dk_at dksX0_set_0 1 rfl rfl)
theorem dX0_set_2 : decode cX0_set 2 = .ok (.invokevirtual 261, 3) := dk_182 1 5 (dk_at dksX0_set_0 2 rfl rfl)
theorem dX0_set_5 : decode cX0_set 5 = .ok (.ifCond .eq 12, 3) := dk_153 0 12 (dk_at dksX0_set_0 5 rfl rfl)
theorem dX0_set_8 : decode cX0_set 8 = .ok (.iload_n 2, 1) := dk_28 (dk_at dksX0_set_0 8 rfl rfl)
theorem dX0_set_9 : decode cX0_set 9 = .ok (.iconst 0, 1) := dk_3 (dk_at dksX0_set_0 9 rfl rfl)
theorem dX0_set_10 : decode cX0_set 10 = .ok (.iconst 1, 1) := dk_4 (dk_at dksX0_set_0 10 rfl rfl)
theorem dX0_set_11 : decode cX0_set 11 = .ok (.invokestatic 5, 3) := dk_184 0 5 (dk_at dksX0_set_0 11 rfl rfl)
theorem dX0_set_14 : decode cX0_set 14 = .ok (.ifCond .ne 5, 3) := dk_154 0 5 (dk_at dksX0_set_0 14 rfl rfl)
theorem dX0_set_17 : decode cX0_set 17 = .ok (.iconst (-1), 1) := dk_2 (dk_at dksX0_set_0 17 rfl rfl)
theorem dX0_set_18 : decode cX0_set 18 = .ok (.ireturn, 1) := dk_172 (dk_at dksX0_set_0 18 rfl rfl)
theorem dX0_set_19 : decode cX0_set 19 = .ok (.iload_n 3, 1) := dk_29 (dk_at dksX0_set_0 19 rfl rfl)
theorem dX0_set_20 : decode cX0_set 20 = .ok (.iconst 0, 1) := dk_3 (dk_at dksX0_set_0 20 rfl rfl)
theorem dX0_set_21 : decode cX0_set 21 = .ok (.iload_n 2, 1) := dk_28 (dk_at dksX0_set_0 21 rfl rfl)
theorem dX0_set_22 : decode cX0_set 22 = .ok (.ifCond .ne 8, 3) := dk_154 0 8 (dk_at dksX0_set_1 0 rfl rfl)
theorem dX0_set_25 : decode cX0_set 25 = .ok (.bipush 20, 2) := dk_16 20 (dk_at dksX0_set_1 3 rfl rfl)
theorem dX0_set_27 : decode cX0_set 27 = .ok (.goto 5, 3) := dk_167 0 5 (dk_at dksX0_set_1 5 rfl rfl)
theorem dX0_set_30 : decode cX0_set 30 = .ok (.bipush 9, 2) := dk_16 9 (dk_at dksX0_set_1 8 rfl rfl)
theorem dX0_set_32 : decode cX0_set 32 = .ok (.invokestatic 5, 3) := dk_184 0 5 (dk_at dksX0_set_1 10 rfl rfl)
theorem dX0_set_35 : decode cX0_set 35 = .ok (.ifCond .ne 6, 3) := dk_154 0 6 (dk_at dksX0_set_1 13 rfl rfl)
theorem dX0_set_38 : decode cX0_set 38 = .ok (.bipush (-2), 2) := dk_16 254 (dk_at dksX0_set_1 16 rfl rfl)
theorem dX0_set_40 : decode cX0_set 40 = .ok (.ireturn, 1) := dk_172 (dk_at dksX0_set_1 18 rfl rfl)
theorem dX0_set_41 : decode cX0_set 41 = .ok (.iload_n 2, 1) := dk_28 (dk_at dksX0_set_1 19 rfl rfl)
theorem dX0_set_42 : decode cX0_set 42 = .ok (.ifCond .ne 13, 3) := dk_154 0 13 (dk_at dksX0_set_1 20 rfl rfl)
theorem dX0_set_45 : decode cX0_set 45 = .ok (.aload_n 0, 1) := dk_42 (dk_at dksX0_set_1 23 rfl rfl)
theorem dX0_set_46 : decode cX0_set 46 = .ok (.getfield 28, 3) := dk_180 0 28 (dk_at dksX0_set_2 0 rfl rfl)
theorem dX0_set_49 : decode cX0_set 49 = .ok (.getfield 150, 3) := dk_180 0 150 (dk_at dksX0_set_2 3 rfl rfl)
theorem dX0_set_52 : decode cX0_set 52 = .ok (.goto 10, 3) := dk_167 0 10 (dk_at dksX0_set_2 6 rfl rfl)
theorem dX0_set_55 : decode cX0_set 55 = .ok (.aload_n 0, 1) := dk_42 (dk_at dksX0_set_2 9 rfl rfl)
theorem dX0_set_56 : decode cX0_set 56 = .ok (.getfield 28, 3) := dk_180 0 28 (dk_at dksX0_set_2 10 rfl rfl)
theorem dX0_set_59 : decode cX0_set 59 = .ok (.getfield 153, 3) := dk_180 0 153 (dk_at dksX0_set_2 13 rfl rfl)
theorem dX0_set_62 : decode cX0_set 62 = .ok (.astore 4, 2) := dk_58 4 (dk_at dksX0_set_2 16 rfl rfl)
theorem dX0_set_64 : decode cX0_set 64 = .ok (.aload 4, 2) := dk_25 4 (dk_at dksX0_set_2 18 rfl rfl)
theorem dX0_set_66 : decode cX0_set 66 = .ok (.iload_n 1, 1) := dk_27 (dk_at dksX0_set_2 20 rfl rfl)
theorem dX0_set_67 : decode cX0_set 67 = .ok (.baload, 1) := dk_51 (dk_at dksX0_set_2 21 rfl rfl)
theorem dX0_set_68 : decode cX0_set 68 = .ok (.istore 5, 2) := dk_54 5 (dk_at dksX0_set_2 22 rfl rfl)
theorem dX0_set_70 : decode cX0_set 70 = .ok (.aload 4, 2) := dk_25 4 (dk_at dksX0_set_3 0 rfl rfl)
theorem dX0_set_72 : decode cX0_set 72 = .ok (.iload_n 1, 1) := dk_27 (dk_at dksX0_set_3 2 rfl rfl)
theorem dX0_set_73 : decode cX0_set 73 = .ok (.iload_n 3, 1) := dk_29 (dk_at dksX0_set_3 3 rfl rfl)
theorem dX0_set_74 : decode cX0_set 74 = .ok (.i2b, 1) := dk_145 (dk_at dksX0_set_3 4 rfl rfl)
theorem dX0_set_75 : decode cX0_set 75 = .ok (.bastore, 1) := dk_84 (dk_at dksX0_set_3 5 rfl rfl)
theorem dX0_set_76 : decode cX0_set 76 = .ok (.iload 5, 2) := dk_21 5 (dk_at dksX0_set_3 6 rfl rfl)
theorem dX0_set_78 : decode cX0_set 78 = .ok (.ireturn, 1) := dk_172 (dk_at dksX0_set_3 8 rfl rfl)
abbrev cX0_away : ByteArray := prog_1_method_30_code
def yX0_away : MethodName := ⟨RX0, "away", "(IZ)I"⟩
def dkwX0_away_2 : List UInt8 := [153, 0, 9, 4, 27, 120, 167, 0, 4, 3, 128, 181, 0, 159, 29, 172]
abbrev dktX0_away_2 : List UInt8 := dkwX0_away_2 ++ []
def dkwX0_away_1 : List UInt8 := [167, 0, 4, 3, 62, 42, 180, 0, 28, 42, 180, 0, 28, 180, 0, 159, 4, 27, 120, 2, 130, 126, 28]
abbrev dktX0_away_1 : List UInt8 := dkwX0_away_1 ++ dktX0_away_2
def dkwX0_away_0 : List UInt8 := [42, 27, 182, 1, 5, 154, 0, 5, 2, 172, 42, 180, 0, 28, 27, 182, 0, 238, 153, 0, 7, 4]
abbrev dktX0_away_0 : List UInt8 := dkwX0_away_0 ++ dktX0_away_1
theorem dksX0_away_0 : cX0_away.data.toList.drop 0 = dktX0_away_0 := by decide +kernel
theorem dksX0_away_1 : cX0_away.data.toList.drop 22 = dktX0_away_1 := dk_seg dksX0_away_0 22 rfl rfl
theorem dksX0_away_2 : cX0_away.data.toList.drop 45 = dktX0_away_2 := dk_seg dksX0_away_1 23 rfl rfl
theorem dX0_away_0 : decode cX0_away 0 = .ok (.aload_n 0, 1) := dk_42 (dk_at dksX0_away_0 0 rfl rfl)
theorem dX0_away_1 : decode cX0_away 1 = .ok (.iload_n 1, 1) := dk_27 (dk_at dksX0_away_0 1 rfl rfl)
theorem dX0_away_2 : decode cX0_away 2 = .ok (.invokevirtual 261, 3) := dk_182 1 5 (dk_at dksX0_away_0 2 rfl rfl)
theorem dX0_away_5 : decode cX0_away 5 = .ok (.ifCond .ne 5, 3) := dk_154 0 5 (dk_at dksX0_away_0 5 rfl rfl)
theorem dX0_away_8 : decode cX0_away 8 = .ok (.iconst (-1), 1) := dk_2 (dk_at dksX0_away_0 8 rfl rfl)
theorem dX0_away_9 : decode cX0_away 9 = .ok (.ireturn, 1) := dk_172 (dk_at dksX0_away_0 9 rfl rfl)
theorem dX0_away_10 : decode cX0_away 10 = .ok (.aload_n 0, 1) := dk_42 (dk_at dksX0_away_0 10 rfl rfl)
theorem dX0_away_11 : decode cX0_away 11 = .ok (.getfield 28, 3) := dk_180 0 28 (dk_at dksX0_away_0 11 rfl rfl)
theorem dX0_away_14 : decode cX0_away 14 = .ok (.iload_n 1, 1) := dk_27 (dk_at dksX0_away_0 14 rfl rfl)
theorem dX0_away_15 : decode cX0_away 15 = .ok (.invokevirtual 238, 3) := dk_182 0 238 (dk_at dksX0_away_0 15 rfl rfl)
theorem dX0_away_18 : decode cX0_away 18 = .ok (.ifCond .eq 7, 3) := dk_153 0 7 (dk_at dksX0_away_0 18 rfl rfl)
theorem dX0_away_21 : decode cX0_away 21 = .ok (.iconst 1, 1) := dk_4 (dk_at dksX0_away_0 21 rfl rfl)
theorem dX0_away_22 : decode cX0_away 22 = .ok (.goto 4, 3) := dk_167 0 4 (dk_at dksX0_away_1 0 rfl rfl)
theorem dX0_away_25 : decode cX0_away 25 = .ok (.iconst 0, 1) := dk_3 (dk_at dksX0_away_1 3 rfl rfl)
theorem dX0_away_26 : decode cX0_away 26 = .ok (.istore_n 3, 1) := dk_62 (dk_at dksX0_away_1 4 rfl rfl)
theorem dX0_away_27 : decode cX0_away 27 = .ok (.aload_n 0, 1) := dk_42 (dk_at dksX0_away_1 5 rfl rfl)
theorem dX0_away_28 : decode cX0_away 28 = .ok (.getfield 28, 3) := dk_180 0 28 (dk_at dksX0_away_1 6 rfl rfl)
theorem dX0_away_31 : decode cX0_away 31 = .ok (.aload_n 0, 1) := dk_42 (dk_at dksX0_away_1 9 rfl rfl)
theorem dX0_away_32 : decode cX0_away 32 = .ok (.getfield 28, 3) := dk_180 0 28 (dk_at dksX0_away_1 10 rfl rfl)
theorem dX0_away_35 : decode cX0_away 35 = .ok (.getfield 159, 3) := dk_180 0 159 (dk_at dksX0_away_1 13 rfl rfl)
theorem dX0_away_38 : decode cX0_away 38 = .ok (.iconst 1, 1) := dk_4 (dk_at dksX0_away_1 16 rfl rfl)
theorem dX0_away_39 : decode cX0_away 39 = .ok (.iload_n 1, 1) := dk_27 (dk_at dksX0_away_1 17 rfl rfl)
theorem dX0_away_40 : decode cX0_away 40 = .ok (.ishl, 1) := dk_120 (dk_at dksX0_away_1 18 rfl rfl)
theorem dX0_away_41 : decode cX0_away 41 = .ok (.iconst (-1), 1) := dk_2 (dk_at dksX0_away_1 19 rfl rfl)
theorem dX0_away_42 : decode cX0_away 42 = .ok (.ixor, 1) := dk_130 (dk_at dksX0_away_1 20 rfl rfl)
theorem dX0_away_43 : decode cX0_away 43 = .ok (.iand, 1) := dk_126 (dk_at dksX0_away_1 21 rfl rfl)
theorem dX0_away_44 : decode cX0_away 44 = .ok (.iload_n 2, 1) := dk_28 (dk_at dksX0_away_1 22 rfl rfl)
theorem dX0_away_45 : decode cX0_away 45 = .ok (.ifCond .eq 9, 3) := dk_153 0 9 (dk_at dksX0_away_2 0 rfl rfl)
theorem dX0_away_48 : decode cX0_away 48 = .ok (.iconst 1, 1) := dk_4 (dk_at dksX0_away_2 3 rfl rfl)
theorem dX0_away_49 : decode cX0_away 49 = .ok (.iload_n 1, 1) := dk_27 (dk_at dksX0_away_2 4 rfl rfl)
theorem dX0_away_50 : decode cX0_away 50 = .ok (.ishl, 1) := dk_120 (dk_at dksX0_away_2 5 rfl rfl)
theorem dX0_away_51 : decode cX0_away 51 = .ok (.goto 4, 3) := dk_167 0 4 (dk_at dksX0_away_2 6 rfl rfl)
theorem dX0_away_54 : decode cX0_away 54 = .ok (.iconst 0, 1) := dk_3 (dk_at dksX0_away_2 9 rfl rfl)
theorem dX0_away_55 : decode cX0_away 55 = .ok (.ior, 1) := dk_128 (dk_at dksX0_away_2 10 rfl rfl)
theorem dX0_away_56 : decode cX0_away 56 = .ok (.putfield 159, 3) := dk_181 0 159 (dk_at dksX0_away_2 11 rfl rfl)
theorem dX0_away_59 : decode cX0_away 59 = .ok (.iload_n 3, 1) := dk_29 (dk_at dksX0_away_2 14 rfl rfl)
theorem dX0_away_60 : decode cX0_away 60 = .ok (.ireturn, 1) := dk_172 (dk_at dksX0_away_2 15 rfl rfl)
abbrev cX0_debt : ByteArray := prog_1_method_31_code
def yX0_debt : MethodName := ⟨RX0, "debt", "(I)I"⟩
def dkwX0_debt_1 : List UInt8 := [181, 0, 213, 28, 172]
abbrev dktX0_debt_1 : List UInt8 := dkwX0_debt_1 ++ []
def dkwX0_debt_0 : List UInt8 := [27, 184, 1, 15, 154, 0, 6, 16, 254, 172, 42, 180, 0, 28, 180, 0, 213, 61, 42, 180, 0, 28, 27]
abbrev dktX0_debt_0 : List UInt8 := dkwX0_debt_0 ++ dktX0_debt_1
theorem dksX0_debt_0 : cX0_debt.data.toList.drop 0 = dktX0_debt_0 := by decide +kernel
theorem dksX0_debt_1 : cX0_debt.data.toList.drop 23 = dktX0_debt_1 := dk_seg dksX0_debt_0 23 rfl rfl
theorem dX0_debt_0 : decode cX0_debt 0 = .ok (.iload_n 1, 1) := dk_27 (dk_at dksX0_debt_0 0 rfl rfl)
theorem dX0_debt_1 : decode cX0_debt 1 = .ok (.invokestatic 271, 3) := dk_184 1 15 (dk_at dksX0_debt_0 1 rfl rfl)
theorem dX0_debt_4 : decode cX0_debt 4 = .ok (.ifCond .ne 6, 3) := dk_154 0 6 (dk_at dksX0_debt_0 4 rfl rfl)
theorem dX0_debt_7 : decode cX0_debt 7 = .ok (.bipush (-2), 2) := dk_16 254 (dk_at dksX0_debt_0 7 rfl rfl)
theorem dX0_debt_9 : decode cX0_debt 9 = .ok (.ireturn, 1) := dk_172 (dk_at dksX0_debt_0 9 rfl rfl)
theorem dX0_debt_10 : decode cX0_debt 10 = .ok (.aload_n 0, 1) := dk_42 (dk_at dksX0_debt_0 10 rfl rfl)
theorem dX0_debt_11 : decode cX0_debt 11 = .ok (.getfield 28, 3) := dk_180 0 28 (dk_at dksX0_debt_0 11 rfl rfl)
theorem dX0_debt_14 : decode cX0_debt 14 = .ok (.getfield 213, 3) := dk_180 0 213 (dk_at dksX0_debt_0 14 rfl rfl)
theorem dX0_debt_17 : decode cX0_debt 17 = .ok (.istore_n 2, 1) := dk_61 (dk_at dksX0_debt_0 17 rfl rfl)
theorem dX0_debt_18 : decode cX0_debt 18 = .ok (.aload_n 0, 1) := dk_42 (dk_at dksX0_debt_0 18 rfl rfl)
theorem dX0_debt_19 : decode cX0_debt 19 = .ok (.getfield 28, 3) := dk_180 0 28 (dk_at dksX0_debt_0 19 rfl rfl)
theorem dX0_debt_22 : decode cX0_debt 22 = .ok (.iload_n 1, 1) := dk_27 (dk_at dksX0_debt_0 22 rfl rfl)
theorem dX0_debt_23 : decode cX0_debt 23 = .ok (.putfield 213, 3) := dk_181 0 213 (dk_at dksX0_debt_1 0 rfl rfl)
theorem dX0_debt_26 : decode cX0_debt 26 = .ok (.iload_n 2, 1) := dk_28 (dk_at dksX0_debt_1 3 rfl rfl)
theorem dX0_debt_27 : decode cX0_debt 27 = .ok (.ireturn, 1) := dk_172 (dk_at dksX0_debt_1 4 rfl rfl)
abbrev cX0_isDebt : ByteArray := prog_1_method_4_code
def yX0_isDebt : MethodName := ⟨RX0, "isDebt", "(I)Z"⟩
def dkwX0_isDebt_0 : List UInt8 := [26, 3, 17, 3, 231, 184, 0, 5, 172]
abbrev dktX0_isDebt_0 : List UInt8 := dkwX0_isDebt_0 ++ []
theorem dksX0_isDebt_0 : cX0_isDebt.data.toList.drop 0 = dktX0_isDebt_0 := by decide +kernel
theorem dX0_isDebt_0 : decode cX0_isDebt 0 = .ok (.iload_n 0, 1) := dk_26 (dk_at dksX0_isDebt_0 0 rfl rfl)
theorem dX0_isDebt_1 : decode cX0_isDebt 1 = .ok (.iconst 0, 1) := dk_3 (dk_at dksX0_isDebt_0 1 rfl rfl)
theorem dX0_isDebt_2 : decode cX0_isDebt 2 = .ok (.sipush 999, 3) := dk_17 3 231 (dk_at dksX0_isDebt_0 2 rfl rfl)
theorem dX0_isDebt_5 : decode cX0_isDebt 5 = .ok (.invokestatic 5, 3) := dk_184 0 5 (dk_at dksX0_isDebt_0 5 rfl rfl)
theorem dX0_isDebt_8 : decode cX0_isDebt 8 = .ok (.ireturn, 1) := dk_172 (dk_at dksX0_isDebt_0 8 rfl rfl)
abbrev cX0_row : ByteArray := prog_1_method_32_code
def yX0_row : MethodName := ⟨RX0, "row", "(III)I"⟩
def dkwX0_row_3 : List UInt8 := [29, 79, 21, 4, 172]
abbrev dktX0_row_3 : List UInt8 := dkwX0_row_3 ++ []
def dkwX0_row_2 : List UInt8 := [16, 253, 172, 42, 180, 0, 21, 7, 27, 104, 28, 96, 46, 54, 4, 42, 180, 0, 21, 7, 27, 104, 28, 96]
abbrev dktX0_row_2 : List UInt8 := dkwX0_row_2 ++ dktX0_row_3
def dkwX0_row_1 : List UInt8 := [184, 0, 5, 154, 0, 6, 16, 254, 172, 42, 180, 0, 17, 27, 50, 182, 0, 165, 16, 6, 159, 0, 6]
abbrev dktX0_row_1 : List UInt8 := dkwX0_row_1 ++ dktX0_row_2
def dkwX0_row_0 : List UInt8 := [42, 27, 182, 1, 5, 153, 0, 12, 28, 3, 6, 184, 0, 5, 154, 0, 5, 2, 172, 29, 3, 16, 9]
abbrev dktX0_row_0 : List UInt8 := dkwX0_row_0 ++ dktX0_row_1
theorem dksX0_row_0 : cX0_row.data.toList.drop 0 = dktX0_row_0 := by decide +kernel
theorem dksX0_row_1 : cX0_row.data.toList.drop 23 = dktX0_row_1 := dk_seg dksX0_row_0 23 rfl rfl
theorem dksX0_row_2 : cX0_row.data.toList.drop 46 = dktX0_row_2 := dk_seg dksX0_row_1 23 rfl rfl
theorem dksX0_row_3 : cX0_row.data.toList.drop 70 = dktX0_row_3 := dk_seg dksX0_row_2 24 rfl rfl
theorem dX0_row_0 : decode cX0_row 0 = .ok (.aload_n 0, 1) := dk_42 (dk_at dksX0_row_0 0 rfl rfl)
theorem dX0_row_1 : decode cX0_row 1 = .ok (.iload_n 1, 1) := dk_27 (dk_at dksX0_row_0 1 rfl rfl)
theorem dX0_row_2 : decode cX0_row 2 = .ok (.invokevirtual 261, 3) := dk_182 1 5 (dk_at dksX0_row_0 2 rfl rfl)
theorem dX0_row_5 : decode cX0_row 5 = .ok (.ifCond .eq 12, 3) := dk_153 0 12 (dk_at dksX0_row_0 5 rfl rfl)
theorem dX0_row_8 : decode cX0_row 8 = .ok (.iload_n 2, 1) := dk_28 (dk_at dksX0_row_0 8 rfl rfl)
theorem dX0_row_9 : decode cX0_row 9 = .ok (.iconst 0, 1) := dk_3 (dk_at dksX0_row_0 9 rfl rfl)
theorem dX0_row_10 : decode cX0_row 10 = .ok (.iconst 3, 1) := dk_6 (dk_at dksX0_row_0 10 rfl rfl)
theorem dX0_row_11 : decode cX0_row 11 = .ok (.invokestatic 5, 3) := dk_184 0 5 (dk_at dksX0_row_0 11 rfl rfl)
theorem dX0_row_14 : decode cX0_row 14 = .ok (.ifCond .ne 5, 3) := dk_154 0 5 (dk_at dksX0_row_0 14 rfl rfl)
theorem dX0_row_17 : decode cX0_row 17 = .ok (.iconst (-1), 1) := dk_2 (dk_at dksX0_row_0 17 rfl rfl)
theorem dX0_row_18 : decode cX0_row 18 = .ok (.ireturn, 1) := dk_172 (dk_at dksX0_row_0 18 rfl rfl)
theorem dX0_row_19 : decode cX0_row 19 = .ok (.iload_n 3, 1) := dk_29 (dk_at dksX0_row_0 19 rfl rfl)
theorem dX0_row_20 : decode cX0_row 20 = .ok (.iconst 0, 1) := dk_3 (dk_at dksX0_row_0 20 rfl rfl)
theorem dX0_row_21 : decode cX0_row 21 = .ok (.bipush 9, 2) := dk_16 9 (dk_at dksX0_row_0 21 rfl rfl)
theorem dX0_row_23 : decode cX0_row 23 = .ok (.invokestatic 5, 3) := dk_184 0 5 (dk_at dksX0_row_1 0 rfl rfl)
theorem dX0_row_26 : decode cX0_row 26 = .ok (.ifCond .ne 6, 3) := dk_154 0 6 (dk_at dksX0_row_1 3 rfl rfl)
theorem dX0_row_29 : decode cX0_row 29 = .ok (.bipush (-2), 2) := dk_16 254 (dk_at dksX0_row_1 6 rfl rfl)
theorem dX0_row_31 : decode cX0_row 31 = .ok (.ireturn, 1) := dk_172 (dk_at dksX0_row_1 8 rfl rfl)
theorem dX0_row_32 : decode cX0_row 32 = .ok (.aload_n 0, 1) := dk_42 (dk_at dksX0_row_1 9 rfl rfl)
theorem dX0_row_33 : decode cX0_row 33 = .ok (.getfield 17, 3) := dk_180 0 17 (dk_at dksX0_row_1 10 rfl rfl)
theorem dX0_row_36 : decode cX0_row 36 = .ok (.iload_n 1, 1) := dk_27 (dk_at dksX0_row_1 13 rfl rfl)
theorem dX0_row_37 : decode cX0_row 37 = .ok (.aaload, 1) := dk_50 (dk_at dksX0_row_1 14 rfl rfl)
theorem dX0_row_38 : decode cX0_row 38 = .ok (.invokevirtual 165, 3) := dk_182 0 165 (dk_at dksX0_row_1 15 rfl rfl)
theorem dX0_row_41 : decode cX0_row 41 = .ok (.bipush 6, 2) := dk_16 6 (dk_at dksX0_row_1 18 rfl rfl)
theorem dX0_row_43 : decode cX0_row 43 = .ok (.if_icmp .eq 6, 3) := dk_159 0 6 (dk_at dksX0_row_1 20 rfl rfl)
theorem dX0_row_46 : decode cX0_row 46 = .ok (.bipush (-3), 2) := dk_16 253 (dk_at dksX0_row_2 0 rfl rfl)
theorem dX0_row_48 : decode cX0_row 48 = .ok (.ireturn, 1) := dk_172 (dk_at dksX0_row_2 2 rfl rfl)
theorem dX0_row_49 : decode cX0_row 49 = .ok (.aload_n 0, 1) := dk_42 (dk_at dksX0_row_2 3 rfl rfl)
theorem dX0_row_50 : decode cX0_row 50 = .ok (.getfield 21, 3) := dk_180 0 21 (dk_at dksX0_row_2 4 rfl rfl)
theorem dX0_row_53 : decode cX0_row 53 = .ok (.iconst 4, 1) := dk_7 (dk_at dksX0_row_2 7 rfl rfl)
theorem dX0_row_54 : decode cX0_row 54 = .ok (.iload_n 1, 1) := dk_27 (dk_at dksX0_row_2 8 rfl rfl)
theorem dX0_row_55 : decode cX0_row 55 = .ok (.imul, 1) := dk_104 (dk_at dksX0_row_2 9 rfl rfl)
theorem dX0_row_56 : decode cX0_row 56 = .ok (.iload_n 2, 1) := dk_28 (dk_at dksX0_row_2 10 rfl rfl)
theorem dX0_row_57 : decode cX0_row 57 = .ok (.iadd, 1) := dk_96 (dk_at dksX0_row_2 11 rfl rfl)
theorem dX0_row_58 : decode cX0_row 58 = .ok (.iaload, 1) := dk_46 (dk_at dksX0_row_2 12 rfl rfl)
theorem dX0_row_59 : decode cX0_row 59 = .ok (.istore 4, 2) := dk_54 4 (dk_at dksX0_row_2 13 rfl rfl)
theorem dX0_row_61 : decode cX0_row 61 = .ok (.aload_n 0, 1) := dk_42 (dk_at dksX0_row_2 15 rfl rfl)
theorem dX0_row_62 : decode cX0_row 62 = .ok (.getfield 21, 3) := dk_180 0 21 (dk_at dksX0_row_2 16 rfl rfl)
theorem dX0_row_65 : decode cX0_row 65 = .ok (.iconst 4, 1) := dk_7 (dk_at dksX0_row_2 19 rfl rfl)
theorem dX0_row_66 : decode cX0_row 66 = .ok (.iload_n 1, 1) := dk_27 (dk_at dksX0_row_2 20 rfl rfl)
theorem dX0_row_67 : decode cX0_row 67 = .ok (.imul, 1) := dk_104 (dk_at dksX0_row_2 21 rfl rfl)
theorem dX0_row_68 : decode cX0_row 68 = .ok (.iload_n 2, 1) := dk_28 (dk_at dksX0_row_2 22 rfl rfl)
theorem dX0_row_69 : decode cX0_row 69 = .ok (.iadd, 1) := dk_96 (dk_at dksX0_row_2 23 rfl rfl)
theorem dX0_row_70 : decode cX0_row 70 = .ok (.iload_n 3, 1) := dk_29 (dk_at dksX0_row_3 0 rfl rfl)
theorem dX0_row_71 : decode cX0_row 71 = .ok (.iastore, 1) := dk_79 (dk_at dksX0_row_3 1 rfl rfl)
theorem dX0_row_72 : decode cX0_row 72 = .ok (.iload 4, 2) := dk_21 4 (dk_at dksX0_row_3 2 rfl rfl)
theorem dX0_row_74 : decode cX0_row 74 = .ok (.ireturn, 1) := dk_172 (dk_at dksX0_row_3 4 rfl rfl)
abbrev cX0_feed : ByteArray := prog_1_method_33_code
def yX0_feed : MethodName := ⟨RX0, "feed", "(I)I"⟩
def dkwX0_feed_1 : List UInt8 := [172, 42, 180, 0, 35, 42, 89, 180, 1, 18, 90, 4, 96, 181, 1, 18, 27, 145, 84, 42, 180, 1, 18, 172]
abbrev dktX0_feed_1 : List UInt8 := dkwX0_feed_1 ++ []
def dkwX0_feed_0 : List UInt8 := [27, 3, 16, 127, 184, 0, 5, 154, 0, 6, 16, 254, 172, 42, 180, 1, 18, 16, 100, 160, 0, 6, 16, 252]
abbrev dktX0_feed_0 : List UInt8 := dkwX0_feed_0 ++ dktX0_feed_1
theorem dksX0_feed_0 : cX0_feed.data.toList.drop 0 = dktX0_feed_0 := by decide +kernel
theorem dksX0_feed_1 : cX0_feed.data.toList.drop 24 = dktX0_feed_1 := dk_seg dksX0_feed_0 24 rfl rfl
theorem dX0_feed_0 : decode cX0_feed 0 = .ok (.iload_n 1, 1) := dk_27 (dk_at dksX0_feed_0 0 rfl rfl)
theorem dX0_feed_1 : decode cX0_feed 1 = .ok (.iconst 0, 1) := dk_3 (dk_at dksX0_feed_0 1 rfl rfl)
theorem dX0_feed_2 : decode cX0_feed 2 = .ok (.bipush 127, 2) := dk_16 127 (dk_at dksX0_feed_0 2 rfl rfl)
theorem dX0_feed_4 : decode cX0_feed 4 = .ok (.invokestatic 5, 3) := dk_184 0 5 (dk_at dksX0_feed_0 4 rfl rfl)
theorem dX0_feed_7 : decode cX0_feed 7 = .ok (.ifCond .ne 6, 3) := dk_154 0 6 (dk_at dksX0_feed_0 7 rfl rfl)
theorem dX0_feed_10 : decode cX0_feed 10 = .ok (.bipush (-2), 2) := dk_16 254 (dk_at dksX0_feed_0 10 rfl rfl)
theorem dX0_feed_12 : decode cX0_feed 12 = .ok (.ireturn, 1) := dk_172 (dk_at dksX0_feed_0 12 rfl rfl)
theorem dX0_feed_13 : decode cX0_feed 13 = .ok (.aload_n 0, 1) := dk_42 (dk_at dksX0_feed_0 13 rfl rfl)
theorem dX0_feed_14 : decode cX0_feed 14 = .ok (.getfield 274, 3) := dk_180 1 18 (dk_at dksX0_feed_0 14 rfl rfl)
theorem dX0_feed_17 : decode cX0_feed 17 = .ok (.bipush 100, 2) := dk_16 100 (dk_at dksX0_feed_0 17 rfl rfl)
theorem dX0_feed_19 : decode cX0_feed 19 = .ok (.if_icmp .ne 6, 3) := dk_160 0 6 (dk_at dksX0_feed_0 19 rfl rfl)
theorem dX0_feed_22 : decode cX0_feed 22 = .ok (.bipush (-4), 2) := dk_16 252 (dk_at dksX0_feed_0 22 rfl rfl)
theorem dX0_feed_24 : decode cX0_feed 24 = .ok (.ireturn, 1) := dk_172 (dk_at dksX0_feed_1 0 rfl rfl)
theorem dX0_feed_25 : decode cX0_feed 25 = .ok (.aload_n 0, 1) := dk_42 (dk_at dksX0_feed_1 1 rfl rfl)
theorem dX0_feed_26 : decode cX0_feed 26 = .ok (.getfield 35, 3) := dk_180 0 35 (dk_at dksX0_feed_1 2 rfl rfl)
theorem dX0_feed_29 : decode cX0_feed 29 = .ok (.aload_n 0, 1) := dk_42 (dk_at dksX0_feed_1 5 rfl rfl)
theorem dX0_feed_30 : decode cX0_feed 30 = .ok (.dup, 1) := dk_89 (dk_at dksX0_feed_1 6 rfl rfl)
theorem dX0_feed_31 : decode cX0_feed 31 = .ok (.getfield 274, 3) := dk_180 1 18 (dk_at dksX0_feed_1 7 rfl rfl)
theorem dX0_feed_34 : decode cX0_feed 34 = .ok (.dup_x1, 1) := dk_90 (dk_at dksX0_feed_1 10 rfl rfl)
theorem dX0_feed_35 : decode cX0_feed 35 = .ok (.iconst 1, 1) := dk_4 (dk_at dksX0_feed_1 11 rfl rfl)
theorem dX0_feed_36 : decode cX0_feed 36 = .ok (.iadd, 1) := dk_96 (dk_at dksX0_feed_1 12 rfl rfl)
theorem dX0_feed_37 : decode cX0_feed 37 = .ok (.putfield 274, 3) := dk_181 1 18 (dk_at dksX0_feed_1 13 rfl rfl)
theorem dX0_feed_40 : decode cX0_feed 40 = .ok (.iload_n 1, 1) := dk_27 (dk_at dksX0_feed_1 16 rfl rfl)
theorem dX0_feed_41 : decode cX0_feed 41 = .ok (.i2b, 1) := dk_145 (dk_at dksX0_feed_1 17 rfl rfl)
theorem dX0_feed_42 : decode cX0_feed 42 = .ok (.bastore, 1) := dk_84 (dk_at dksX0_feed_1 18 rfl rfl)
theorem dX0_feed_43 : decode cX0_feed 43 = .ok (.aload_n 0, 1) := dk_42 (dk_at dksX0_feed_1 19 rfl rfl)
theorem dX0_feed_44 : decode cX0_feed 44 = .ok (.getfield 274, 3) := dk_180 1 18 (dk_at dksX0_feed_1 20 rfl rfl)
theorem dX0_feed_47 : decode cX0_feed 47 = .ok (.ireturn, 1) := dk_172 (dk_at dksX0_feed_1 23 rfl rfl)
abbrev cX0_parish : ByteArray := prog_1_method_34_code
def yX0_parish : MethodName := ⟨RX0, "parish", "()I"⟩
def dkwX0_parish_2 : List UInt8 := [4, 96, 181, 1, 21, 172, 77, 16, 246, 44, 180, 1, 35, 100, 172]
abbrev dktX0_parish_2 : List UInt8 := dkwX0_parish_2 ++ []
def dkwX0_parish_1 : List UInt8 := [187, 1, 24, 89, 42, 180, 0, 35, 27, 183, 1, 26, 182, 1, 29, 181, 0, 42, 42, 89, 180, 1, 21, 90]
abbrev dktX0_parish_1 : List UInt8 := dkwX0_parish_1 ++ dktX0_parish_2
def dkwX0_parish_0 : List UInt8 := [42, 180, 1, 21, 16, 6, 160, 0, 6, 16, 252, 172, 42, 180, 1, 18, 60, 42, 3, 181, 1, 18, 42]
abbrev dktX0_parish_0 : List UInt8 := dkwX0_parish_0 ++ dktX0_parish_1
theorem dksX0_parish_0 : cX0_parish.data.toList.drop 0 = dktX0_parish_0 := by decide +kernel
theorem dksX0_parish_1 : cX0_parish.data.toList.drop 23 = dktX0_parish_1 := dk_seg dksX0_parish_0 23 rfl rfl
theorem dksX0_parish_2 : cX0_parish.data.toList.drop 47 = dktX0_parish_2 := dk_seg dksX0_parish_1 24 rfl rfl
theorem dX0_parish_0 : decode cX0_parish 0 = .ok (.aload_n 0, 1) := dk_42 (dk_at dksX0_parish_0 0 rfl rfl)
theorem dX0_parish_1 : decode cX0_parish 1 = .ok (.getfield 277, 3) := dk_180 1 21 (dk_at dksX0_parish_0 1 rfl rfl)
theorem dX0_parish_4 : decode cX0_parish 4 = .ok (.bipush 6, 2) := dk_16 6 (dk_at dksX0_parish_0 4 rfl rfl)
theorem dX0_parish_6 : decode cX0_parish 6 = .ok (.if_icmp .ne 6, 3) := dk_160 0 6 (dk_at dksX0_parish_0 6 rfl rfl)
theorem dX0_parish_9 : decode cX0_parish 9 = .ok (.bipush (-4), 2) := dk_16 252 (dk_at dksX0_parish_0 9 rfl rfl)
theorem dX0_parish_11 : decode cX0_parish 11 = .ok (.ireturn, 1) := dk_172 (dk_at dksX0_parish_0 11 rfl rfl)
theorem dX0_parish_12 : decode cX0_parish 12 = .ok (.aload_n 0, 1) := dk_42 (dk_at dksX0_parish_0 12 rfl rfl)
theorem dX0_parish_13 : decode cX0_parish 13 = .ok (.getfield 274, 3) := dk_180 1 18 (dk_at dksX0_parish_0 13 rfl rfl)
theorem dX0_parish_16 : decode cX0_parish 16 = .ok (.istore_n 1, 1) := dk_60 (dk_at dksX0_parish_0 16 rfl rfl)
theorem dX0_parish_17 : decode cX0_parish 17 = .ok (.aload_n 0, 1) := dk_42 (dk_at dksX0_parish_0 17 rfl rfl)
theorem dX0_parish_18 : decode cX0_parish 18 = .ok (.iconst 0, 1) := dk_3 (dk_at dksX0_parish_0 18 rfl rfl)
theorem dX0_parish_19 : decode cX0_parish 19 = .ok (.putfield 274, 3) := dk_181 1 18 (dk_at dksX0_parish_0 19 rfl rfl)
theorem dX0_parish_22 : decode cX0_parish 22 = .ok (.aload_n 0, 1) := dk_42 (dk_at dksX0_parish_0 22 rfl rfl)
theorem dX0_parish_23 : decode cX0_parish 23 = .ok (.new 280, 3) := dk_187 1 24 (dk_at dksX0_parish_1 0 rfl rfl)
theorem dX0_parish_26 : decode cX0_parish 26 = .ok (.dup, 1) := dk_89 (dk_at dksX0_parish_1 3 rfl rfl)
theorem dX0_parish_27 : decode cX0_parish 27 = .ok (.aload_n 0, 1) := dk_42 (dk_at dksX0_parish_1 4 rfl rfl)
theorem dX0_parish_28 : decode cX0_parish 28 = .ok (.getfield 35, 3) := dk_180 0 35 (dk_at dksX0_parish_1 5 rfl rfl)
theorem dX0_parish_31 : decode cX0_parish 31 = .ok (.iload_n 1, 1) := dk_27 (dk_at dksX0_parish_1 8 rfl rfl)
theorem dX0_parish_32 : decode cX0_parish 32 = .ok (.invokespecial 282, 3) := dk_183 1 26 (dk_at dksX0_parish_1 9 rfl rfl)
theorem dX0_parish_35 : decode cX0_parish 35 = .ok (.invokevirtual 285, 3) := dk_182 1 29 (dk_at dksX0_parish_1 12 rfl rfl)
theorem dX0_parish_38 : decode cX0_parish 38 = .ok (.putfield 42, 3) := dk_181 0 42 (dk_at dksX0_parish_1 15 rfl rfl)
theorem dX0_parish_41 : decode cX0_parish 41 = .ok (.aload_n 0, 1) := dk_42 (dk_at dksX0_parish_1 18 rfl rfl)
theorem dX0_parish_42 : decode cX0_parish 42 = .ok (.dup, 1) := dk_89 (dk_at dksX0_parish_1 19 rfl rfl)
theorem dX0_parish_43 : decode cX0_parish 43 = .ok (.getfield 277, 3) := dk_180 1 21 (dk_at dksX0_parish_1 20 rfl rfl)
theorem dX0_parish_46 : decode cX0_parish 46 = .ok (.dup_x1, 1) := dk_90 (dk_at dksX0_parish_1 23 rfl rfl)
theorem dX0_parish_47 : decode cX0_parish 47 = .ok (.iconst 1, 1) := dk_4 (dk_at dksX0_parish_2 0 rfl rfl)
theorem dX0_parish_48 : decode cX0_parish 48 = .ok (.iadd, 1) := dk_96 (dk_at dksX0_parish_2 1 rfl rfl)
theorem dX0_parish_49 : decode cX0_parish 49 = .ok (.putfield 277, 3) := dk_181 1 21 (dk_at dksX0_parish_2 2 rfl rfl)
theorem dX0_parish_52 : decode cX0_parish 52 = .ok (.ireturn, 1) := dk_172 (dk_at dksX0_parish_2 5 rfl rfl)
theorem dX0_parish_53 : decode cX0_parish 53 = .ok (.astore_n 2, 1) := dk_77 (dk_at dksX0_parish_2 6 rfl rfl)
theorem dX0_parish_54 : decode cX0_parish 54 = .ok (.bipush (-10), 2) := dk_16 246 (dk_at dksX0_parish_2 7 rfl rfl)
theorem dX0_parish_56 : decode cX0_parish 56 = .ok (.aload_n 2, 1) := dk_44 (dk_at dksX0_parish_2 9 rfl rfl)
theorem dX0_parish_57 : decode cX0_parish 57 = .ok (.getfield 291, 3) := dk_180 1 35 (dk_at dksX0_parish_2 10 rfl rfl)
theorem dX0_parish_60 : decode cX0_parish 60 = .ok (.isub, 1) := dk_100 (dk_at dksX0_parish_2 13 rfl rfl)
theorem dX0_parish_61 : decode cX0_parish 61 = .ok (.ireturn, 1) := dk_172 (dk_at dksX0_parish_2 14 rfl rfl)
abbrev cX0_told : ByteArray := prog_1_method_35_code
def yX0_told : MethodName := ⟨RX0, "told", "(I)I"⟩
def dkwX0_told_4 : List UInt8 := [42, 3, 182, 1, 47, 172, 2, 172]
abbrev dktX0_told_4 : List UInt8 := dkwX0_told_4 ++ []
def dkwX0_told_3 : List UInt8 := [42, 180, 0, 28, 180, 0, 159, 172, 42, 182, 1, 41, 172, 42, 182, 1, 44, 172, 42, 4, 182, 1, 47, 172]
abbrev dktX0_told_3 : List UInt8 := dkwX0_told_3 ++ dktX0_told_4
def dkwX0_told_2 : List UInt8 := [42, 180, 0, 28, 180, 0, 181, 172, 42, 180, 0, 42, 180, 1, 38, 172, 42, 180, 0, 28, 180, 0, 213, 172]
abbrev dktX0_told_2 : List UInt8 := dkwX0_told_2 ++ dktX0_told_3
def dkwX0_told_1 : List UInt8 := [170, 0, 0, 0, 0, 0, 101, 0, 0, 0, 0, 0, 0, 0, 7, 0, 0, 0, 47, 0, 0, 0, 55, 0, 0, 0, 63, 0, 0, 0, 71, 0, 0, 0, 79, 0, 0, 0, 84, 0, 0, 0, 89, 0, 0, 0, 95]
abbrev dktX0_told_1 : List UInt8 := dkwX0_told_1 ++ dktX0_told_2
def dkwX0_told_0 : List UInt8 := [27]
abbrev dktX0_told_0 : List UInt8 := dkwX0_told_0 ++ dktX0_told_1
theorem dksX0_told_0 : cX0_told.data.toList.drop 0 = dktX0_told_0 := by decide +kernel
theorem dksX0_told_1 : cX0_told.data.toList.drop 1 = dktX0_told_1 := dk_seg dksX0_told_0 1 rfl rfl
theorem dksX0_told_2 : cX0_told.data.toList.drop 48 = dktX0_told_2 := dk_seg dksX0_told_1 47 rfl rfl
theorem dksX0_told_3 : cX0_told.data.toList.drop 72 = dktX0_told_3 := dk_seg dksX0_told_2 24 rfl rfl
theorem dksX0_told_4 : cX0_told.data.toList.drop 96 = dktX0_told_4 := dk_seg dksX0_told_3 24 rfl rfl
theorem dX0_told_0 : decode cX0_told 0 = .ok (.iload_n 1, 1) := dk_27 (dk_at dksX0_told_0 0 rfl rfl)
theorem dX0_told_1 : decode cX0_told 1 = .ok (.tableswitch 101 0 7 #[47, 55, 63, 71, 79, 84, 89, 95], 47) := by decide +kernel
theorem dX0_told_48 : decode cX0_told 48 = .ok (.aload_n 0, 1) := dk_42 (dk_at dksX0_told_2 0 rfl rfl)
theorem dX0_told_49 : decode cX0_told 49 = .ok (.getfield 28, 3) := dk_180 0 28 (dk_at dksX0_told_2 1 rfl rfl)
theorem dX0_told_52 : decode cX0_told 52 = .ok (.getfield 181, 3) := dk_180 0 181 (dk_at dksX0_told_2 4 rfl rfl)
theorem dX0_told_55 : decode cX0_told 55 = .ok (.ireturn, 1) := dk_172 (dk_at dksX0_told_2 7 rfl rfl)
theorem dX0_told_56 : decode cX0_told 56 = .ok (.aload_n 0, 1) := dk_42 (dk_at dksX0_told_2 8 rfl rfl)
theorem dX0_told_57 : decode cX0_told 57 = .ok (.getfield 42, 3) := dk_180 0 42 (dk_at dksX0_told_2 9 rfl rfl)
theorem dX0_told_60 : decode cX0_told 60 = .ok (.getfield 294, 3) := dk_180 1 38 (dk_at dksX0_told_2 12 rfl rfl)
theorem dX0_told_63 : decode cX0_told 63 = .ok (.ireturn, 1) := dk_172 (dk_at dksX0_told_2 15 rfl rfl)
theorem dX0_told_64 : decode cX0_told 64 = .ok (.aload_n 0, 1) := dk_42 (dk_at dksX0_told_2 16 rfl rfl)
theorem dX0_told_65 : decode cX0_told 65 = .ok (.getfield 28, 3) := dk_180 0 28 (dk_at dksX0_told_2 17 rfl rfl)
theorem dX0_told_68 : decode cX0_told 68 = .ok (.getfield 213, 3) := dk_180 0 213 (dk_at dksX0_told_2 20 rfl rfl)
theorem dX0_told_71 : decode cX0_told 71 = .ok (.ireturn, 1) := dk_172 (dk_at dksX0_told_2 23 rfl rfl)
theorem dX0_told_72 : decode cX0_told 72 = .ok (.aload_n 0, 1) := dk_42 (dk_at dksX0_told_3 0 rfl rfl)
theorem dX0_told_73 : decode cX0_told 73 = .ok (.getfield 28, 3) := dk_180 0 28 (dk_at dksX0_told_3 1 rfl rfl)
theorem dX0_told_76 : decode cX0_told 76 = .ok (.getfield 159, 3) := dk_180 0 159 (dk_at dksX0_told_3 4 rfl rfl)
theorem dX0_told_79 : decode cX0_told 79 = .ok (.ireturn, 1) := dk_172 (dk_at dksX0_told_3 7 rfl rfl)
theorem dX0_told_80 : decode cX0_told 80 = .ok (.aload_n 0, 1) := dk_42 (dk_at dksX0_told_3 8 rfl rfl)
theorem dX0_told_81 : decode cX0_told 81 = .ok (.invokevirtual 297, 3) := dk_182 1 41 (dk_at dksX0_told_3 9 rfl rfl)
theorem dX0_told_84 : decode cX0_told 84 = .ok (.ireturn, 1) := dk_172 (dk_at dksX0_told_3 12 rfl rfl)
theorem dX0_told_85 : decode cX0_told 85 = .ok (.aload_n 0, 1) := dk_42 (dk_at dksX0_told_3 13 rfl rfl)
theorem dX0_told_86 : decode cX0_told 86 = .ok (.invokevirtual 300, 3) := dk_182 1 44 (dk_at dksX0_told_3 14 rfl rfl)
theorem dX0_told_89 : decode cX0_told 89 = .ok (.ireturn, 1) := dk_172 (dk_at dksX0_told_3 17 rfl rfl)
theorem dX0_told_90 : decode cX0_told 90 = .ok (.aload_n 0, 1) := dk_42 (dk_at dksX0_told_3 18 rfl rfl)
theorem dX0_told_91 : decode cX0_told 91 = .ok (.iconst 1, 1) := dk_4 (dk_at dksX0_told_3 19 rfl rfl)
theorem dX0_told_92 : decode cX0_told 92 = .ok (.invokevirtual 303, 3) := dk_182 1 47 (dk_at dksX0_told_3 20 rfl rfl)
theorem dX0_told_95 : decode cX0_told 95 = .ok (.ireturn, 1) := dk_172 (dk_at dksX0_told_3 23 rfl rfl)
theorem dX0_told_96 : decode cX0_told 96 = .ok (.aload_n 0, 1) := dk_42 (dk_at dksX0_told_4 0 rfl rfl)
theorem dX0_told_97 : decode cX0_told 97 = .ok (.iconst 0, 1) := dk_3 (dk_at dksX0_told_4 1 rfl rfl)
theorem dX0_told_98 : decode cX0_told 98 = .ok (.invokevirtual 303, 3) := dk_182 1 47 (dk_at dksX0_told_4 2 rfl rfl)
theorem dX0_told_101 : decode cX0_told 101 = .ok (.ireturn, 1) := dk_172 (dk_at dksX0_told_4 5 rfl rfl)
theorem dX0_told_102 : decode cX0_told 102 = .ok (.iconst (-1), 1) := dk_2 (dk_at dksX0_told_4 6 rfl rfl)
theorem dX0_told_103 : decode cX0_told 103 = .ok (.ireturn, 1) := dk_172 (dk_at dksX0_told_4 7 rfl rfl)
abbrev cX0_still : ByteArray := prog_1_method_25_code
def yX0_still : MethodName := ⟨RX0, "still", "()I"⟩
def dkwX0_still_1 : List UInt8 := [27, 172, 132, 1, 1, 167, 255, 234, 16, 251, 172]
abbrev dktX0_still_1 : List UInt8 := dkwX0_still_1 ++ []
def dkwX0_still_0 : List UInt8 := [42, 3, 182, 1, 8, 3, 60, 27, 16, 20, 163, 0, 22, 42, 42, 180, 0, 32, 182, 0, 251, 154, 0, 5]
abbrev dktX0_still_0 : List UInt8 := dkwX0_still_0 ++ dktX0_still_1
theorem dksX0_still_0 : cX0_still.data.toList.drop 0 = dktX0_still_0 := by decide +kernel
theorem dksX0_still_1 : cX0_still.data.toList.drop 24 = dktX0_still_1 := dk_seg dksX0_still_0 24 rfl rfl
theorem dX0_still_0 : decode cX0_still 0 = .ok (.aload_n 0, 1) := dk_42 (dk_at dksX0_still_0 0 rfl rfl)
theorem dX0_still_1 : decode cX0_still 1 = .ok (.iconst 0, 1) := dk_3 (dk_at dksX0_still_0 1 rfl rfl)
theorem dX0_still_2 : decode cX0_still 2 = .ok (.invokevirtual 264, 3) := dk_182 1 8 (dk_at dksX0_still_0 2 rfl rfl)
theorem dX0_still_5 : decode cX0_still 5 = .ok (.iconst 0, 1) := dk_3 (dk_at dksX0_still_0 5 rfl rfl)
theorem dX0_still_6 : decode cX0_still 6 = .ok (.istore_n 1, 1) := dk_60 (dk_at dksX0_still_0 6 rfl rfl)
theorem dX0_still_7 : decode cX0_still 7 = .ok (.iload_n 1, 1) := dk_27 (dk_at dksX0_still_0 7 rfl rfl)
theorem dX0_still_8 : decode cX0_still 8 = .ok (.bipush 20, 2) := dk_16 20 (dk_at dksX0_still_0 8 rfl rfl)
theorem dX0_still_10 : decode cX0_still 10 = .ok (.if_icmp .gt 22, 3) := dk_163 0 22 (dk_at dksX0_still_0 10 rfl rfl)
theorem dX0_still_13 : decode cX0_still 13 = .ok (.aload_n 0, 1) := dk_42 (dk_at dksX0_still_0 13 rfl rfl)
theorem dX0_still_14 : decode cX0_still 14 = .ok (.aload_n 0, 1) := dk_42 (dk_at dksX0_still_0 14 rfl rfl)
theorem dX0_still_15 : decode cX0_still 15 = .ok (.getfield 32, 3) := dk_180 0 32 (dk_at dksX0_still_0 15 rfl rfl)
theorem dX0_still_18 : decode cX0_still 18 = .ok (.invokevirtual 251, 3) := dk_182 0 251 (dk_at dksX0_still_0 18 rfl rfl)
theorem dX0_still_21 : decode cX0_still 21 = .ok (.ifCond .ne 5, 3) := dk_154 0 5 (dk_at dksX0_still_0 21 rfl rfl)
theorem dX0_still_24 : decode cX0_still 24 = .ok (.iload_n 1, 1) := dk_27 (dk_at dksX0_still_1 0 rfl rfl)
theorem dX0_still_25 : decode cX0_still 25 = .ok (.ireturn, 1) := dk_172 (dk_at dksX0_still_1 1 rfl rfl)
theorem dX0_still_26 : decode cX0_still 26 = .ok (.iinc 1 1, 3) := dk_132 1 1 (dk_at dksX0_still_1 2 rfl rfl)
theorem dX0_still_29 : decode cX0_still 29 = .ok (.goto (-22), 3) := dk_167 255 234 (dk_at dksX0_still_1 5 rfl rfl)
theorem dX0_still_32 : decode cX0_still 32 = .ok (.bipush (-5), 2) := dk_16 251 (dk_at dksX0_still_1 8 rfl rfl)
theorem dX0_still_34 : decode cX0_still 34 = .ok (.ireturn, 1) := dk_172 (dk_at dksX0_still_1 10 rfl rfl)
abbrev cX0_gains : ByteArray := prog_1_method_26_code
def yX0_gains : MethodName := ⟨RX0, "gains", "()I"⟩
def dkwX0_gains_3 : List UInt8 := [28, 51, 182, 0, 231, 164, 0, 9, 27, 4, 28, 120, 128, 60, 132, 2, 1, 167, 255, 186, 27, 172]
abbrev dktX0_gains_3 : List UInt8 := dkwX0_gains_3 ++ []
def dkwX0_gains_2 : List UInt8 := [180, 0, 32, 180, 0, 153, 28, 51, 182, 0, 231, 42, 42, 180, 0, 28, 28, 42, 180, 0, 28, 180, 0, 153]
abbrev dktX0_gains_2 : List UInt8 := dkwX0_gains_2 ++ dktX0_gains_3
def dkwX0_gains_1 : List UInt8 := [180, 0, 115, 162, 0, 65, 42, 180, 0, 28, 28, 182, 0, 238, 154, 0, 48, 42, 42, 180, 0, 32, 28, 42]
abbrev dktX0_gains_1 : List UInt8 := dkwX0_gains_1 ++ dktX0_gains_2
def dkwX0_gains_0 : List UInt8 := [42, 3, 182, 1, 8, 42, 42, 180, 0, 32, 182, 0, 244, 87, 3, 60, 3, 61, 28, 42, 180, 0, 28]
abbrev dktX0_gains_0 : List UInt8 := dkwX0_gains_0 ++ dktX0_gains_1
theorem dksX0_gains_0 : cX0_gains.data.toList.drop 0 = dktX0_gains_0 := by decide +kernel
theorem dksX0_gains_1 : cX0_gains.data.toList.drop 23 = dktX0_gains_1 := dk_seg dksX0_gains_0 23 rfl rfl
theorem dksX0_gains_2 : cX0_gains.data.toList.drop 47 = dktX0_gains_2 := dk_seg dksX0_gains_1 24 rfl rfl
theorem dksX0_gains_3 : cX0_gains.data.toList.drop 71 = dktX0_gains_3 := dk_seg dksX0_gains_2 24 rfl rfl
theorem dX0_gains_0 : decode cX0_gains 0 = .ok (.aload_n 0, 1) := dk_42 (dk_at dksX0_gains_0 0 rfl rfl)
theorem dX0_gains_1 : decode cX0_gains 1 = .ok (.iconst 0, 1) := dk_3 (dk_at dksX0_gains_0 1 rfl rfl)
theorem dX0_gains_2 : decode cX0_gains 2 = .ok (.invokevirtual 264, 3) := dk_182 1 8 (dk_at dksX0_gains_0 2 rfl rfl)
theorem dX0_gains_5 : decode cX0_gains 5 = .ok (.aload_n 0, 1) := dk_42 (dk_at dksX0_gains_0 5 rfl rfl)
theorem dX0_gains_6 : decode cX0_gains 6 = .ok (.aload_n 0, 1) := dk_42 (dk_at dksX0_gains_0 6 rfl rfl)
theorem dX0_gains_7 : decode cX0_gains 7 = .ok (.getfield 32, 3) := dk_180 0 32 (dk_at dksX0_gains_0 7 rfl rfl)
theorem dX0_gains_10 : decode cX0_gains 10 = .ok (.invokevirtual 244, 3) := dk_182 0 244 (dk_at dksX0_gains_0 10 rfl rfl)
theorem dX0_gains_13 : decode cX0_gains 13 = .ok (.pop, 1) := dk_87 (dk_at dksX0_gains_0 13 rfl rfl)
theorem dX0_gains_14 : decode cX0_gains 14 = .ok (.iconst 0, 1) := dk_3 (dk_at dksX0_gains_0 14 rfl rfl)
theorem dX0_gains_15 : decode cX0_gains 15 = .ok (.istore_n 1, 1) := dk_60 (dk_at dksX0_gains_0 15 rfl rfl)
theorem dX0_gains_16 : decode cX0_gains 16 = .ok (.iconst 0, 1) := dk_3 (dk_at dksX0_gains_0 16 rfl rfl)
theorem dX0_gains_17 : decode cX0_gains 17 = .ok (.istore_n 2, 1) := dk_61 (dk_at dksX0_gains_0 17 rfl rfl)
theorem dX0_gains_18 : decode cX0_gains 18 = .ok (.iload_n 2, 1) := dk_28 (dk_at dksX0_gains_0 18 rfl rfl)
theorem dX0_gains_19 : decode cX0_gains 19 = .ok (.aload_n 0, 1) := dk_42 (dk_at dksX0_gains_0 19 rfl rfl)
theorem dX0_gains_20 : decode cX0_gains 20 = .ok (.getfield 28, 3) := dk_180 0 28 (dk_at dksX0_gains_0 20 rfl rfl)
theorem dX0_gains_23 : decode cX0_gains 23 = .ok (.getfield 115, 3) := dk_180 0 115 (dk_at dksX0_gains_1 0 rfl rfl)
theorem dX0_gains_26 : decode cX0_gains 26 = .ok (.if_icmp .ge 65, 3) := dk_162 0 65 (dk_at dksX0_gains_1 3 rfl rfl)
theorem dX0_gains_29 : decode cX0_gains 29 = .ok (.aload_n 0, 1) := dk_42 (dk_at dksX0_gains_1 6 rfl rfl)
theorem dX0_gains_30 : decode cX0_gains 30 = .ok (.getfield 28, 3) := dk_180 0 28 (dk_at dksX0_gains_1 7 rfl rfl)
theorem dX0_gains_33 : decode cX0_gains 33 = .ok (.iload_n 2, 1) := dk_28 (dk_at dksX0_gains_1 10 rfl rfl)
theorem dX0_gains_34 : decode cX0_gains 34 = .ok (.invokevirtual 238, 3) := dk_182 0 238 (dk_at dksX0_gains_1 11 rfl rfl)
theorem dX0_gains_37 : decode cX0_gains 37 = .ok (.ifCond .ne 48, 3) := dk_154 0 48 (dk_at dksX0_gains_1 14 rfl rfl)
theorem dX0_gains_40 : decode cX0_gains 40 = .ok (.aload_n 0, 1) := dk_42 (dk_at dksX0_gains_1 17 rfl rfl)
theorem dX0_gains_41 : decode cX0_gains 41 = .ok (.aload_n 0, 1) := dk_42 (dk_at dksX0_gains_1 18 rfl rfl)
theorem dX0_gains_42 : decode cX0_gains 42 = .ok (.getfield 32, 3) := dk_180 0 32 (dk_at dksX0_gains_1 19 rfl rfl)
theorem dX0_gains_45 : decode cX0_gains 45 = .ok (.iload_n 2, 1) := dk_28 (dk_at dksX0_gains_1 22 rfl rfl)
theorem dX0_gains_46 : decode cX0_gains 46 = .ok (.aload_n 0, 1) := dk_42 (dk_at dksX0_gains_1 23 rfl rfl)
theorem dX0_gains_47 : decode cX0_gains 47 = .ok (.getfield 32, 3) := dk_180 0 32 (dk_at dksX0_gains_2 0 rfl rfl)
theorem dX0_gains_50 : decode cX0_gains 50 = .ok (.getfield 153, 3) := dk_180 0 153 (dk_at dksX0_gains_2 3 rfl rfl)
theorem dX0_gains_53 : decode cX0_gains 53 = .ok (.iload_n 2, 1) := dk_28 (dk_at dksX0_gains_2 6 rfl rfl)
theorem dX0_gains_54 : decode cX0_gains 54 = .ok (.baload, 1) := dk_51 (dk_at dksX0_gains_2 7 rfl rfl)
theorem dX0_gains_55 : decode cX0_gains 55 = .ok (.invokevirtual 231, 3) := dk_182 0 231 (dk_at dksX0_gains_2 8 rfl rfl)
theorem dX0_gains_58 : decode cX0_gains 58 = .ok (.aload_n 0, 1) := dk_42 (dk_at dksX0_gains_2 11 rfl rfl)
theorem dX0_gains_59 : decode cX0_gains 59 = .ok (.aload_n 0, 1) := dk_42 (dk_at dksX0_gains_2 12 rfl rfl)
theorem dX0_gains_60 : decode cX0_gains 60 = .ok (.getfield 28, 3) := dk_180 0 28 (dk_at dksX0_gains_2 13 rfl rfl)
theorem dX0_gains_63 : decode cX0_gains 63 = .ok (.iload_n 2, 1) := dk_28 (dk_at dksX0_gains_2 16 rfl rfl)
theorem dX0_gains_64 : decode cX0_gains 64 = .ok (.aload_n 0, 1) := dk_42 (dk_at dksX0_gains_2 17 rfl rfl)
theorem dX0_gains_65 : decode cX0_gains 65 = .ok (.getfield 28, 3) := dk_180 0 28 (dk_at dksX0_gains_2 18 rfl rfl)
theorem dX0_gains_68 : decode cX0_gains 68 = .ok (.getfield 153, 3) := dk_180 0 153 (dk_at dksX0_gains_2 21 rfl rfl)
theorem dX0_gains_71 : decode cX0_gains 71 = .ok (.iload_n 2, 1) := dk_28 (dk_at dksX0_gains_3 0 rfl rfl)
theorem dX0_gains_72 : decode cX0_gains 72 = .ok (.baload, 1) := dk_51 (dk_at dksX0_gains_3 1 rfl rfl)
theorem dX0_gains_73 : decode cX0_gains 73 = .ok (.invokevirtual 231, 3) := dk_182 0 231 (dk_at dksX0_gains_3 2 rfl rfl)
theorem dX0_gains_76 : decode cX0_gains 76 = .ok (.if_icmp .le 9, 3) := dk_164 0 9 (dk_at dksX0_gains_3 5 rfl rfl)
theorem dX0_gains_79 : decode cX0_gains 79 = .ok (.iload_n 1, 1) := dk_27 (dk_at dksX0_gains_3 8 rfl rfl)
theorem dX0_gains_80 : decode cX0_gains 80 = .ok (.iconst 1, 1) := dk_4 (dk_at dksX0_gains_3 9 rfl rfl)
theorem dX0_gains_81 : decode cX0_gains 81 = .ok (.iload_n 2, 1) := dk_28 (dk_at dksX0_gains_3 10 rfl rfl)
theorem dX0_gains_82 : decode cX0_gains 82 = .ok (.ishl, 1) := dk_120 (dk_at dksX0_gains_3 11 rfl rfl)
theorem dX0_gains_83 : decode cX0_gains 83 = .ok (.ior, 1) := dk_128 (dk_at dksX0_gains_3 12 rfl rfl)
theorem dX0_gains_84 : decode cX0_gains 84 = .ok (.istore_n 1, 1) := dk_60 (dk_at dksX0_gains_3 13 rfl rfl)
theorem dX0_gains_85 : decode cX0_gains 85 = .ok (.iinc 2 1, 3) := dk_132 2 1 (dk_at dksX0_gains_3 14 rfl rfl)
theorem dX0_gains_88 : decode cX0_gains 88 = .ok (.goto (-70), 3) := dk_167 255 186 (dk_at dksX0_gains_3 17 rfl rfl)
theorem dX0_gains_91 : decode cX0_gains 91 = .ok (.iload_n 1, 1) := dk_27 (dk_at dksX0_gains_3 20 rfl rfl)
theorem dX0_gains_92 : decode cX0_gains 92 = .ok (.ireturn, 1) := dk_172 (dk_at dksX0_gains_3 21 rfl rfl)
abbrev cX0_owing : ByteArray := prog_1_method_39_code
def yX0_owing : MethodName := ⟨RX0, "owing", "(Z)I"⟩
def dkwX0_owing_2 : List UInt8 := [132, 2, 1, 21, 4, 62, 132, 4, 255, 167, 255, 223, 27, 153, 0, 7, 28, 167, 0, 4, 29, 172]
abbrev dktX0_owing_2 : List UInt8 := dkwX0_owing_2 ++ []
def dkwX0_owing_1 : List UInt8 := [21, 4, 155, 0, 34, 42, 180, 0, 32, 21, 4, 181, 0, 213, 42, 182, 1, 60, 154, 0, 6, 167, 0, 9]
abbrev dktX0_owing_1 : List UInt8 := dkwX0_owing_1 ++ dktX0_owing_2
def dkwX0_owing_0 : List UInt8 := [42, 3, 182, 1, 8, 42, 42, 180, 0, 32, 182, 0, 234, 3, 61, 16, 251, 62, 17, 3, 231, 54, 4]
abbrev dktX0_owing_0 : List UInt8 := dkwX0_owing_0 ++ dktX0_owing_1
theorem dksX0_owing_0 : cX0_owing.data.toList.drop 0 = dktX0_owing_0 := by decide +kernel
theorem dksX0_owing_1 : cX0_owing.data.toList.drop 23 = dktX0_owing_1 := dk_seg dksX0_owing_0 23 rfl rfl
theorem dksX0_owing_2 : cX0_owing.data.toList.drop 47 = dktX0_owing_2 := dk_seg dksX0_owing_1 24 rfl rfl
theorem dX0_owing_0 : decode cX0_owing 0 = .ok (.aload_n 0, 1) := dk_42 (dk_at dksX0_owing_0 0 rfl rfl)
theorem dX0_owing_1 : decode cX0_owing 1 = .ok (.iconst 0, 1) := dk_3 (dk_at dksX0_owing_0 1 rfl rfl)
theorem dX0_owing_2 : decode cX0_owing 2 = .ok (.invokevirtual 264, 3) := dk_182 1 8 (dk_at dksX0_owing_0 2 rfl rfl)
theorem dX0_owing_5 : decode cX0_owing 5 = .ok (.aload_n 0, 1) := dk_42 (dk_at dksX0_owing_0 5 rfl rfl)
theorem dX0_owing_6 : decode cX0_owing 6 = .ok (.aload_n 0, 1) := dk_42 (dk_at dksX0_owing_0 6 rfl rfl)
theorem dX0_owing_7 : decode cX0_owing 7 = .ok (.getfield 32, 3) := dk_180 0 32 (dk_at dksX0_owing_0 7 rfl rfl)
theorem dX0_owing_10 : decode cX0_owing 10 = .ok (.invokevirtual 234, 3) := dk_182 0 234 (dk_at dksX0_owing_0 10 rfl rfl)
theorem dX0_owing_13 : decode cX0_owing 13 = .ok (.iconst 0, 1) := dk_3 (dk_at dksX0_owing_0 13 rfl rfl)
theorem dX0_owing_14 : decode cX0_owing 14 = .ok (.istore_n 2, 1) := dk_61 (dk_at dksX0_owing_0 14 rfl rfl)
theorem dX0_owing_15 : decode cX0_owing 15 = .ok (.bipush (-5), 2) := dk_16 251 (dk_at dksX0_owing_0 15 rfl rfl)
theorem dX0_owing_17 : decode cX0_owing 17 = .ok (.istore_n 3, 1) := dk_62 (dk_at dksX0_owing_0 17 rfl rfl)
theorem dX0_owing_18 : decode cX0_owing 18 = .ok (.sipush 999, 3) := dk_17 3 231 (dk_at dksX0_owing_0 18 rfl rfl)
theorem dX0_owing_21 : decode cX0_owing 21 = .ok (.istore 4, 2) := dk_54 4 (dk_at dksX0_owing_0 21 rfl rfl)
theorem dX0_owing_23 : decode cX0_owing 23 = .ok (.iload 4, 2) := dk_21 4 (dk_at dksX0_owing_1 0 rfl rfl)
theorem dX0_owing_25 : decode cX0_owing 25 = .ok (.ifCond .lt 34, 3) := dk_155 0 34 (dk_at dksX0_owing_1 2 rfl rfl)
theorem dX0_owing_28 : decode cX0_owing 28 = .ok (.aload_n 0, 1) := dk_42 (dk_at dksX0_owing_1 5 rfl rfl)
theorem dX0_owing_29 : decode cX0_owing 29 = .ok (.getfield 32, 3) := dk_180 0 32 (dk_at dksX0_owing_1 6 rfl rfl)
theorem dX0_owing_32 : decode cX0_owing 32 = .ok (.iload 4, 2) := dk_21 4 (dk_at dksX0_owing_1 9 rfl rfl)
theorem dX0_owing_34 : decode cX0_owing 34 = .ok (.putfield 213, 3) := dk_181 0 213 (dk_at dksX0_owing_1 11 rfl rfl)
theorem dX0_owing_37 : decode cX0_owing 37 = .ok (.aload_n 0, 1) := dk_42 (dk_at dksX0_owing_1 14 rfl rfl)
theorem dX0_owing_38 : decode cX0_owing 38 = .ok (.invokevirtual 316, 3) := dk_182 1 60 (dk_at dksX0_owing_1 15 rfl rfl)
theorem dX0_owing_41 : decode cX0_owing 41 = .ok (.ifCond .ne 6, 3) := dk_154 0 6 (dk_at dksX0_owing_1 18 rfl rfl)
theorem dX0_owing_44 : decode cX0_owing 44 = .ok (.goto 9, 3) := dk_167 0 9 (dk_at dksX0_owing_1 21 rfl rfl)
theorem dX0_owing_47 : decode cX0_owing 47 = .ok (.iinc 2 1, 3) := dk_132 2 1 (dk_at dksX0_owing_2 0 rfl rfl)
theorem dX0_owing_50 : decode cX0_owing 50 = .ok (.iload 4, 2) := dk_21 4 (dk_at dksX0_owing_2 3 rfl rfl)
theorem dX0_owing_52 : decode cX0_owing 52 = .ok (.istore_n 3, 1) := dk_62 (dk_at dksX0_owing_2 5 rfl rfl)
theorem dX0_owing_53 : decode cX0_owing 53 = .ok (.iinc 4 (-1), 3) := dk_132 4 255 (dk_at dksX0_owing_2 6 rfl rfl)
theorem dX0_owing_56 : decode cX0_owing 56 = .ok (.goto (-33), 3) := dk_167 255 223 (dk_at dksX0_owing_2 9 rfl rfl)
theorem dX0_owing_59 : decode cX0_owing 59 = .ok (.iload_n 1, 1) := dk_27 (dk_at dksX0_owing_2 12 rfl rfl)
theorem dX0_owing_60 : decode cX0_owing 60 = .ok (.ifCond .eq 7, 3) := dk_153 0 7 (dk_at dksX0_owing_2 13 rfl rfl)
theorem dX0_owing_63 : decode cX0_owing 63 = .ok (.iload_n 2, 1) := dk_28 (dk_at dksX0_owing_2 16 rfl rfl)
theorem dX0_owing_64 : decode cX0_owing 64 = .ok (.goto 4, 3) := dk_167 0 4 (dk_at dksX0_owing_2 17 rfl rfl)
theorem dX0_owing_67 : decode cX0_owing 67 = .ok (.iload_n 3, 1) := dk_29 (dk_at dksX0_owing_2 20 rfl rfl)
theorem dX0_owing_68 : decode cX0_owing 68 = .ok (.ireturn, 1) := dk_172 (dk_at dksX0_owing_2 21 rfl rfl)
abbrev cX0_areSo : ByteArray := prog_1_method_38_code
def yX0_areSo : MethodName := ⟨RX0, "areSo", "()Z"⟩
def dkwX0_areSo_2 : List UInt8 := [167, 255, 213, 4, 172]
abbrev dktX0_areSo_2 : List UInt8 := dkwX0_areSo_2 ++ []
def dkwX0_areSo_1 : List UInt8 := [180, 0, 32, 182, 0, 225, 182, 0, 228, 42, 180, 0, 63, 27, 46, 159, 0, 5, 3, 172, 132, 1, 1]
abbrev dktX0_areSo_1 : List UInt8 := dkwX0_areSo_1 ++ dktX0_areSo_2
def dkwX0_areSo_0 : List UInt8 := [3, 60, 27, 42, 180, 1, 57, 162, 0, 41, 42, 42, 180, 0, 32, 42, 180, 0, 60, 27, 46, 42]
abbrev dktX0_areSo_0 : List UInt8 := dkwX0_areSo_0 ++ dktX0_areSo_1
theorem dksX0_areSo_0 : cX0_areSo.data.toList.drop 0 = dktX0_areSo_0 := by decide +kernel
theorem dksX0_areSo_1 : cX0_areSo.data.toList.drop 22 = dktX0_areSo_1 := dk_seg dksX0_areSo_0 22 rfl rfl
theorem dksX0_areSo_2 : cX0_areSo.data.toList.drop 45 = dktX0_areSo_2 := dk_seg dksX0_areSo_1 23 rfl rfl
theorem dX0_areSo_0 : decode cX0_areSo 0 = .ok (.iconst 0, 1) := dk_3 (dk_at dksX0_areSo_0 0 rfl rfl)
theorem dX0_areSo_1 : decode cX0_areSo 1 = .ok (.istore_n 1, 1) := dk_60 (dk_at dksX0_areSo_0 1 rfl rfl)
theorem dX0_areSo_2 : decode cX0_areSo 2 = .ok (.iload_n 1, 1) := dk_27 (dk_at dksX0_areSo_0 2 rfl rfl)
theorem dX0_areSo_3 : decode cX0_areSo 3 = .ok (.aload_n 0, 1) := dk_42 (dk_at dksX0_areSo_0 3 rfl rfl)
theorem dX0_areSo_4 : decode cX0_areSo 4 = .ok (.getfield 313, 3) := dk_180 1 57 (dk_at dksX0_areSo_0 4 rfl rfl)
theorem dX0_areSo_7 : decode cX0_areSo 7 = .ok (.if_icmp .ge 41, 3) := dk_162 0 41 (dk_at dksX0_areSo_0 7 rfl rfl)
theorem dX0_areSo_10 : decode cX0_areSo 10 = .ok (.aload_n 0, 1) := dk_42 (dk_at dksX0_areSo_0 10 rfl rfl)
theorem dX0_areSo_11 : decode cX0_areSo 11 = .ok (.aload_n 0, 1) := dk_42 (dk_at dksX0_areSo_0 11 rfl rfl)
theorem dX0_areSo_12 : decode cX0_areSo 12 = .ok (.getfield 32, 3) := dk_180 0 32 (dk_at dksX0_areSo_0 12 rfl rfl)
theorem dX0_areSo_15 : decode cX0_areSo 15 = .ok (.aload_n 0, 1) := dk_42 (dk_at dksX0_areSo_0 15 rfl rfl)
theorem dX0_areSo_16 : decode cX0_areSo 16 = .ok (.getfield 60, 3) := dk_180 0 60 (dk_at dksX0_areSo_0 16 rfl rfl)
theorem dX0_areSo_19 : decode cX0_areSo 19 = .ok (.iload_n 1, 1) := dk_27 (dk_at dksX0_areSo_0 19 rfl rfl)
theorem dX0_areSo_20 : decode cX0_areSo 20 = .ok (.iaload, 1) := dk_46 (dk_at dksX0_areSo_0 20 rfl rfl)
theorem dX0_areSo_21 : decode cX0_areSo 21 = .ok (.aload_n 0, 1) := dk_42 (dk_at dksX0_areSo_0 21 rfl rfl)
theorem dX0_areSo_22 : decode cX0_areSo 22 = .ok (.getfield 32, 3) := dk_180 0 32 (dk_at dksX0_areSo_1 0 rfl rfl)
theorem dX0_areSo_25 : decode cX0_areSo 25 = .ok (.invokevirtual 225, 3) := dk_182 0 225 (dk_at dksX0_areSo_1 3 rfl rfl)
theorem dX0_areSo_28 : decode cX0_areSo 28 = .ok (.invokevirtual 228, 3) := dk_182 0 228 (dk_at dksX0_areSo_1 6 rfl rfl)
theorem dX0_areSo_31 : decode cX0_areSo 31 = .ok (.aload_n 0, 1) := dk_42 (dk_at dksX0_areSo_1 9 rfl rfl)
theorem dX0_areSo_32 : decode cX0_areSo 32 = .ok (.getfield 63, 3) := dk_180 0 63 (dk_at dksX0_areSo_1 10 rfl rfl)
theorem dX0_areSo_35 : decode cX0_areSo 35 = .ok (.iload_n 1, 1) := dk_27 (dk_at dksX0_areSo_1 13 rfl rfl)
theorem dX0_areSo_36 : decode cX0_areSo 36 = .ok (.iaload, 1) := dk_46 (dk_at dksX0_areSo_1 14 rfl rfl)
theorem dX0_areSo_37 : decode cX0_areSo 37 = .ok (.if_icmp .eq 5, 3) := dk_159 0 5 (dk_at dksX0_areSo_1 15 rfl rfl)
theorem dX0_areSo_40 : decode cX0_areSo 40 = .ok (.iconst 0, 1) := dk_3 (dk_at dksX0_areSo_1 18 rfl rfl)
theorem dX0_areSo_41 : decode cX0_areSo 41 = .ok (.ireturn, 1) := dk_172 (dk_at dksX0_areSo_1 19 rfl rfl)
theorem dX0_areSo_42 : decode cX0_areSo 42 = .ok (.iinc 1 1, 3) := dk_132 1 1 (dk_at dksX0_areSo_1 20 rfl rfl)
theorem dX0_areSo_45 : decode cX0_areSo 45 = .ok (.goto (-43), 3) := dk_167 255 213 (dk_at dksX0_areSo_2 0 rfl rfl)
theorem dX0_areSo_48 : decode cX0_areSo 48 = .ok (.iconst 1, 1) := dk_4 (dk_at dksX0_areSo_2 3 rfl rfl)
theorem dX0_areSo_49 : decode cX0_areSo 49 = .ok (.ireturn, 1) := dk_172 (dk_at dksX0_areSo_2 4 rfl rfl)
abbrev cX0_kept : ByteArray := prog_1_method_36_code
def yX0_kept : MethodName := ⟨RX0, "kept", "(II)I"⟩
def dkwX0_kept_5 : List UInt8 := [126, 182, 0, 228, 28, 161, 0, 6, 21, 4, 62, 132, 4, 1, 167, 255, 172, 29, 172]
abbrev dktX0_kept_5 : List UInt8 := dkwX0_kept_5 ++ []
def dkwX0_kept_4 : List UInt8 := [27, 184, 0, 202, 154, 0, 31, 42, 42, 180, 0, 28, 27, 42, 180, 0, 28, 182, 0, 225, 21, 4, 2, 130]
abbrev dktX0_kept_4 : List UInt8 := dkwX0_kept_4 ++ dktX0_kept_5
def dkwX0_kept_3 : List UInt8 := [184, 1, 51, 29, 184, 1, 51, 162, 0, 7, 4, 167, 0, 4, 3, 54, 5, 21, 5, 153, 0, 40, 21, 4]
abbrev dktX0_kept_3 : List UInt8 := dkwX0_kept_3 ++ dktX0_kept_4
def dkwX0_kept_2 : List UInt8 := [21, 4, 4, 42, 180, 0, 28, 180, 0, 115, 120, 162, 0, 76, 29, 16, 251, 159, 0, 15, 21, 4]
abbrev dktX0_kept_2 : List UInt8 := dkwX0_kept_2 ++ dktX0_kept_3
def dkwX0_kept_1 : List UInt8 := [27, 182, 0, 238, 153, 0, 6, 16, 251, 172, 42, 42, 180, 0, 28, 182, 0, 234, 16, 251, 62, 3, 54, 4]
abbrev dktX0_kept_1 : List UInt8 := dkwX0_kept_1 ++ dktX0_kept_2
def dkwX0_kept_0 : List UInt8 := [42, 27, 182, 1, 5, 154, 0, 5, 2, 172, 28, 184, 1, 15, 154, 0, 6, 16, 254, 172, 42, 180, 0, 28]
abbrev dktX0_kept_0 : List UInt8 := dkwX0_kept_0 ++ dktX0_kept_1
theorem dksX0_kept_0 : cX0_kept.data.toList.drop 0 = dktX0_kept_0 := by decide +kernel
theorem dksX0_kept_1 : cX0_kept.data.toList.drop 24 = dktX0_kept_1 := dk_seg dksX0_kept_0 24 rfl rfl
theorem dksX0_kept_2 : cX0_kept.data.toList.drop 48 = dktX0_kept_2 := dk_seg dksX0_kept_1 24 rfl rfl
theorem dksX0_kept_3 : cX0_kept.data.toList.drop 70 = dktX0_kept_3 := dk_seg dksX0_kept_2 22 rfl rfl
theorem dksX0_kept_4 : cX0_kept.data.toList.drop 94 = dktX0_kept_4 := dk_seg dksX0_kept_3 24 rfl rfl
theorem dksX0_kept_5 : cX0_kept.data.toList.drop 118 = dktX0_kept_5 := dk_seg dksX0_kept_4 24 rfl rfl
theorem dX0_kept_0 : decode cX0_kept 0 = .ok (.aload_n 0, 1) := dk_42 (dk_at dksX0_kept_0 0 rfl rfl)
theorem dX0_kept_1 : decode cX0_kept 1 = .ok (.iload_n 1, 1) := dk_27 (dk_at dksX0_kept_0 1 rfl rfl)
theorem dX0_kept_2 : decode cX0_kept 2 = .ok (.invokevirtual 261, 3) := dk_182 1 5 (dk_at dksX0_kept_0 2 rfl rfl)
theorem dX0_kept_5 : decode cX0_kept 5 = .ok (.ifCond .ne 5, 3) := dk_154 0 5 (dk_at dksX0_kept_0 5 rfl rfl)
theorem dX0_kept_8 : decode cX0_kept 8 = .ok (.iconst (-1), 1) := dk_2 (dk_at dksX0_kept_0 8 rfl rfl)
theorem dX0_kept_9 : decode cX0_kept 9 = .ok (.ireturn, 1) := dk_172 (dk_at dksX0_kept_0 9 rfl rfl)
theorem dX0_kept_10 : decode cX0_kept 10 = .ok (.iload_n 2, 1) := dk_28 (dk_at dksX0_kept_0 10 rfl rfl)
theorem dX0_kept_11 : decode cX0_kept 11 = .ok (.invokestatic 271, 3) := dk_184 1 15 (dk_at dksX0_kept_0 11 rfl rfl)
theorem dX0_kept_14 : decode cX0_kept 14 = .ok (.ifCond .ne 6, 3) := dk_154 0 6 (dk_at dksX0_kept_0 14 rfl rfl)
theorem dX0_kept_17 : decode cX0_kept 17 = .ok (.bipush (-2), 2) := dk_16 254 (dk_at dksX0_kept_0 17 rfl rfl)
theorem dX0_kept_19 : decode cX0_kept 19 = .ok (.ireturn, 1) := dk_172 (dk_at dksX0_kept_0 19 rfl rfl)
theorem dX0_kept_20 : decode cX0_kept 20 = .ok (.aload_n 0, 1) := dk_42 (dk_at dksX0_kept_0 20 rfl rfl)
theorem dX0_kept_21 : decode cX0_kept 21 = .ok (.getfield 28, 3) := dk_180 0 28 (dk_at dksX0_kept_0 21 rfl rfl)
theorem dX0_kept_24 : decode cX0_kept 24 = .ok (.iload_n 1, 1) := dk_27 (dk_at dksX0_kept_1 0 rfl rfl)
theorem dX0_kept_25 : decode cX0_kept 25 = .ok (.invokevirtual 238, 3) := dk_182 0 238 (dk_at dksX0_kept_1 1 rfl rfl)
theorem dX0_kept_28 : decode cX0_kept 28 = .ok (.ifCond .eq 6, 3) := dk_153 0 6 (dk_at dksX0_kept_1 4 rfl rfl)
theorem dX0_kept_31 : decode cX0_kept 31 = .ok (.bipush (-5), 2) := dk_16 251 (dk_at dksX0_kept_1 7 rfl rfl)
theorem dX0_kept_33 : decode cX0_kept 33 = .ok (.ireturn, 1) := dk_172 (dk_at dksX0_kept_1 9 rfl rfl)
theorem dX0_kept_34 : decode cX0_kept 34 = .ok (.aload_n 0, 1) := dk_42 (dk_at dksX0_kept_1 10 rfl rfl)
theorem dX0_kept_35 : decode cX0_kept 35 = .ok (.aload_n 0, 1) := dk_42 (dk_at dksX0_kept_1 11 rfl rfl)
theorem dX0_kept_36 : decode cX0_kept 36 = .ok (.getfield 28, 3) := dk_180 0 28 (dk_at dksX0_kept_1 12 rfl rfl)
theorem dX0_kept_39 : decode cX0_kept 39 = .ok (.invokevirtual 234, 3) := dk_182 0 234 (dk_at dksX0_kept_1 15 rfl rfl)
theorem dX0_kept_42 : decode cX0_kept 42 = .ok (.bipush (-5), 2) := dk_16 251 (dk_at dksX0_kept_1 18 rfl rfl)
theorem dX0_kept_44 : decode cX0_kept 44 = .ok (.istore_n 3, 1) := dk_62 (dk_at dksX0_kept_1 20 rfl rfl)
theorem dX0_kept_45 : decode cX0_kept 45 = .ok (.iconst 0, 1) := dk_3 (dk_at dksX0_kept_1 21 rfl rfl)
theorem dX0_kept_46 : decode cX0_kept 46 = .ok (.istore 4, 2) := dk_54 4 (dk_at dksX0_kept_1 22 rfl rfl)
theorem dX0_kept_48 : decode cX0_kept 48 = .ok (.iload 4, 2) := dk_21 4 (dk_at dksX0_kept_2 0 rfl rfl)
theorem dX0_kept_50 : decode cX0_kept 50 = .ok (.iconst 1, 1) := dk_4 (dk_at dksX0_kept_2 2 rfl rfl)
theorem dX0_kept_51 : decode cX0_kept 51 = .ok (.aload_n 0, 1) := dk_42 (dk_at dksX0_kept_2 3 rfl rfl)
theorem dX0_kept_52 : decode cX0_kept 52 = .ok (.getfield 28, 3) := dk_180 0 28 (dk_at dksX0_kept_2 4 rfl rfl)
theorem dX0_kept_55 : decode cX0_kept 55 = .ok (.getfield 115, 3) := dk_180 0 115 (dk_at dksX0_kept_2 7 rfl rfl)
theorem dX0_kept_58 : decode cX0_kept 58 = .ok (.ishl, 1) := dk_120 (dk_at dksX0_kept_2 10 rfl rfl)
theorem dX0_kept_59 : decode cX0_kept 59 = .ok (.if_icmp .ge 76, 3) := dk_162 0 76 (dk_at dksX0_kept_2 11 rfl rfl)
theorem dX0_kept_62 : decode cX0_kept 62 = .ok (.iload_n 3, 1) := dk_29 (dk_at dksX0_kept_2 14 rfl rfl)
theorem dX0_kept_63 : decode cX0_kept 63 = .ok (.bipush (-5), 2) := dk_16 251 (dk_at dksX0_kept_2 15 rfl rfl)
theorem dX0_kept_65 : decode cX0_kept 65 = .ok (.if_icmp .eq 15, 3) := dk_159 0 15 (dk_at dksX0_kept_2 17 rfl rfl)
theorem dX0_kept_68 : decode cX0_kept 68 = .ok (.iload 4, 2) := dk_21 4 (dk_at dksX0_kept_2 20 rfl rfl)
theorem dX0_kept_70 : decode cX0_kept 70 = .ok (.invokestatic 307, 3) := dk_184 1 51 (dk_at dksX0_kept_3 0 rfl rfl)
theorem dX0_kept_73 : decode cX0_kept 73 = .ok (.iload_n 3, 1) := dk_29 (dk_at dksX0_kept_3 3 rfl rfl)
theorem dX0_kept_74 : decode cX0_kept 74 = .ok (.invokestatic 307, 3) := dk_184 1 51 (dk_at dksX0_kept_3 4 rfl rfl)
theorem dX0_kept_77 : decode cX0_kept 77 = .ok (.if_icmp .ge 7, 3) := dk_162 0 7 (dk_at dksX0_kept_3 7 rfl rfl)
theorem dX0_kept_80 : decode cX0_kept 80 = .ok (.iconst 1, 1) := dk_4 (dk_at dksX0_kept_3 10 rfl rfl)
theorem dX0_kept_81 : decode cX0_kept 81 = .ok (.goto 4, 3) := dk_167 0 4 (dk_at dksX0_kept_3 11 rfl rfl)
theorem dX0_kept_84 : decode cX0_kept 84 = .ok (.iconst 0, 1) := dk_3 (dk_at dksX0_kept_3 14 rfl rfl)
theorem dX0_kept_85 : decode cX0_kept 85 = .ok (.istore 5, 2) := dk_54 5 (dk_at dksX0_kept_3 15 rfl rfl)
theorem dX0_kept_87 : decode cX0_kept 87 = .ok (.iload 5, 2) := dk_21 5 (dk_at dksX0_kept_3 17 rfl rfl)
theorem dX0_kept_89 : decode cX0_kept 89 = .ok (.ifCond .eq 40, 3) := dk_153 0 40 (dk_at dksX0_kept_3 19 rfl rfl)
theorem dX0_kept_92 : decode cX0_kept 92 = .ok (.iload 4, 2) := dk_21 4 (dk_at dksX0_kept_3 22 rfl rfl)
theorem dX0_kept_94 : decode cX0_kept 94 = .ok (.iload_n 1, 1) := dk_27 (dk_at dksX0_kept_4 0 rfl rfl)
theorem dX0_kept_95 : decode cX0_kept 95 = .ok (.invokestatic 202, 3) := dk_184 0 202 (dk_at dksX0_kept_4 1 rfl rfl)
theorem dX0_kept_98 : decode cX0_kept 98 = .ok (.ifCond .ne 31, 3) := dk_154 0 31 (dk_at dksX0_kept_4 4 rfl rfl)
theorem dX0_kept_101 : decode cX0_kept 101 = .ok (.aload_n 0, 1) := dk_42 (dk_at dksX0_kept_4 7 rfl rfl)
theorem dX0_kept_102 : decode cX0_kept 102 = .ok (.aload_n 0, 1) := dk_42 (dk_at dksX0_kept_4 8 rfl rfl)
theorem dX0_kept_103 : decode cX0_kept 103 = .ok (.getfield 28, 3) := dk_180 0 28 (dk_at dksX0_kept_4 9 rfl rfl)
theorem dX0_kept_106 : decode cX0_kept 106 = .ok (.iload_n 1, 1) := dk_27 (dk_at dksX0_kept_4 12 rfl rfl)
theorem dX0_kept_107 : decode cX0_kept 107 = .ok (.aload_n 0, 1) := dk_42 (dk_at dksX0_kept_4 13 rfl rfl)
theorem dX0_kept_108 : decode cX0_kept 108 = .ok (.getfield 28, 3) := dk_180 0 28 (dk_at dksX0_kept_4 14 rfl rfl)
theorem dX0_kept_111 : decode cX0_kept 111 = .ok (.invokevirtual 225, 3) := dk_182 0 225 (dk_at dksX0_kept_4 17 rfl rfl)
theorem dX0_kept_114 : decode cX0_kept 114 = .ok (.iload 4, 2) := dk_21 4 (dk_at dksX0_kept_4 20 rfl rfl)
theorem dX0_kept_116 : decode cX0_kept 116 = .ok (.iconst (-1), 1) := dk_2 (dk_at dksX0_kept_4 22 rfl rfl)
theorem dX0_kept_117 : decode cX0_kept 117 = .ok (.ixor, 1) := dk_130 (dk_at dksX0_kept_4 23 rfl rfl)
theorem dX0_kept_118 : decode cX0_kept 118 = .ok (.iand, 1) := dk_126 (dk_at dksX0_kept_5 0 rfl rfl)
theorem dX0_kept_119 : decode cX0_kept 119 = .ok (.invokevirtual 228, 3) := dk_182 0 228 (dk_at dksX0_kept_5 1 rfl rfl)
theorem dX0_kept_122 : decode cX0_kept 122 = .ok (.iload_n 2, 1) := dk_28 (dk_at dksX0_kept_5 4 rfl rfl)
theorem dX0_kept_123 : decode cX0_kept 123 = .ok (.if_icmp .lt 6, 3) := dk_161 0 6 (dk_at dksX0_kept_5 5 rfl rfl)
theorem dX0_kept_126 : decode cX0_kept 126 = .ok (.iload 4, 2) := dk_21 4 (dk_at dksX0_kept_5 8 rfl rfl)
theorem dX0_kept_128 : decode cX0_kept 128 = .ok (.istore_n 3, 1) := dk_62 (dk_at dksX0_kept_5 10 rfl rfl)
theorem dX0_kept_129 : decode cX0_kept 129 = .ok (.iinc 4 1, 3) := dk_132 4 1 (dk_at dksX0_kept_5 11 rfl rfl)
theorem dX0_kept_132 : decode cX0_kept 132 = .ok (.goto (-84), 3) := dk_167 255 172 (dk_at dksX0_kept_5 14 rfl rfl)
theorem dX0_kept_135 : decode cX0_kept 135 = .ok (.iload_n 3, 1) := dk_29 (dk_at dksX0_kept_5 17 rfl rfl)
theorem dX0_kept_136 : decode cX0_kept 136 = .ok (.ireturn, 1) := dk_172 (dk_at dksX0_kept_5 18 rfl rfl)
abbrev cX0_see : ByteArray := prog_1_method_37_code
def yX0_see : MethodName := ⟨RX0, "see", "(II)I"⟩
def dkwX0_see_3 : List UInt8 := [180, 1, 57, 172]
abbrev dktX0_see_3 : List UInt8 := dkwX0_see_3 ++ []
def dkwX0_see_2 : List UInt8 := [42, 180, 1, 57, 27, 79, 42, 180, 0, 63, 42, 89, 180, 1, 57, 90, 4, 96, 181, 1, 57, 28, 79, 42]
abbrev dktX0_see_2 : List UInt8 := dkwX0_see_2 ++ dktX0_see_3
def dkwX0_see_1 : List UInt8 := [184, 1, 15, 154, 0, 6, 16, 254, 172, 42, 180, 1, 57, 8, 160, 0, 6, 16, 252, 172, 42, 180, 0, 60]
abbrev dktX0_see_1 : List UInt8 := dkwX0_see_1 ++ dktX0_see_2
def dkwX0_see_0 : List UInt8 := [27, 2, 160, 0, 10, 42, 3, 181, 1, 57, 3, 172, 42, 27, 182, 1, 5, 154, 0, 5, 2, 172, 28]
abbrev dktX0_see_0 : List UInt8 := dkwX0_see_0 ++ dktX0_see_1
theorem dksX0_see_0 : cX0_see.data.toList.drop 0 = dktX0_see_0 := by decide +kernel
theorem dksX0_see_1 : cX0_see.data.toList.drop 23 = dktX0_see_1 := dk_seg dksX0_see_0 23 rfl rfl
theorem dksX0_see_2 : cX0_see.data.toList.drop 47 = dktX0_see_2 := dk_seg dksX0_see_1 24 rfl rfl
theorem dksX0_see_3 : cX0_see.data.toList.drop 71 = dktX0_see_3 := dk_seg dksX0_see_2 24 rfl rfl
theorem dX0_see_0 : decode cX0_see 0 = .ok (.iload_n 1, 1) := dk_27 (dk_at dksX0_see_0 0 rfl rfl)
theorem dX0_see_1 : decode cX0_see 1 = .ok (.iconst (-1), 1) := dk_2 (dk_at dksX0_see_0 1 rfl rfl)
theorem dX0_see_2 : decode cX0_see 2 = .ok (.if_icmp .ne 10, 3) := dk_160 0 10 (dk_at dksX0_see_0 2 rfl rfl)
theorem dX0_see_5 : decode cX0_see 5 = .ok (.aload_n 0, 1) := dk_42 (dk_at dksX0_see_0 5 rfl rfl)
theorem dX0_see_6 : decode cX0_see 6 = .ok (.iconst 0, 1) := dk_3 (dk_at dksX0_see_0 6 rfl rfl)
theorem dX0_see_7 : decode cX0_see 7 = .ok (.putfield 313, 3) := dk_181 1 57 (dk_at dksX0_see_0 7 rfl rfl)
theorem dX0_see_10 : decode cX0_see 10 = .ok (.iconst 0, 1) := dk_3 (dk_at dksX0_see_0 10 rfl rfl)
theorem dX0_see_11 : decode cX0_see 11 = .ok (.ireturn, 1) := dk_172 (dk_at dksX0_see_0 11 rfl rfl)
theorem dX0_see_12 : decode cX0_see 12 = .ok (.aload_n 0, 1) := dk_42 (dk_at dksX0_see_0 12 rfl rfl)
theorem dX0_see_13 : decode cX0_see 13 = .ok (.iload_n 1, 1) := dk_27 (dk_at dksX0_see_0 13 rfl rfl)
theorem dX0_see_14 : decode cX0_see 14 = .ok (.invokevirtual 261, 3) := dk_182 1 5 (dk_at dksX0_see_0 14 rfl rfl)
theorem dX0_see_17 : decode cX0_see 17 = .ok (.ifCond .ne 5, 3) := dk_154 0 5 (dk_at dksX0_see_0 17 rfl rfl)
theorem dX0_see_20 : decode cX0_see 20 = .ok (.iconst (-1), 1) := dk_2 (dk_at dksX0_see_0 20 rfl rfl)
theorem dX0_see_21 : decode cX0_see 21 = .ok (.ireturn, 1) := dk_172 (dk_at dksX0_see_0 21 rfl rfl)
theorem dX0_see_22 : decode cX0_see 22 = .ok (.iload_n 2, 1) := dk_28 (dk_at dksX0_see_0 22 rfl rfl)
theorem dX0_see_23 : decode cX0_see 23 = .ok (.invokestatic 271, 3) := dk_184 1 15 (dk_at dksX0_see_1 0 rfl rfl)
theorem dX0_see_26 : decode cX0_see 26 = .ok (.ifCond .ne 6, 3) := dk_154 0 6 (dk_at dksX0_see_1 3 rfl rfl)
theorem dX0_see_29 : decode cX0_see 29 = .ok (.bipush (-2), 2) := dk_16 254 (dk_at dksX0_see_1 6 rfl rfl)
theorem dX0_see_31 : decode cX0_see 31 = .ok (.ireturn, 1) := dk_172 (dk_at dksX0_see_1 8 rfl rfl)
theorem dX0_see_32 : decode cX0_see 32 = .ok (.aload_n 0, 1) := dk_42 (dk_at dksX0_see_1 9 rfl rfl)
theorem dX0_see_33 : decode cX0_see 33 = .ok (.getfield 313, 3) := dk_180 1 57 (dk_at dksX0_see_1 10 rfl rfl)
theorem dX0_see_36 : decode cX0_see 36 = .ok (.iconst 5, 1) := dk_8 (dk_at dksX0_see_1 13 rfl rfl)
theorem dX0_see_37 : decode cX0_see 37 = .ok (.if_icmp .ne 6, 3) := dk_160 0 6 (dk_at dksX0_see_1 14 rfl rfl)
theorem dX0_see_40 : decode cX0_see 40 = .ok (.bipush (-4), 2) := dk_16 252 (dk_at dksX0_see_1 17 rfl rfl)
theorem dX0_see_42 : decode cX0_see 42 = .ok (.ireturn, 1) := dk_172 (dk_at dksX0_see_1 19 rfl rfl)
theorem dX0_see_43 : decode cX0_see 43 = .ok (.aload_n 0, 1) := dk_42 (dk_at dksX0_see_1 20 rfl rfl)
theorem dX0_see_44 : decode cX0_see 44 = .ok (.getfield 60, 3) := dk_180 0 60 (dk_at dksX0_see_1 21 rfl rfl)
theorem dX0_see_47 : decode cX0_see 47 = .ok (.aload_n 0, 1) := dk_42 (dk_at dksX0_see_2 0 rfl rfl)
theorem dX0_see_48 : decode cX0_see 48 = .ok (.getfield 313, 3) := dk_180 1 57 (dk_at dksX0_see_2 1 rfl rfl)
theorem dX0_see_51 : decode cX0_see 51 = .ok (.iload_n 1, 1) := dk_27 (dk_at dksX0_see_2 4 rfl rfl)
theorem dX0_see_52 : decode cX0_see 52 = .ok (.iastore, 1) := dk_79 (dk_at dksX0_see_2 5 rfl rfl)
theorem dX0_see_53 : decode cX0_see 53 = .ok (.aload_n 0, 1) := dk_42 (dk_at dksX0_see_2 6 rfl rfl)
theorem dX0_see_54 : decode cX0_see 54 = .ok (.getfield 63, 3) := dk_180 0 63 (dk_at dksX0_see_2 7 rfl rfl)
theorem dX0_see_57 : decode cX0_see 57 = .ok (.aload_n 0, 1) := dk_42 (dk_at dksX0_see_2 10 rfl rfl)
theorem dX0_see_58 : decode cX0_see 58 = .ok (.dup, 1) := dk_89 (dk_at dksX0_see_2 11 rfl rfl)
theorem dX0_see_59 : decode cX0_see 59 = .ok (.getfield 313, 3) := dk_180 1 57 (dk_at dksX0_see_2 12 rfl rfl)
theorem dX0_see_62 : decode cX0_see 62 = .ok (.dup_x1, 1) := dk_90 (dk_at dksX0_see_2 15 rfl rfl)
theorem dX0_see_63 : decode cX0_see 63 = .ok (.iconst 1, 1) := dk_4 (dk_at dksX0_see_2 16 rfl rfl)
theorem dX0_see_64 : decode cX0_see 64 = .ok (.iadd, 1) := dk_96 (dk_at dksX0_see_2 17 rfl rfl)
theorem dX0_see_65 : decode cX0_see 65 = .ok (.putfield 313, 3) := dk_181 1 57 (dk_at dksX0_see_2 18 rfl rfl)
theorem dX0_see_68 : decode cX0_see 68 = .ok (.iload_n 2, 1) := dk_28 (dk_at dksX0_see_2 21 rfl rfl)
theorem dX0_see_69 : decode cX0_see 69 = .ok (.iastore, 1) := dk_79 (dk_at dksX0_see_2 22 rfl rfl)
theorem dX0_see_70 : decode cX0_see 70 = .ok (.aload_n 0, 1) := dk_42 (dk_at dksX0_see_2 23 rfl rfl)
theorem dX0_see_71 : decode cX0_see 71 = .ok (.getfield 313, 3) := dk_180 1 57 (dk_at dksX0_see_3 0 rfl rfl)
theorem dX0_see_74 : decode cX0_see 74 = .ok (.ireturn, 1) := dk_172 (dk_at dksX0_see_3 3 rfl rfl)
abbrev cX0_can : ByteArray := prog_1_method_40_code
def yX0_can : MethodName := ⟨RX0, "can", "(II)I"⟩
def dkwX0_can_5 : List UInt8 := [172, 58, 7, 42, 180, 0, 17, 27, 50, 29, 181, 0, 171, 25, 7, 191]
abbrev dktX0_can_5 : List UInt8 := dkwX0_can_5 ++ []
def dkwX0_can_4 : List UInt8 := [154, 0, 8, 21, 4, 167, 0, 5, 21, 5, 54, 6, 42, 180, 0, 17, 27, 50, 29, 181, 0, 171, 21, 6]
abbrev dktX0_can_4 : List UInt8 := dkwX0_can_4 ++ dktX0_can_5
def dkwX0_can_3 : List UInt8 := [182, 1, 60, 154, 0, 6, 167, 0, 10, 132, 4, 1, 21, 6, 54, 5, 132, 6, 255, 167, 255, 212, 28]
abbrev dktX0_can_3 : List UInt8 := dkwX0_can_3 ++ dktX0_can_4
def dkwX0_can_2 : List UInt8 := [155, 0, 45, 42, 180, 0, 17, 27, 50, 21, 6, 181, 0, 171, 42, 42, 180, 0, 32, 182, 0, 234, 42]
abbrev dktX0_can_2 : List UInt8 := dkwX0_can_2 ++ dktX0_can_3
def dkwX0_can_1 : List UInt8 := [50, 180, 0, 171, 62, 3, 54, 4, 16, 251, 54, 5, 42, 3, 182, 1, 8, 16, 9, 54, 6, 21, 6]
abbrev dktX0_can_1 : List UInt8 := dkwX0_can_1 ++ dktX0_can_2
def dkwX0_can_0 : List UInt8 := [42, 27, 182, 1, 5, 153, 0, 12, 28, 3, 4, 184, 0, 5, 154, 0, 5, 2, 172, 42, 180, 0, 17, 27]
abbrev dktX0_can_0 : List UInt8 := dkwX0_can_0 ++ dktX0_can_1
theorem dksX0_can_0 : cX0_can.data.toList.drop 0 = dktX0_can_0 := by decide +kernel
theorem dksX0_can_1 : cX0_can.data.toList.drop 24 = dktX0_can_1 := dk_seg dksX0_can_0 24 rfl rfl
theorem dksX0_can_2 : cX0_can.data.toList.drop 47 = dktX0_can_2 := dk_seg dksX0_can_1 23 rfl rfl
theorem dksX0_can_3 : cX0_can.data.toList.drop 70 = dktX0_can_3 := dk_seg dksX0_can_2 23 rfl rfl
theorem dksX0_can_4 : cX0_can.data.toList.drop 93 = dktX0_can_4 := dk_seg dksX0_can_3 23 rfl rfl
theorem dksX0_can_5 : cX0_can.data.toList.drop 117 = dktX0_can_5 := dk_seg dksX0_can_4 24 rfl rfl
theorem dX0_can_0 : decode cX0_can 0 = .ok (.aload_n 0, 1) := dk_42 (dk_at dksX0_can_0 0 rfl rfl)
theorem dX0_can_1 : decode cX0_can 1 = .ok (.iload_n 1, 1) := dk_27 (dk_at dksX0_can_0 1 rfl rfl)
theorem dX0_can_2 : decode cX0_can 2 = .ok (.invokevirtual 261, 3) := dk_182 1 5 (dk_at dksX0_can_0 2 rfl rfl)
theorem dX0_can_5 : decode cX0_can 5 = .ok (.ifCond .eq 12, 3) := dk_153 0 12 (dk_at dksX0_can_0 5 rfl rfl)
theorem dX0_can_8 : decode cX0_can 8 = .ok (.iload_n 2, 1) := dk_28 (dk_at dksX0_can_0 8 rfl rfl)
theorem dX0_can_9 : decode cX0_can 9 = .ok (.iconst 0, 1) := dk_3 (dk_at dksX0_can_0 9 rfl rfl)
theorem dX0_can_10 : decode cX0_can 10 = .ok (.iconst 1, 1) := dk_4 (dk_at dksX0_can_0 10 rfl rfl)
theorem dX0_can_11 : decode cX0_can 11 = .ok (.invokestatic 5, 3) := dk_184 0 5 (dk_at dksX0_can_0 11 rfl rfl)
theorem dX0_can_14 : decode cX0_can 14 = .ok (.ifCond .ne 5, 3) := dk_154 0 5 (dk_at dksX0_can_0 14 rfl rfl)
theorem dX0_can_17 : decode cX0_can 17 = .ok (.iconst (-1), 1) := dk_2 (dk_at dksX0_can_0 17 rfl rfl)
theorem dX0_can_18 : decode cX0_can 18 = .ok (.ireturn, 1) := dk_172 (dk_at dksX0_can_0 18 rfl rfl)
theorem dX0_can_19 : decode cX0_can 19 = .ok (.aload_n 0, 1) := dk_42 (dk_at dksX0_can_0 19 rfl rfl)
theorem dX0_can_20 : decode cX0_can 20 = .ok (.getfield 17, 3) := dk_180 0 17 (dk_at dksX0_can_0 20 rfl rfl)
theorem dX0_can_23 : decode cX0_can 23 = .ok (.iload_n 1, 1) := dk_27 (dk_at dksX0_can_0 23 rfl rfl)
theorem dX0_can_24 : decode cX0_can 24 = .ok (.aaload, 1) := dk_50 (dk_at dksX0_can_1 0 rfl rfl)
theorem dX0_can_25 : decode cX0_can 25 = .ok (.getfield 171, 3) := dk_180 0 171 (dk_at dksX0_can_1 1 rfl rfl)
theorem dX0_can_28 : decode cX0_can 28 = .ok (.istore_n 3, 1) := dk_62 (dk_at dksX0_can_1 4 rfl rfl)
theorem dX0_can_29 : decode cX0_can 29 = .ok (.iconst 0, 1) := dk_3 (dk_at dksX0_can_1 5 rfl rfl)
theorem dX0_can_30 : decode cX0_can 30 = .ok (.istore 4, 2) := dk_54 4 (dk_at dksX0_can_1 6 rfl rfl)
theorem dX0_can_32 : decode cX0_can 32 = .ok (.bipush (-5), 2) := dk_16 251 (dk_at dksX0_can_1 8 rfl rfl)
theorem dX0_can_34 : decode cX0_can 34 = .ok (.istore 5, 2) := dk_54 5 (dk_at dksX0_can_1 10 rfl rfl)
theorem dX0_can_36 : decode cX0_can 36 = .ok (.aload_n 0, 1) := dk_42 (dk_at dksX0_can_1 12 rfl rfl)
theorem dX0_can_37 : decode cX0_can 37 = .ok (.iconst 0, 1) := dk_3 (dk_at dksX0_can_1 13 rfl rfl)
theorem dX0_can_38 : decode cX0_can 38 = .ok (.invokevirtual 264, 3) := dk_182 1 8 (dk_at dksX0_can_1 14 rfl rfl)
theorem dX0_can_41 : decode cX0_can 41 = .ok (.bipush 9, 2) := dk_16 9 (dk_at dksX0_can_1 17 rfl rfl)
theorem dX0_can_43 : decode cX0_can 43 = .ok (.istore 6, 2) := dk_54 6 (dk_at dksX0_can_1 19 rfl rfl)
theorem dX0_can_45 : decode cX0_can 45 = .ok (.iload 6, 2) := dk_21 6 (dk_at dksX0_can_1 21 rfl rfl)
theorem dX0_can_47 : decode cX0_can 47 = .ok (.ifCond .lt 45, 3) := dk_155 0 45 (dk_at dksX0_can_2 0 rfl rfl)
theorem dX0_can_50 : decode cX0_can 50 = .ok (.aload_n 0, 1) := dk_42 (dk_at dksX0_can_2 3 rfl rfl)
theorem dX0_can_51 : decode cX0_can 51 = .ok (.getfield 17, 3) := dk_180 0 17 (dk_at dksX0_can_2 4 rfl rfl)
theorem dX0_can_54 : decode cX0_can 54 = .ok (.iload_n 1, 1) := dk_27 (dk_at dksX0_can_2 7 rfl rfl)
theorem dX0_can_55 : decode cX0_can 55 = .ok (.aaload, 1) := dk_50 (dk_at dksX0_can_2 8 rfl rfl)
theorem dX0_can_56 : decode cX0_can 56 = .ok (.iload 6, 2) := dk_21 6 (dk_at dksX0_can_2 9 rfl rfl)
theorem dX0_can_58 : decode cX0_can 58 = .ok (.putfield 171, 3) := dk_181 0 171 (dk_at dksX0_can_2 11 rfl rfl)
theorem dX0_can_61 : decode cX0_can 61 = .ok (.aload_n 0, 1) := dk_42 (dk_at dksX0_can_2 14 rfl rfl)
theorem dX0_can_62 : decode cX0_can 62 = .ok (.aload_n 0, 1) := dk_42 (dk_at dksX0_can_2 15 rfl rfl)
theorem dX0_can_63 : decode cX0_can 63 = .ok (.getfield 32, 3) := dk_180 0 32 (dk_at dksX0_can_2 16 rfl rfl)
theorem dX0_can_66 : decode cX0_can 66 = .ok (.invokevirtual 234, 3) := dk_182 0 234 (dk_at dksX0_can_2 19 rfl rfl)
theorem dX0_can_69 : decode cX0_can 69 = .ok (.aload_n 0, 1) := dk_42 (dk_at dksX0_can_2 22 rfl rfl)
theorem dX0_can_70 : decode cX0_can 70 = .ok (.invokevirtual 316, 3) := dk_182 1 60 (dk_at dksX0_can_3 0 rfl rfl)
theorem dX0_can_73 : decode cX0_can 73 = .ok (.ifCond .ne 6, 3) := dk_154 0 6 (dk_at dksX0_can_3 3 rfl rfl)
theorem dX0_can_76 : decode cX0_can 76 = .ok (.goto 10, 3) := dk_167 0 10 (dk_at dksX0_can_3 6 rfl rfl)
theorem dX0_can_79 : decode cX0_can 79 = .ok (.iinc 4 1, 3) := dk_132 4 1 (dk_at dksX0_can_3 9 rfl rfl)
theorem dX0_can_82 : decode cX0_can 82 = .ok (.iload 6, 2) := dk_21 6 (dk_at dksX0_can_3 12 rfl rfl)
theorem dX0_can_84 : decode cX0_can 84 = .ok (.istore 5, 2) := dk_54 5 (dk_at dksX0_can_3 14 rfl rfl)
theorem dX0_can_86 : decode cX0_can 86 = .ok (.iinc 6 (-1), 3) := dk_132 6 255 (dk_at dksX0_can_3 16 rfl rfl)
theorem dX0_can_89 : decode cX0_can 89 = .ok (.goto (-44), 3) := dk_167 255 212 (dk_at dksX0_can_3 19 rfl rfl)
theorem dX0_can_92 : decode cX0_can 92 = .ok (.iload_n 2, 1) := dk_28 (dk_at dksX0_can_3 22 rfl rfl)
theorem dX0_can_93 : decode cX0_can 93 = .ok (.ifCond .ne 8, 3) := dk_154 0 8 (dk_at dksX0_can_4 0 rfl rfl)
theorem dX0_can_96 : decode cX0_can 96 = .ok (.iload 4, 2) := dk_21 4 (dk_at dksX0_can_4 3 rfl rfl)
theorem dX0_can_98 : decode cX0_can 98 = .ok (.goto 5, 3) := dk_167 0 5 (dk_at dksX0_can_4 5 rfl rfl)
theorem dX0_can_101 : decode cX0_can 101 = .ok (.iload 5, 2) := dk_21 5 (dk_at dksX0_can_4 8 rfl rfl)
theorem dX0_can_103 : decode cX0_can 103 = .ok (.istore 6, 2) := dk_54 6 (dk_at dksX0_can_4 10 rfl rfl)
theorem dX0_can_105 : decode cX0_can 105 = .ok (.aload_n 0, 1) := dk_42 (dk_at dksX0_can_4 12 rfl rfl)
theorem dX0_can_106 : decode cX0_can 106 = .ok (.getfield 17, 3) := dk_180 0 17 (dk_at dksX0_can_4 13 rfl rfl)
theorem dX0_can_109 : decode cX0_can 109 = .ok (.iload_n 1, 1) := dk_27 (dk_at dksX0_can_4 16 rfl rfl)
theorem dX0_can_110 : decode cX0_can 110 = .ok (.aaload, 1) := dk_50 (dk_at dksX0_can_4 17 rfl rfl)
theorem dX0_can_111 : decode cX0_can 111 = .ok (.iload_n 3, 1) := dk_29 (dk_at dksX0_can_4 18 rfl rfl)
theorem dX0_can_112 : decode cX0_can 112 = .ok (.putfield 171, 3) := dk_181 0 171 (dk_at dksX0_can_4 19 rfl rfl)
theorem dX0_can_115 : decode cX0_can 115 = .ok (.iload 6, 2) := dk_21 6 (dk_at dksX0_can_4 22 rfl rfl)
theorem dX0_can_117 : decode cX0_can 117 = .ok (.ireturn, 1) := dk_172 (dk_at dksX0_can_5 0 rfl rfl)
theorem dX0_can_118 : decode cX0_can 118 = .ok (.astore 7, 2) := dk_58 7 (dk_at dksX0_can_5 1 rfl rfl)
theorem dX0_can_120 : decode cX0_can 120 = .ok (.aload_n 0, 1) := dk_42 (dk_at dksX0_can_5 3 rfl rfl)
theorem dX0_can_121 : decode cX0_can 121 = .ok (.getfield 17, 3) := dk_180 0 17 (dk_at dksX0_can_5 4 rfl rfl)
theorem dX0_can_124 : decode cX0_can 124 = .ok (.iload_n 1, 1) := dk_27 (dk_at dksX0_can_5 7 rfl rfl)
theorem dX0_can_125 : decode cX0_can 125 = .ok (.aaload, 1) := dk_50 (dk_at dksX0_can_5 8 rfl rfl)
theorem dX0_can_126 : decode cX0_can 126 = .ok (.iload_n 3, 1) := dk_29 (dk_at dksX0_can_5 9 rfl rfl)
theorem dX0_can_127 : decode cX0_can 127 = .ok (.putfield 171, 3) := dk_181 0 171 (dk_at dksX0_can_5 10 rfl rfl)
theorem dX0_can_130 : decode cX0_can 130 = .ok (.aload 7, 2) := dk_25 7 (dk_at dksX0_can_5 13 rfl rfl)
theorem dX0_can_132 : decode cX0_can 132 = .ok (.athrow, 1) := dk_191 (dk_at dksX0_can_5 15 rfl rfl)
abbrev cX0_odds : ByteArray := prog_1_method_43_code
def yX0_odds : MethodName := ⟨RX0, "odds", "(II)J"⟩
def dkwX0_odds_6 : List UInt8 := [97, 55, 5, 132, 7, 1, 167, 255, 198, 22, 5, 29, 184, 1, 51, 133, 28, 184, 1, 70, 173]
abbrev dktX0_odds_6 : List UInt8 := dkwX0_odds_6 ++ []
def dkwX0_odds_5 : List UInt8 := [180, 0, 28, 182, 0, 225, 4, 21, 7, 120, 2, 130, 126, 182, 0, 228, 21, 4, 164, 0, 9, 22, 5, 10]
abbrev dktX0_odds_5 : List UInt8 := dkwX0_odds_5 ++ dktX0_odds_6
def dkwX0_odds_4 : List UInt8 := [180, 0, 115, 162, 0, 52, 29, 21, 7, 184, 0, 202, 153, 0, 37, 42, 42, 180, 0, 28, 27, 42]
abbrev dktX0_odds_4 : List UInt8 := dkwX0_odds_4 ++ dktX0_odds_5
def dkwX0_odds_3 : List UInt8 := [180, 0, 28, 182, 0, 225, 182, 0, 228, 54, 4, 9, 55, 5, 3, 54, 7, 21, 7, 42, 180, 0, 28]
abbrev dktX0_odds_3 : List UInt8 := dkwX0_odds_3 ++ dktX0_odds_4
def dkwX0_odds_2 : List UInt8 := [29, 154, 0, 7, 20, 1, 68, 173, 42, 42, 180, 0, 28, 182, 0, 234, 42, 42, 180, 0, 28, 27, 42]
abbrev dktX0_odds_2 : List UInt8 := dkwX0_odds_2 ++ dktX0_odds_3
def dkwX0_odds_1 : List UInt8 := [180, 0, 28, 182, 0, 225, 4, 27, 120, 2, 130, 126, 62, 42, 180, 0, 28, 27, 182, 0, 238, 154, 0, 7]
abbrev dktX0_odds_1 : List UInt8 := dkwX0_odds_1 ++ dktX0_odds_2
def dkwX0_odds_0 : List UInt8 := [42, 27, 182, 1, 5, 153, 0, 12, 28, 3, 4, 184, 0, 5, 154, 0, 7, 20, 1, 68, 173, 42]
abbrev dktX0_odds_0 : List UInt8 := dkwX0_odds_0 ++ dktX0_odds_1
theorem dksX0_odds_0 : cX0_odds.data.toList.drop 0 = dktX0_odds_0 := by decide +kernel
theorem dksX0_odds_1 : cX0_odds.data.toList.drop 22 = dktX0_odds_1 := dk_seg dksX0_odds_0 22 rfl rfl
theorem dksX0_odds_2 : cX0_odds.data.toList.drop 46 = dktX0_odds_2 := dk_seg dksX0_odds_1 24 rfl rfl
theorem dksX0_odds_3 : cX0_odds.data.toList.drop 69 = dktX0_odds_3 := dk_seg dksX0_odds_2 23 rfl rfl
theorem dksX0_odds_4 : cX0_odds.data.toList.drop 92 = dktX0_odds_4 := dk_seg dksX0_odds_3 23 rfl rfl
theorem dksX0_odds_5 : cX0_odds.data.toList.drop 114 = dktX0_odds_5 := dk_seg dksX0_odds_4 22 rfl rfl
theorem dksX0_odds_6 : cX0_odds.data.toList.drop 138 = dktX0_odds_6 := dk_seg dksX0_odds_5 24 rfl rfl
theorem dX0_odds_0 : decode cX0_odds 0 = .ok (.aload_n 0, 1) := dk_42 (dk_at dksX0_odds_0 0 rfl rfl)
theorem dX0_odds_1 : decode cX0_odds 1 = .ok (.iload_n 1, 1) := dk_27 (dk_at dksX0_odds_0 1 rfl rfl)
theorem dX0_odds_2 : decode cX0_odds 2 = .ok (.invokevirtual 261, 3) := dk_182 1 5 (dk_at dksX0_odds_0 2 rfl rfl)
theorem dX0_odds_5 : decode cX0_odds 5 = .ok (.ifCond .eq 12, 3) := dk_153 0 12 (dk_at dksX0_odds_0 5 rfl rfl)
theorem dX0_odds_8 : decode cX0_odds 8 = .ok (.iload_n 2, 1) := dk_28 (dk_at dksX0_odds_0 8 rfl rfl)
theorem dX0_odds_9 : decode cX0_odds 9 = .ok (.iconst 0, 1) := dk_3 (dk_at dksX0_odds_0 9 rfl rfl)
theorem dX0_odds_10 : decode cX0_odds 10 = .ok (.iconst 1, 1) := dk_4 (dk_at dksX0_odds_0 10 rfl rfl)
theorem dX0_odds_11 : decode cX0_odds 11 = .ok (.invokestatic 5, 3) := dk_184 0 5 (dk_at dksX0_odds_0 11 rfl rfl)
theorem dX0_odds_14 : decode cX0_odds 14 = .ok (.ifCond .ne 7, 3) := dk_154 0 7 (dk_at dksX0_odds_0 14 rfl rfl)
theorem dX0_odds_17 : decode cX0_odds 17 = .ok (.ldc2_w 324, 3) := dk_20 1 68 (dk_at dksX0_odds_0 17 rfl rfl)
theorem dX0_odds_20 : decode cX0_odds 20 = .ok (.lreturn, 1) := dk_173 (dk_at dksX0_odds_0 20 rfl rfl)
theorem dX0_odds_21 : decode cX0_odds 21 = .ok (.aload_n 0, 1) := dk_42 (dk_at dksX0_odds_0 21 rfl rfl)
theorem dX0_odds_22 : decode cX0_odds 22 = .ok (.getfield 28, 3) := dk_180 0 28 (dk_at dksX0_odds_1 0 rfl rfl)
theorem dX0_odds_25 : decode cX0_odds 25 = .ok (.invokevirtual 225, 3) := dk_182 0 225 (dk_at dksX0_odds_1 3 rfl rfl)
theorem dX0_odds_28 : decode cX0_odds 28 = .ok (.iconst 1, 1) := dk_4 (dk_at dksX0_odds_1 6 rfl rfl)
theorem dX0_odds_29 : decode cX0_odds 29 = .ok (.iload_n 1, 1) := dk_27 (dk_at dksX0_odds_1 7 rfl rfl)
theorem dX0_odds_30 : decode cX0_odds 30 = .ok (.ishl, 1) := dk_120 (dk_at dksX0_odds_1 8 rfl rfl)
theorem dX0_odds_31 : decode cX0_odds 31 = .ok (.iconst (-1), 1) := dk_2 (dk_at dksX0_odds_1 9 rfl rfl)
theorem dX0_odds_32 : decode cX0_odds 32 = .ok (.ixor, 1) := dk_130 (dk_at dksX0_odds_1 10 rfl rfl)
theorem dX0_odds_33 : decode cX0_odds 33 = .ok (.iand, 1) := dk_126 (dk_at dksX0_odds_1 11 rfl rfl)
theorem dX0_odds_34 : decode cX0_odds 34 = .ok (.istore_n 3, 1) := dk_62 (dk_at dksX0_odds_1 12 rfl rfl)
theorem dX0_odds_35 : decode cX0_odds 35 = .ok (.aload_n 0, 1) := dk_42 (dk_at dksX0_odds_1 13 rfl rfl)
theorem dX0_odds_36 : decode cX0_odds 36 = .ok (.getfield 28, 3) := dk_180 0 28 (dk_at dksX0_odds_1 14 rfl rfl)
theorem dX0_odds_39 : decode cX0_odds 39 = .ok (.iload_n 1, 1) := dk_27 (dk_at dksX0_odds_1 17 rfl rfl)
theorem dX0_odds_40 : decode cX0_odds 40 = .ok (.invokevirtual 238, 3) := dk_182 0 238 (dk_at dksX0_odds_1 18 rfl rfl)
theorem dX0_odds_43 : decode cX0_odds 43 = .ok (.ifCond .ne 7, 3) := dk_154 0 7 (dk_at dksX0_odds_1 21 rfl rfl)
theorem dX0_odds_46 : decode cX0_odds 46 = .ok (.iload_n 3, 1) := dk_29 (dk_at dksX0_odds_2 0 rfl rfl)
theorem dX0_odds_47 : decode cX0_odds 47 = .ok (.ifCond .ne 7, 3) := dk_154 0 7 (dk_at dksX0_odds_2 1 rfl rfl)
theorem dX0_odds_50 : decode cX0_odds 50 = .ok (.ldc2_w 324, 3) := dk_20 1 68 (dk_at dksX0_odds_2 4 rfl rfl)
theorem dX0_odds_53 : decode cX0_odds 53 = .ok (.lreturn, 1) := dk_173 (dk_at dksX0_odds_2 7 rfl rfl)
theorem dX0_odds_54 : decode cX0_odds 54 = .ok (.aload_n 0, 1) := dk_42 (dk_at dksX0_odds_2 8 rfl rfl)
theorem dX0_odds_55 : decode cX0_odds 55 = .ok (.aload_n 0, 1) := dk_42 (dk_at dksX0_odds_2 9 rfl rfl)
theorem dX0_odds_56 : decode cX0_odds 56 = .ok (.getfield 28, 3) := dk_180 0 28 (dk_at dksX0_odds_2 10 rfl rfl)
theorem dX0_odds_59 : decode cX0_odds 59 = .ok (.invokevirtual 234, 3) := dk_182 0 234 (dk_at dksX0_odds_2 13 rfl rfl)
theorem dX0_odds_62 : decode cX0_odds 62 = .ok (.aload_n 0, 1) := dk_42 (dk_at dksX0_odds_2 16 rfl rfl)
theorem dX0_odds_63 : decode cX0_odds 63 = .ok (.aload_n 0, 1) := dk_42 (dk_at dksX0_odds_2 17 rfl rfl)
theorem dX0_odds_64 : decode cX0_odds 64 = .ok (.getfield 28, 3) := dk_180 0 28 (dk_at dksX0_odds_2 18 rfl rfl)
theorem dX0_odds_67 : decode cX0_odds 67 = .ok (.iload_n 1, 1) := dk_27 (dk_at dksX0_odds_2 21 rfl rfl)
theorem dX0_odds_68 : decode cX0_odds 68 = .ok (.aload_n 0, 1) := dk_42 (dk_at dksX0_odds_2 22 rfl rfl)
theorem dX0_odds_69 : decode cX0_odds 69 = .ok (.getfield 28, 3) := dk_180 0 28 (dk_at dksX0_odds_3 0 rfl rfl)
theorem dX0_odds_72 : decode cX0_odds 72 = .ok (.invokevirtual 225, 3) := dk_182 0 225 (dk_at dksX0_odds_3 3 rfl rfl)
theorem dX0_odds_75 : decode cX0_odds 75 = .ok (.invokevirtual 228, 3) := dk_182 0 228 (dk_at dksX0_odds_3 6 rfl rfl)
theorem dX0_odds_78 : decode cX0_odds 78 = .ok (.istore 4, 2) := dk_54 4 (dk_at dksX0_odds_3 9 rfl rfl)
theorem dX0_odds_80 : decode cX0_odds 80 = .ok (.lconst 0, 1) := dk_9 (dk_at dksX0_odds_3 11 rfl rfl)
theorem dX0_odds_81 : decode cX0_odds 81 = .ok (.lstore 5, 2) := dk_55 5 (dk_at dksX0_odds_3 12 rfl rfl)
theorem dX0_odds_83 : decode cX0_odds 83 = .ok (.iconst 0, 1) := dk_3 (dk_at dksX0_odds_3 14 rfl rfl)
theorem dX0_odds_84 : decode cX0_odds 84 = .ok (.istore 7, 2) := dk_54 7 (dk_at dksX0_odds_3 15 rfl rfl)
theorem dX0_odds_86 : decode cX0_odds 86 = .ok (.iload 7, 2) := dk_21 7 (dk_at dksX0_odds_3 17 rfl rfl)
theorem dX0_odds_88 : decode cX0_odds 88 = .ok (.aload_n 0, 1) := dk_42 (dk_at dksX0_odds_3 19 rfl rfl)
theorem dX0_odds_89 : decode cX0_odds 89 = .ok (.getfield 28, 3) := dk_180 0 28 (dk_at dksX0_odds_3 20 rfl rfl)
theorem dX0_odds_92 : decode cX0_odds 92 = .ok (.getfield 115, 3) := dk_180 0 115 (dk_at dksX0_odds_4 0 rfl rfl)
theorem dX0_odds_95 : decode cX0_odds 95 = .ok (.if_icmp .ge 52, 3) := dk_162 0 52 (dk_at dksX0_odds_4 3 rfl rfl)
theorem dX0_odds_98 : decode cX0_odds 98 = .ok (.iload_n 3, 1) := dk_29 (dk_at dksX0_odds_4 6 rfl rfl)
theorem dX0_odds_99 : decode cX0_odds 99 = .ok (.iload 7, 2) := dk_21 7 (dk_at dksX0_odds_4 7 rfl rfl)
theorem dX0_odds_101 : decode cX0_odds 101 = .ok (.invokestatic 202, 3) := dk_184 0 202 (dk_at dksX0_odds_4 9 rfl rfl)
theorem dX0_odds_104 : decode cX0_odds 104 = .ok (.ifCond .eq 37, 3) := dk_153 0 37 (dk_at dksX0_odds_4 12 rfl rfl)
theorem dX0_odds_107 : decode cX0_odds 107 = .ok (.aload_n 0, 1) := dk_42 (dk_at dksX0_odds_4 15 rfl rfl)
theorem dX0_odds_108 : decode cX0_odds 108 = .ok (.aload_n 0, 1) := dk_42 (dk_at dksX0_odds_4 16 rfl rfl)
theorem dX0_odds_109 : decode cX0_odds 109 = .ok (.getfield 28, 3) := dk_180 0 28 (dk_at dksX0_odds_4 17 rfl rfl)
theorem dX0_odds_112 : decode cX0_odds 112 = .ok (.iload_n 1, 1) := dk_27 (dk_at dksX0_odds_4 20 rfl rfl)
theorem dX0_odds_113 : decode cX0_odds 113 = .ok (.aload_n 0, 1) := dk_42 (dk_at dksX0_odds_4 21 rfl rfl)
theorem dX0_odds_114 : decode cX0_odds 114 = .ok (.getfield 28, 3) := dk_180 0 28 (dk_at dksX0_odds_5 0 rfl rfl)
theorem dX0_odds_117 : decode cX0_odds 117 = .ok (.invokevirtual 225, 3) := dk_182 0 225 (dk_at dksX0_odds_5 3 rfl rfl)
theorem dX0_odds_120 : decode cX0_odds 120 = .ok (.iconst 1, 1) := dk_4 (dk_at dksX0_odds_5 6 rfl rfl)
theorem dX0_odds_121 : decode cX0_odds 121 = .ok (.iload 7, 2) := dk_21 7 (dk_at dksX0_odds_5 7 rfl rfl)
theorem dX0_odds_123 : decode cX0_odds 123 = .ok (.ishl, 1) := dk_120 (dk_at dksX0_odds_5 9 rfl rfl)
theorem dX0_odds_124 : decode cX0_odds 124 = .ok (.iconst (-1), 1) := dk_2 (dk_at dksX0_odds_5 10 rfl rfl)
theorem dX0_odds_125 : decode cX0_odds 125 = .ok (.ixor, 1) := dk_130 (dk_at dksX0_odds_5 11 rfl rfl)
theorem dX0_odds_126 : decode cX0_odds 126 = .ok (.iand, 1) := dk_126 (dk_at dksX0_odds_5 12 rfl rfl)
theorem dX0_odds_127 : decode cX0_odds 127 = .ok (.invokevirtual 228, 3) := dk_182 0 228 (dk_at dksX0_odds_5 13 rfl rfl)
theorem dX0_odds_130 : decode cX0_odds 130 = .ok (.iload 4, 2) := dk_21 4 (dk_at dksX0_odds_5 16 rfl rfl)
theorem dX0_odds_132 : decode cX0_odds 132 = .ok (.if_icmp .le 9, 3) := dk_164 0 9 (dk_at dksX0_odds_5 18 rfl rfl)
theorem dX0_odds_135 : decode cX0_odds 135 = .ok (.lload 5, 2) := dk_22 5 (dk_at dksX0_odds_5 21 rfl rfl)
theorem dX0_odds_137 : decode cX0_odds 137 = .ok (.lconst 1, 1) := dk_10 (dk_at dksX0_odds_5 23 rfl rfl)
theorem dX0_odds_138 : decode cX0_odds 138 = .ok (.ladd, 1) := dk_97 (dk_at dksX0_odds_6 0 rfl rfl)
theorem dX0_odds_139 : decode cX0_odds 139 = .ok (.lstore 5, 2) := dk_55 5 (dk_at dksX0_odds_6 1 rfl rfl)
theorem dX0_odds_141 : decode cX0_odds 141 = .ok (.iinc 7 1, 3) := dk_132 7 1 (dk_at dksX0_odds_6 3 rfl rfl)
theorem dX0_odds_144 : decode cX0_odds 144 = .ok (.goto (-58), 3) := dk_167 255 198 (dk_at dksX0_odds_6 6 rfl rfl)
theorem dX0_odds_147 : decode cX0_odds 147 = .ok (.lload 5, 2) := dk_22 5 (dk_at dksX0_odds_6 9 rfl rfl)
theorem dX0_odds_149 : decode cX0_odds 149 = .ok (.iload_n 3, 1) := dk_29 (dk_at dksX0_odds_6 11 rfl rfl)
theorem dX0_odds_150 : decode cX0_odds 150 = .ok (.invokestatic 307, 3) := dk_184 1 51 (dk_at dksX0_odds_6 12 rfl rfl)
theorem dX0_odds_153 : decode cX0_odds 153 = .ok (.i2l, 1) := dk_133 (dk_at dksX0_odds_6 15 rfl rfl)
theorem dX0_odds_154 : decode cX0_odds 154 = .ok (.iload_n 2, 1) := dk_28 (dk_at dksX0_odds_6 16 rfl rfl)
theorem dX0_odds_155 : decode cX0_odds 155 = .ok (.invokestatic 326, 3) := dk_184 1 70 (dk_at dksX0_odds_6 17 rfl rfl)
theorem dX0_odds_158 : decode cX0_odds 158 = .ok (.lreturn, 1) := dk_173 (dk_at dksX0_odds_6 20 rfl rfl)
abbrev cX0_lowest : ByteArray := prog_1_method_42_code
def yX0_lowest : MethodName := ⟨RX0, "lowest", "(JJI)J"⟩
def dkwX0_lowest_0 : List UInt8 := [21, 4, 154, 0, 7, 30, 167, 0, 4, 32, 30, 32, 184, 1, 64, 109, 173]
abbrev dktX0_lowest_0 : List UInt8 := dkwX0_lowest_0 ++ []
theorem dksX0_lowest_0 : cX0_lowest.data.toList.drop 0 = dktX0_lowest_0 := by decide +kernel
theorem dX0_lowest_0 : decode cX0_lowest 0 = .ok (.iload 4, 2) := dk_21 4 (dk_at dksX0_lowest_0 0 rfl rfl)
theorem dX0_lowest_2 : decode cX0_lowest 2 = .ok (.ifCond .ne 7, 3) := dk_154 0 7 (dk_at dksX0_lowest_0 2 rfl rfl)
theorem dX0_lowest_5 : decode cX0_lowest 5 = .ok (.lload_n 0, 1) := dk_30 (dk_at dksX0_lowest_0 5 rfl rfl)
theorem dX0_lowest_6 : decode cX0_lowest 6 = .ok (.goto 4, 3) := dk_167 0 4 (dk_at dksX0_lowest_0 6 rfl rfl)
theorem dX0_lowest_9 : decode cX0_lowest 9 = .ok (.lload_n 2, 1) := dk_32 (dk_at dksX0_lowest_0 9 rfl rfl)
theorem dX0_lowest_10 : decode cX0_lowest 10 = .ok (.lload_n 0, 1) := dk_30 (dk_at dksX0_lowest_0 10 rfl rfl)
theorem dX0_lowest_11 : decode cX0_lowest 11 = .ok (.lload_n 2, 1) := dk_32 (dk_at dksX0_lowest_0 11 rfl rfl)
theorem dX0_lowest_12 : decode cX0_lowest 12 = .ok (.invokestatic 320, 3) := dk_184 1 64 (dk_at dksX0_lowest_0 12 rfl rfl)
theorem dX0_lowest_15 : decode cX0_lowest 15 = .ok (.ldiv, 1) := dk_109 (dk_at dksX0_lowest_0 15 rfl rfl)
theorem dX0_lowest_16 : decode cX0_lowest 16 = .ok (.lreturn, 1) := dk_173 (dk_at dksX0_lowest_0 16 rfl rfl)
abbrev cX0_divisor : ByteArray := prog_1_method_41_code
def yX0_divisor : MethodName := ⟨RX0, "divisor", "(JJ)J"⟩
def dkwX0_divisor_1 : List UInt8 := [22, 4, 173]
abbrev dktX0_divisor_1 : List UInt8 := dkwX0_divisor_1 ++ []
def dkwX0_divisor_0 : List UInt8 := [30, 55, 4, 32, 9, 148, 153, 0, 18, 22, 4, 32, 113, 55, 6, 32, 55, 4, 22, 6, 65, 167, 255, 238]
abbrev dktX0_divisor_0 : List UInt8 := dkwX0_divisor_0 ++ dktX0_divisor_1
theorem dksX0_divisor_0 : cX0_divisor.data.toList.drop 0 = dktX0_divisor_0 := by decide +kernel
theorem dksX0_divisor_1 : cX0_divisor.data.toList.drop 24 = dktX0_divisor_1 := dk_seg dksX0_divisor_0 24 rfl rfl
theorem dX0_divisor_0 : decode cX0_divisor 0 = .ok (.lload_n 0, 1) := dk_30 (dk_at dksX0_divisor_0 0 rfl rfl)
theorem dX0_divisor_1 : decode cX0_divisor 1 = .ok (.lstore 4, 2) := dk_55 4 (dk_at dksX0_divisor_0 1 rfl rfl)
theorem dX0_divisor_3 : decode cX0_divisor 3 = .ok (.lload_n 2, 1) := dk_32 (dk_at dksX0_divisor_0 3 rfl rfl)
theorem dX0_divisor_4 : decode cX0_divisor 4 = .ok (.lconst 0, 1) := dk_9 (dk_at dksX0_divisor_0 4 rfl rfl)
theorem dX0_divisor_5 : decode cX0_divisor 5 = .ok (.lcmp, 1) := dk_148 (dk_at dksX0_divisor_0 5 rfl rfl)
theorem dX0_divisor_6 : decode cX0_divisor 6 = .ok (.ifCond .eq 18, 3) := dk_153 0 18 (dk_at dksX0_divisor_0 6 rfl rfl)
theorem dX0_divisor_9 : decode cX0_divisor 9 = .ok (.lload 4, 2) := dk_22 4 (dk_at dksX0_divisor_0 9 rfl rfl)
theorem dX0_divisor_11 : decode cX0_divisor 11 = .ok (.lload_n 2, 1) := dk_32 (dk_at dksX0_divisor_0 11 rfl rfl)
theorem dX0_divisor_12 : decode cX0_divisor 12 = .ok (.lrem, 1) := dk_113 (dk_at dksX0_divisor_0 12 rfl rfl)
theorem dX0_divisor_13 : decode cX0_divisor 13 = .ok (.lstore 6, 2) := dk_55 6 (dk_at dksX0_divisor_0 13 rfl rfl)
theorem dX0_divisor_15 : decode cX0_divisor 15 = .ok (.lload_n 2, 1) := dk_32 (dk_at dksX0_divisor_0 15 rfl rfl)
theorem dX0_divisor_16 : decode cX0_divisor 16 = .ok (.lstore 4, 2) := dk_55 4 (dk_at dksX0_divisor_0 16 rfl rfl)
theorem dX0_divisor_18 : decode cX0_divisor 18 = .ok (.lload 6, 2) := dk_22 6 (dk_at dksX0_divisor_0 18 rfl rfl)
theorem dX0_divisor_20 : decode cX0_divisor 20 = .ok (.lstore_n 2, 1) := dk_65 (dk_at dksX0_divisor_0 20 rfl rfl)
theorem dX0_divisor_21 : decode cX0_divisor 21 = .ok (.goto (-18), 3) := dk_167 255 238 (dk_at dksX0_divisor_0 21 rfl rfl)
theorem dX0_divisor_24 : decode cX0_divisor 24 = .ok (.lload 4, 2) := dk_22 4 (dk_at dksX0_divisor_1 0 rfl rfl)
theorem dX0_divisor_26 : decode cX0_divisor 26 = .ok (.lreturn, 1) := dk_173 (dk_at dksX0_divisor_1 2 rfl rfl)
abbrev cX0_mean : ByteArray := prog_1_method_44_code
def yX0_mean : MethodName := ⟨RX0, "mean", "(I)J"⟩
def dkwX0_mean_1 : List UInt8 := [20, 1, 68, 167, 0, 17, 42, 180, 0, 28, 180, 0, 213, 133, 28, 133, 27, 184, 1, 70, 173]
abbrev dktX0_mean_1 : List UInt8 := dkwX0_mean_1 ++ []
def dkwX0_mean_0 : List UInt8 := [42, 180, 0, 28, 182, 0, 225, 184, 1, 51, 61, 27, 3, 4, 184, 0, 5, 153, 0, 7, 28, 154, 0, 9]
abbrev dktX0_mean_0 : List UInt8 := dkwX0_mean_0 ++ dktX0_mean_1
theorem dksX0_mean_0 : cX0_mean.data.toList.drop 0 = dktX0_mean_0 := by decide +kernel
theorem dksX0_mean_1 : cX0_mean.data.toList.drop 24 = dktX0_mean_1 := dk_seg dksX0_mean_0 24 rfl rfl
theorem dX0_mean_0 : decode cX0_mean 0 = .ok (.aload_n 0, 1) := dk_42 (dk_at dksX0_mean_0 0 rfl rfl)
theorem dX0_mean_1 : decode cX0_mean 1 = .ok (.getfield 28, 3) := dk_180 0 28 (dk_at dksX0_mean_0 1 rfl rfl)
theorem dX0_mean_4 : decode cX0_mean 4 = .ok (.invokevirtual 225, 3) := dk_182 0 225 (dk_at dksX0_mean_0 4 rfl rfl)
theorem dX0_mean_7 : decode cX0_mean 7 = .ok (.invokestatic 307, 3) := dk_184 1 51 (dk_at dksX0_mean_0 7 rfl rfl)
theorem dX0_mean_10 : decode cX0_mean 10 = .ok (.istore_n 2, 1) := dk_61 (dk_at dksX0_mean_0 10 rfl rfl)
theorem dX0_mean_11 : decode cX0_mean 11 = .ok (.iload_n 1, 1) := dk_27 (dk_at dksX0_mean_0 11 rfl rfl)
theorem dX0_mean_12 : decode cX0_mean 12 = .ok (.iconst 0, 1) := dk_3 (dk_at dksX0_mean_0 12 rfl rfl)
theorem dX0_mean_13 : decode cX0_mean 13 = .ok (.iconst 1, 1) := dk_4 (dk_at dksX0_mean_0 13 rfl rfl)
theorem dX0_mean_14 : decode cX0_mean 14 = .ok (.invokestatic 5, 3) := dk_184 0 5 (dk_at dksX0_mean_0 14 rfl rfl)
theorem dX0_mean_17 : decode cX0_mean 17 = .ok (.ifCond .eq 7, 3) := dk_153 0 7 (dk_at dksX0_mean_0 17 rfl rfl)
theorem dX0_mean_20 : decode cX0_mean 20 = .ok (.iload_n 2, 1) := dk_28 (dk_at dksX0_mean_0 20 rfl rfl)
theorem dX0_mean_21 : decode cX0_mean 21 = .ok (.ifCond .ne 9, 3) := dk_154 0 9 (dk_at dksX0_mean_0 21 rfl rfl)
theorem dX0_mean_24 : decode cX0_mean 24 = .ok (.ldc2_w 324, 3) := dk_20 1 68 (dk_at dksX0_mean_1 0 rfl rfl)
theorem dX0_mean_27 : decode cX0_mean 27 = .ok (.goto 17, 3) := dk_167 0 17 (dk_at dksX0_mean_1 3 rfl rfl)
theorem dX0_mean_30 : decode cX0_mean 30 = .ok (.aload_n 0, 1) := dk_42 (dk_at dksX0_mean_1 6 rfl rfl)
theorem dX0_mean_31 : decode cX0_mean 31 = .ok (.getfield 28, 3) := dk_180 0 28 (dk_at dksX0_mean_1 7 rfl rfl)
theorem dX0_mean_34 : decode cX0_mean 34 = .ok (.getfield 213, 3) := dk_180 0 213 (dk_at dksX0_mean_1 10 rfl rfl)
theorem dX0_mean_37 : decode cX0_mean 37 = .ok (.i2l, 1) := dk_133 (dk_at dksX0_mean_1 13 rfl rfl)
theorem dX0_mean_38 : decode cX0_mean 38 = .ok (.iload_n 2, 1) := dk_28 (dk_at dksX0_mean_1 14 rfl rfl)
theorem dX0_mean_39 : decode cX0_mean 39 = .ok (.i2l, 1) := dk_133 (dk_at dksX0_mean_1 15 rfl rfl)
theorem dX0_mean_40 : decode cX0_mean 40 = .ok (.iload_n 1, 1) := dk_27 (dk_at dksX0_mean_1 16 rfl rfl)
theorem dX0_mean_41 : decode cX0_mean 41 = .ok (.invokestatic 326, 3) := dk_184 1 70 (dk_at dksX0_mean_1 17 rfl rfl)
theorem dX0_mean_44 : decode cX0_mean 44 = .ok (.lreturn, 1) := dk_173 (dk_at dksX0_mean_1 20 rfl rfl)
abbrev cX0_plan : ByteArray := prog_1_method_45_code
def yX0_plan : MethodName := ⟨RX0, "plan", "(II)I"⟩
def dkwX0_plan_3 : List UInt8 := [181, 1, 74, 28, 79, 42, 180, 1, 74, 172]
abbrev dktX0_plan_3 : List UInt8 := dkwX0_plan_3 ++ []
def dkwX0_plan_2 : List UInt8 := [172, 42, 180, 0, 66, 42, 180, 1, 74, 27, 79, 42, 180, 0, 69, 42, 89, 180, 1, 74, 90, 4, 96]
abbrev dktX0_plan_2 : List UInt8 := dkwX0_plan_2 ++ dktX0_plan_3
def dkwX0_plan_1 : List UInt8 := [158, 0, 13, 42, 28, 182, 1, 5, 154, 0, 5, 2, 172, 42, 180, 1, 74, 16, 8, 160, 0, 6, 16, 252]
abbrev dktX0_plan_1 : List UInt8 := dkwX0_plan_1 ++ dktX0_plan_2
def dkwX0_plan_0 : List UInt8 := [27, 2, 160, 0, 10, 42, 3, 181, 1, 74, 3, 172, 27, 3, 6, 184, 0, 5, 153, 0, 15, 27]
abbrev dktX0_plan_0 : List UInt8 := dkwX0_plan_0 ++ dktX0_plan_1
theorem dksX0_plan_0 : cX0_plan.data.toList.drop 0 = dktX0_plan_0 := by decide +kernel
theorem dksX0_plan_1 : cX0_plan.data.toList.drop 22 = dktX0_plan_1 := dk_seg dksX0_plan_0 22 rfl rfl
theorem dksX0_plan_2 : cX0_plan.data.toList.drop 46 = dktX0_plan_2 := dk_seg dksX0_plan_1 24 rfl rfl
theorem dksX0_plan_3 : cX0_plan.data.toList.drop 69 = dktX0_plan_3 := dk_seg dksX0_plan_2 23 rfl rfl
theorem dX0_plan_0 : decode cX0_plan 0 = .ok (.iload_n 1, 1) := dk_27 (dk_at dksX0_plan_0 0 rfl rfl)
theorem dX0_plan_1 : decode cX0_plan 1 = .ok (.iconst (-1), 1) := dk_2 (dk_at dksX0_plan_0 1 rfl rfl)
theorem dX0_plan_2 : decode cX0_plan 2 = .ok (.if_icmp .ne 10, 3) := dk_160 0 10 (dk_at dksX0_plan_0 2 rfl rfl)
theorem dX0_plan_5 : decode cX0_plan 5 = .ok (.aload_n 0, 1) := dk_42 (dk_at dksX0_plan_0 5 rfl rfl)
theorem dX0_plan_6 : decode cX0_plan 6 = .ok (.iconst 0, 1) := dk_3 (dk_at dksX0_plan_0 6 rfl rfl)
theorem dX0_plan_7 : decode cX0_plan 7 = .ok (.putfield 330, 3) := dk_181 1 74 (dk_at dksX0_plan_0 7 rfl rfl)
theorem dX0_plan_10 : decode cX0_plan 10 = .ok (.iconst 0, 1) := dk_3 (dk_at dksX0_plan_0 10 rfl rfl)
theorem dX0_plan_11 : decode cX0_plan 11 = .ok (.ireturn, 1) := dk_172 (dk_at dksX0_plan_0 11 rfl rfl)
theorem dX0_plan_12 : decode cX0_plan 12 = .ok (.iload_n 1, 1) := dk_27 (dk_at dksX0_plan_0 12 rfl rfl)
theorem dX0_plan_13 : decode cX0_plan 13 = .ok (.iconst 0, 1) := dk_3 (dk_at dksX0_plan_0 13 rfl rfl)
theorem dX0_plan_14 : decode cX0_plan 14 = .ok (.iconst 3, 1) := dk_6 (dk_at dksX0_plan_0 14 rfl rfl)
theorem dX0_plan_15 : decode cX0_plan 15 = .ok (.invokestatic 5, 3) := dk_184 0 5 (dk_at dksX0_plan_0 15 rfl rfl)
theorem dX0_plan_18 : decode cX0_plan 18 = .ok (.ifCond .eq 15, 3) := dk_153 0 15 (dk_at dksX0_plan_0 18 rfl rfl)
theorem dX0_plan_21 : decode cX0_plan 21 = .ok (.iload_n 1, 1) := dk_27 (dk_at dksX0_plan_0 21 rfl rfl)
theorem dX0_plan_22 : decode cX0_plan 22 = .ok (.ifCond .le 13, 3) := dk_158 0 13 (dk_at dksX0_plan_1 0 rfl rfl)
theorem dX0_plan_25 : decode cX0_plan 25 = .ok (.aload_n 0, 1) := dk_42 (dk_at dksX0_plan_1 3 rfl rfl)
theorem dX0_plan_26 : decode cX0_plan 26 = .ok (.iload_n 2, 1) := dk_28 (dk_at dksX0_plan_1 4 rfl rfl)
theorem dX0_plan_27 : decode cX0_plan 27 = .ok (.invokevirtual 261, 3) := dk_182 1 5 (dk_at dksX0_plan_1 5 rfl rfl)
theorem dX0_plan_30 : decode cX0_plan 30 = .ok (.ifCond .ne 5, 3) := dk_154 0 5 (dk_at dksX0_plan_1 8 rfl rfl)
theorem dX0_plan_33 : decode cX0_plan 33 = .ok (.iconst (-1), 1) := dk_2 (dk_at dksX0_plan_1 11 rfl rfl)
theorem dX0_plan_34 : decode cX0_plan 34 = .ok (.ireturn, 1) := dk_172 (dk_at dksX0_plan_1 12 rfl rfl)
theorem dX0_plan_35 : decode cX0_plan 35 = .ok (.aload_n 0, 1) := dk_42 (dk_at dksX0_plan_1 13 rfl rfl)
theorem dX0_plan_36 : decode cX0_plan 36 = .ok (.getfield 330, 3) := dk_180 1 74 (dk_at dksX0_plan_1 14 rfl rfl)
theorem dX0_plan_39 : decode cX0_plan 39 = .ok (.bipush 8, 2) := dk_16 8 (dk_at dksX0_plan_1 17 rfl rfl)
theorem dX0_plan_41 : decode cX0_plan 41 = .ok (.if_icmp .ne 6, 3) := dk_160 0 6 (dk_at dksX0_plan_1 19 rfl rfl)
theorem dX0_plan_44 : decode cX0_plan 44 = .ok (.bipush (-4), 2) := dk_16 252 (dk_at dksX0_plan_1 22 rfl rfl)
theorem dX0_plan_46 : decode cX0_plan 46 = .ok (.ireturn, 1) := dk_172 (dk_at dksX0_plan_2 0 rfl rfl)
theorem dX0_plan_47 : decode cX0_plan 47 = .ok (.aload_n 0, 1) := dk_42 (dk_at dksX0_plan_2 1 rfl rfl)
theorem dX0_plan_48 : decode cX0_plan 48 = .ok (.getfield 66, 3) := dk_180 0 66 (dk_at dksX0_plan_2 2 rfl rfl)
theorem dX0_plan_51 : decode cX0_plan 51 = .ok (.aload_n 0, 1) := dk_42 (dk_at dksX0_plan_2 5 rfl rfl)
theorem dX0_plan_52 : decode cX0_plan 52 = .ok (.getfield 330, 3) := dk_180 1 74 (dk_at dksX0_plan_2 6 rfl rfl)
theorem dX0_plan_55 : decode cX0_plan 55 = .ok (.iload_n 1, 1) := dk_27 (dk_at dksX0_plan_2 9 rfl rfl)
theorem dX0_plan_56 : decode cX0_plan 56 = .ok (.iastore, 1) := dk_79 (dk_at dksX0_plan_2 10 rfl rfl)
theorem dX0_plan_57 : decode cX0_plan 57 = .ok (.aload_n 0, 1) := dk_42 (dk_at dksX0_plan_2 11 rfl rfl)
theorem dX0_plan_58 : decode cX0_plan 58 = .ok (.getfield 69, 3) := dk_180 0 69 (dk_at dksX0_plan_2 12 rfl rfl)
theorem dX0_plan_61 : decode cX0_plan 61 = .ok (.aload_n 0, 1) := dk_42 (dk_at dksX0_plan_2 15 rfl rfl)
theorem dX0_plan_62 : decode cX0_plan 62 = .ok (.dup, 1) := dk_89 (dk_at dksX0_plan_2 16 rfl rfl)
theorem dX0_plan_63 : decode cX0_plan 63 = .ok (.getfield 330, 3) := dk_180 1 74 (dk_at dksX0_plan_2 17 rfl rfl)
theorem dX0_plan_66 : decode cX0_plan 66 = .ok (.dup_x1, 1) := dk_90 (dk_at dksX0_plan_2 20 rfl rfl)
theorem dX0_plan_67 : decode cX0_plan 67 = .ok (.iconst 1, 1) := dk_4 (dk_at dksX0_plan_2 21 rfl rfl)
theorem dX0_plan_68 : decode cX0_plan 68 = .ok (.iadd, 1) := dk_96 (dk_at dksX0_plan_2 22 rfl rfl)
theorem dX0_plan_69 : decode cX0_plan 69 = .ok (.putfield 330, 3) := dk_181 1 74 (dk_at dksX0_plan_3 0 rfl rfl)
theorem dX0_plan_72 : decode cX0_plan 72 = .ok (.iload_n 2, 1) := dk_28 (dk_at dksX0_plan_3 3 rfl rfl)
theorem dX0_plan_73 : decode cX0_plan 73 = .ok (.iastore, 1) := dk_79 (dk_at dksX0_plan_3 4 rfl rfl)
theorem dX0_plan_74 : decode cX0_plan 74 = .ok (.aload_n 0, 1) := dk_42 (dk_at dksX0_plan_3 5 rfl rfl)
theorem dX0_plan_75 : decode cX0_plan 75 = .ok (.getfield 330, 3) := dk_180 1 74 (dk_at dksX0_plan_3 6 rfl rfl)
theorem dX0_plan_78 : decode cX0_plan 78 = .ok (.ireturn, 1) := dk_172 (dk_at dksX0_plan_3 9 rfl rfl)
abbrev cX0_ends : ByteArray := prog_1_method_47_code
def yX0_ends : MethodName := ⟨RX0, "ends", "(I)I"⟩
def dkwX0_ends_3 : List UInt8 := [172]
abbrev dktX0_ends_3 : List UInt8 := dkwX0_ends_3 ++ []
def dkwX0_ends_2 : List UInt8 := [167, 255, 229, 27, 154, 0, 13, 42, 180, 0, 32, 182, 1, 81, 167, 0, 10, 42, 180, 0, 32, 182, 1, 84]
abbrev dktX0_ends_2 : List UInt8 := dkwX0_ends_2 ++ dktX0_ends_3
def dkwX0_ends_1 : List UInt8 := [162, 0, 25, 42, 42, 180, 0, 66, 28, 46, 42, 180, 0, 69, 28, 46, 182, 1, 77, 132, 2, 1]
abbrev dktX0_ends_1 : List UInt8 := dkwX0_ends_1 ++ dktX0_ends_2
def dkwX0_ends_0 : List UInt8 := [27, 3, 4, 184, 0, 5, 154, 0, 5, 2, 172, 42, 3, 182, 1, 8, 3, 61, 28, 42, 180, 1, 74]
abbrev dktX0_ends_0 : List UInt8 := dkwX0_ends_0 ++ dktX0_ends_1
theorem dksX0_ends_0 : cX0_ends.data.toList.drop 0 = dktX0_ends_0 := by decide +kernel
theorem dksX0_ends_1 : cX0_ends.data.toList.drop 23 = dktX0_ends_1 := dk_seg dksX0_ends_0 23 rfl rfl
theorem dksX0_ends_2 : cX0_ends.data.toList.drop 45 = dktX0_ends_2 := dk_seg dksX0_ends_1 22 rfl rfl
theorem dksX0_ends_3 : cX0_ends.data.toList.drop 69 = dktX0_ends_3 := dk_seg dksX0_ends_2 24 rfl rfl
theorem dX0_ends_0 : decode cX0_ends 0 = .ok (.iload_n 1, 1) := dk_27 (dk_at dksX0_ends_0 0 rfl rfl)
theorem dX0_ends_1 : decode cX0_ends 1 = .ok (.iconst 0, 1) := dk_3 (dk_at dksX0_ends_0 1 rfl rfl)
theorem dX0_ends_2 : decode cX0_ends 2 = .ok (.iconst 1, 1) := dk_4 (dk_at dksX0_ends_0 2 rfl rfl)
theorem dX0_ends_3 : decode cX0_ends 3 = .ok (.invokestatic 5, 3) := dk_184 0 5 (dk_at dksX0_ends_0 3 rfl rfl)
theorem dX0_ends_6 : decode cX0_ends 6 = .ok (.ifCond .ne 5, 3) := dk_154 0 5 (dk_at dksX0_ends_0 6 rfl rfl)
theorem dX0_ends_9 : decode cX0_ends 9 = .ok (.iconst (-1), 1) := dk_2 (dk_at dksX0_ends_0 9 rfl rfl)
theorem dX0_ends_10 : decode cX0_ends 10 = .ok (.ireturn, 1) := dk_172 (dk_at dksX0_ends_0 10 rfl rfl)
theorem dX0_ends_11 : decode cX0_ends 11 = .ok (.aload_n 0, 1) := dk_42 (dk_at dksX0_ends_0 11 rfl rfl)
theorem dX0_ends_12 : decode cX0_ends 12 = .ok (.iconst 0, 1) := dk_3 (dk_at dksX0_ends_0 12 rfl rfl)
theorem dX0_ends_13 : decode cX0_ends 13 = .ok (.invokevirtual 264, 3) := dk_182 1 8 (dk_at dksX0_ends_0 13 rfl rfl)
theorem dX0_ends_16 : decode cX0_ends 16 = .ok (.iconst 0, 1) := dk_3 (dk_at dksX0_ends_0 16 rfl rfl)
theorem dX0_ends_17 : decode cX0_ends 17 = .ok (.istore_n 2, 1) := dk_61 (dk_at dksX0_ends_0 17 rfl rfl)
theorem dX0_ends_18 : decode cX0_ends 18 = .ok (.iload_n 2, 1) := dk_28 (dk_at dksX0_ends_0 18 rfl rfl)
theorem dX0_ends_19 : decode cX0_ends 19 = .ok (.aload_n 0, 1) := dk_42 (dk_at dksX0_ends_0 19 rfl rfl)
theorem dX0_ends_20 : decode cX0_ends 20 = .ok (.getfield 330, 3) := dk_180 1 74 (dk_at dksX0_ends_0 20 rfl rfl)
theorem dX0_ends_23 : decode cX0_ends 23 = .ok (.if_icmp .ge 25, 3) := dk_162 0 25 (dk_at dksX0_ends_1 0 rfl rfl)
theorem dX0_ends_26 : decode cX0_ends 26 = .ok (.aload_n 0, 1) := dk_42 (dk_at dksX0_ends_1 3 rfl rfl)
theorem dX0_ends_27 : decode cX0_ends 27 = .ok (.aload_n 0, 1) := dk_42 (dk_at dksX0_ends_1 4 rfl rfl)
theorem dX0_ends_28 : decode cX0_ends 28 = .ok (.getfield 66, 3) := dk_180 0 66 (dk_at dksX0_ends_1 5 rfl rfl)
theorem dX0_ends_31 : decode cX0_ends 31 = .ok (.iload_n 2, 1) := dk_28 (dk_at dksX0_ends_1 8 rfl rfl)
theorem dX0_ends_32 : decode cX0_ends 32 = .ok (.iaload, 1) := dk_46 (dk_at dksX0_ends_1 9 rfl rfl)
theorem dX0_ends_33 : decode cX0_ends 33 = .ok (.aload_n 0, 1) := dk_42 (dk_at dksX0_ends_1 10 rfl rfl)
theorem dX0_ends_34 : decode cX0_ends 34 = .ok (.getfield 69, 3) := dk_180 0 69 (dk_at dksX0_ends_1 11 rfl rfl)
theorem dX0_ends_37 : decode cX0_ends 37 = .ok (.iload_n 2, 1) := dk_28 (dk_at dksX0_ends_1 14 rfl rfl)
theorem dX0_ends_38 : decode cX0_ends 38 = .ok (.iaload, 1) := dk_46 (dk_at dksX0_ends_1 15 rfl rfl)
theorem dX0_ends_39 : decode cX0_ends 39 = .ok (.invokevirtual 333, 3) := dk_182 1 77 (dk_at dksX0_ends_1 16 rfl rfl)
theorem dX0_ends_42 : decode cX0_ends 42 = .ok (.iinc 2 1, 3) := dk_132 2 1 (dk_at dksX0_ends_1 19 rfl rfl)
theorem dX0_ends_45 : decode cX0_ends 45 = .ok (.goto (-27), 3) := dk_167 255 229 (dk_at dksX0_ends_2 0 rfl rfl)
theorem dX0_ends_48 : decode cX0_ends 48 = .ok (.iload_n 1, 1) := dk_27 (dk_at dksX0_ends_2 3 rfl rfl)
theorem dX0_ends_49 : decode cX0_ends 49 = .ok (.ifCond .ne 13, 3) := dk_154 0 13 (dk_at dksX0_ends_2 4 rfl rfl)
theorem dX0_ends_52 : decode cX0_ends 52 = .ok (.aload_n 0, 1) := dk_42 (dk_at dksX0_ends_2 7 rfl rfl)
theorem dX0_ends_53 : decode cX0_ends 53 = .ok (.getfield 32, 3) := dk_180 0 32 (dk_at dksX0_ends_2 8 rfl rfl)
theorem dX0_ends_56 : decode cX0_ends 56 = .ok (.invokevirtual 337, 3) := dk_182 1 81 (dk_at dksX0_ends_2 11 rfl rfl)
theorem dX0_ends_59 : decode cX0_ends 59 = .ok (.goto 10, 3) := dk_167 0 10 (dk_at dksX0_ends_2 14 rfl rfl)
theorem dX0_ends_62 : decode cX0_ends 62 = .ok (.aload_n 0, 1) := dk_42 (dk_at dksX0_ends_2 17 rfl rfl)
theorem dX0_ends_63 : decode cX0_ends 63 = .ok (.getfield 32, 3) := dk_180 0 32 (dk_at dksX0_ends_2 18 rfl rfl)
theorem dX0_ends_66 : decode cX0_ends 66 = .ok (.invokevirtual 340, 3) := dk_182 1 84 (dk_at dksX0_ends_2 21 rfl rfl)
theorem dX0_ends_69 : decode cX0_ends 69 = .ok (.ireturn, 1) := dk_172 (dk_at dksX0_ends_3 0 rfl rfl)
abbrev cX0_does : ByteArray := prog_1_method_46_code
def yX0_does : MethodName := ⟨RX0, "does", "(II)V"⟩
def dkwX0_does_4 : List UInt8 := [167, 0, 13, 42, 180, 0, 32, 180, 0, 153, 28, 3, 84, 177]
abbrev dktX0_does_4 : List UInt8 := dkwX0_does_4 ++ []
def dkwX0_does_3 : List UInt8 := [181, 0, 159, 167, 0, 33, 42, 180, 0, 32, 89, 180, 0, 159, 4, 28, 120, 2, 130, 126, 181, 0, 159]
abbrev dktX0_does_3 : List UInt8 := dkwX0_does_3 ++ dktX0_does_4
def dkwX0_does_2 : List UInt8 := [42, 42, 180, 0, 32, 182, 0, 251, 87, 167, 0, 51, 42, 180, 0, 32, 89, 180, 0, 159, 4, 28, 120, 128]
abbrev dktX0_does_2 : List UInt8 := dkwX0_does_2 ++ dktX0_does_3
def dkwX0_does_1 : List UInt8 := [170, 0, 0, 0, 0, 0, 77, 0, 0, 0, 0, 0, 0, 0, 2, 0, 0, 0, 27, 0, 0, 0, 39, 0, 0, 0, 57]
abbrev dktX0_does_1 : List UInt8 := dkwX0_does_1 ++ dktX0_does_2
def dkwX0_does_0 : List UInt8 := [27]
abbrev dktX0_does_0 : List UInt8 := dkwX0_does_0 ++ dktX0_does_1
theorem dksX0_does_0 : cX0_does.data.toList.drop 0 = dktX0_does_0 := by decide +kernel
theorem dksX0_does_1 : cX0_does.data.toList.drop 1 = dktX0_does_1 := dk_seg dksX0_does_0 1 rfl rfl
theorem dksX0_does_2 : cX0_does.data.toList.drop 28 = dktX0_does_2 := dk_seg dksX0_does_1 27 rfl rfl
theorem dksX0_does_3 : cX0_does.data.toList.drop 52 = dktX0_does_3 := dk_seg dksX0_does_2 24 rfl rfl
theorem dksX0_does_4 : cX0_does.data.toList.drop 75 = dktX0_does_4 := dk_seg dksX0_does_3 23 rfl rfl
theorem dX0_does_0 : decode cX0_does 0 = .ok (.iload_n 1, 1) := dk_27 (dk_at dksX0_does_0 0 rfl rfl)
theorem dX0_does_1 : decode cX0_does 1 = .ok (.tableswitch 77 0 2 #[27, 39, 57], 27) := by decide +kernel
theorem dX0_does_28 : decode cX0_does 28 = .ok (.aload_n 0, 1) := dk_42 (dk_at dksX0_does_2 0 rfl rfl)
theorem dX0_does_29 : decode cX0_does 29 = .ok (.aload_n 0, 1) := dk_42 (dk_at dksX0_does_2 1 rfl rfl)
theorem dX0_does_30 : decode cX0_does 30 = .ok (.getfield 32, 3) := dk_180 0 32 (dk_at dksX0_does_2 2 rfl rfl)
theorem dX0_does_33 : decode cX0_does 33 = .ok (.invokevirtual 251, 3) := dk_182 0 251 (dk_at dksX0_does_2 5 rfl rfl)
theorem dX0_does_36 : decode cX0_does 36 = .ok (.pop, 1) := dk_87 (dk_at dksX0_does_2 8 rfl rfl)
theorem dX0_does_37 : decode cX0_does 37 = .ok (.goto 51, 3) := dk_167 0 51 (dk_at dksX0_does_2 9 rfl rfl)
theorem dX0_does_40 : decode cX0_does 40 = .ok (.aload_n 0, 1) := dk_42 (dk_at dksX0_does_2 12 rfl rfl)
theorem dX0_does_41 : decode cX0_does 41 = .ok (.getfield 32, 3) := dk_180 0 32 (dk_at dksX0_does_2 13 rfl rfl)
theorem dX0_does_44 : decode cX0_does 44 = .ok (.dup, 1) := dk_89 (dk_at dksX0_does_2 16 rfl rfl)
theorem dX0_does_45 : decode cX0_does 45 = .ok (.getfield 159, 3) := dk_180 0 159 (dk_at dksX0_does_2 17 rfl rfl)
theorem dX0_does_48 : decode cX0_does 48 = .ok (.iconst 1, 1) := dk_4 (dk_at dksX0_does_2 20 rfl rfl)
theorem dX0_does_49 : decode cX0_does 49 = .ok (.iload_n 2, 1) := dk_28 (dk_at dksX0_does_2 21 rfl rfl)
theorem dX0_does_50 : decode cX0_does 50 = .ok (.ishl, 1) := dk_120 (dk_at dksX0_does_2 22 rfl rfl)
theorem dX0_does_51 : decode cX0_does 51 = .ok (.ior, 1) := dk_128 (dk_at dksX0_does_2 23 rfl rfl)
theorem dX0_does_52 : decode cX0_does 52 = .ok (.putfield 159, 3) := dk_181 0 159 (dk_at dksX0_does_3 0 rfl rfl)
theorem dX0_does_55 : decode cX0_does 55 = .ok (.goto 33, 3) := dk_167 0 33 (dk_at dksX0_does_3 3 rfl rfl)
theorem dX0_does_58 : decode cX0_does 58 = .ok (.aload_n 0, 1) := dk_42 (dk_at dksX0_does_3 6 rfl rfl)
theorem dX0_does_59 : decode cX0_does 59 = .ok (.getfield 32, 3) := dk_180 0 32 (dk_at dksX0_does_3 7 rfl rfl)
theorem dX0_does_62 : decode cX0_does 62 = .ok (.dup, 1) := dk_89 (dk_at dksX0_does_3 10 rfl rfl)
theorem dX0_does_63 : decode cX0_does 63 = .ok (.getfield 159, 3) := dk_180 0 159 (dk_at dksX0_does_3 11 rfl rfl)
theorem dX0_does_66 : decode cX0_does 66 = .ok (.iconst 1, 1) := dk_4 (dk_at dksX0_does_3 14 rfl rfl)
theorem dX0_does_67 : decode cX0_does 67 = .ok (.iload_n 2, 1) := dk_28 (dk_at dksX0_does_3 15 rfl rfl)
theorem dX0_does_68 : decode cX0_does 68 = .ok (.ishl, 1) := dk_120 (dk_at dksX0_does_3 16 rfl rfl)
theorem dX0_does_69 : decode cX0_does 69 = .ok (.iconst (-1), 1) := dk_2 (dk_at dksX0_does_3 17 rfl rfl)
theorem dX0_does_70 : decode cX0_does 70 = .ok (.ixor, 1) := dk_130 (dk_at dksX0_does_3 18 rfl rfl)
theorem dX0_does_71 : decode cX0_does 71 = .ok (.iand, 1) := dk_126 (dk_at dksX0_does_3 19 rfl rfl)
theorem dX0_does_72 : decode cX0_does 72 = .ok (.putfield 159, 3) := dk_181 0 159 (dk_at dksX0_does_3 20 rfl rfl)
theorem dX0_does_75 : decode cX0_does 75 = .ok (.goto 13, 3) := dk_167 0 13 (dk_at dksX0_does_4 0 rfl rfl)
theorem dX0_does_78 : decode cX0_does 78 = .ok (.aload_n 0, 1) := dk_42 (dk_at dksX0_does_4 3 rfl rfl)
theorem dX0_does_79 : decode cX0_does 79 = .ok (.getfield 32, 3) := dk_180 0 32 (dk_at dksX0_does_4 4 rfl rfl)
theorem dX0_does_82 : decode cX0_does 82 = .ok (.getfield 153, 3) := dk_180 0 153 (dk_at dksX0_does_4 7 rfl rfl)
theorem dX0_does_85 : decode cX0_does 85 = .ok (.iload_n 2, 1) := dk_28 (dk_at dksX0_does_4 10 rfl rfl)
theorem dX0_does_86 : decode cX0_does 86 = .ok (.iconst 0, 1) := dk_3 (dk_at dksX0_does_4 11 rfl rfl)
theorem dX0_does_87 : decode cX0_does 87 = .ok (.bastore, 1) := dk_84 (dk_at dksX0_does_4 12 rfl rfl)
theorem dX0_does_88 : decode cX0_does 88 = .ok (.return_, 1) := dk_177 (dk_at dksX0_does_4 13 rfl rfl)
abbrev cX0_book : ByteArray := prog_1_method_48_code
def yX0_book : MethodName := ⟨RX0, "book", "(II)I"⟩
def dkwX0_book_3 : List UInt8 := [180, 1, 87, 172]
abbrev dktX0_book_3 : List UInt8 := dkwX0_book_3 ++ []
def dkwX0_book_2 : List UInt8 := [180, 1, 87, 27, 79, 42, 180, 0, 75, 42, 89, 180, 1, 87, 90, 4, 96, 181, 1, 87, 28, 79, 42]
abbrev dktX0_book_2 : List UInt8 := dkwX0_book_2 ++ dktX0_book_3
def dkwX0_book_1 : List UInt8 := [154, 0, 5, 2, 172, 42, 180, 1, 87, 16, 8, 160, 0, 6, 16, 252, 172, 42, 180, 0, 72, 42]
abbrev dktX0_book_1 : List UInt8 := dkwX0_book_1 ++ dktX0_book_2
def dkwX0_book_0 : List UInt8 := [27, 2, 160, 0, 10, 42, 3, 181, 1, 87, 3, 172, 42, 27, 182, 1, 5, 153, 0, 10, 28, 184, 0, 142]
abbrev dktX0_book_0 : List UInt8 := dkwX0_book_0 ++ dktX0_book_1
theorem dksX0_book_0 : cX0_book.data.toList.drop 0 = dktX0_book_0 := by decide +kernel
theorem dksX0_book_1 : cX0_book.data.toList.drop 24 = dktX0_book_1 := dk_seg dksX0_book_0 24 rfl rfl
theorem dksX0_book_2 : cX0_book.data.toList.drop 46 = dktX0_book_2 := dk_seg dksX0_book_1 22 rfl rfl
theorem dksX0_book_3 : cX0_book.data.toList.drop 69 = dktX0_book_3 := dk_seg dksX0_book_2 23 rfl rfl
theorem dX0_book_0 : decode cX0_book 0 = .ok (.iload_n 1, 1) := dk_27 (dk_at dksX0_book_0 0 rfl rfl)
theorem dX0_book_1 : decode cX0_book 1 = .ok (.iconst (-1), 1) := dk_2 (dk_at dksX0_book_0 1 rfl rfl)
theorem dX0_book_2 : decode cX0_book 2 = .ok (.if_icmp .ne 10, 3) := dk_160 0 10 (dk_at dksX0_book_0 2 rfl rfl)
theorem dX0_book_5 : decode cX0_book 5 = .ok (.aload_n 0, 1) := dk_42 (dk_at dksX0_book_0 5 rfl rfl)
theorem dX0_book_6 : decode cX0_book 6 = .ok (.iconst 0, 1) := dk_3 (dk_at dksX0_book_0 6 rfl rfl)
theorem dX0_book_7 : decode cX0_book 7 = .ok (.putfield 343, 3) := dk_181 1 87 (dk_at dksX0_book_0 7 rfl rfl)
theorem dX0_book_10 : decode cX0_book 10 = .ok (.iconst 0, 1) := dk_3 (dk_at dksX0_book_0 10 rfl rfl)
theorem dX0_book_11 : decode cX0_book 11 = .ok (.ireturn, 1) := dk_172 (dk_at dksX0_book_0 11 rfl rfl)
theorem dX0_book_12 : decode cX0_book 12 = .ok (.aload_n 0, 1) := dk_42 (dk_at dksX0_book_0 12 rfl rfl)
theorem dX0_book_13 : decode cX0_book 13 = .ok (.iload_n 1, 1) := dk_27 (dk_at dksX0_book_0 13 rfl rfl)
theorem dX0_book_14 : decode cX0_book 14 = .ok (.invokevirtual 261, 3) := dk_182 1 5 (dk_at dksX0_book_0 14 rfl rfl)
theorem dX0_book_17 : decode cX0_book 17 = .ok (.ifCond .eq 10, 3) := dk_153 0 10 (dk_at dksX0_book_0 17 rfl rfl)
theorem dX0_book_20 : decode cX0_book 20 = .ok (.iload_n 2, 1) := dk_28 (dk_at dksX0_book_0 20 rfl rfl)
theorem dX0_book_21 : decode cX0_book 21 = .ok (.invokestatic 142, 3) := dk_184 0 142 (dk_at dksX0_book_0 21 rfl rfl)
theorem dX0_book_24 : decode cX0_book 24 = .ok (.ifCond .ne 5, 3) := dk_154 0 5 (dk_at dksX0_book_1 0 rfl rfl)
theorem dX0_book_27 : decode cX0_book 27 = .ok (.iconst (-1), 1) := dk_2 (dk_at dksX0_book_1 3 rfl rfl)
theorem dX0_book_28 : decode cX0_book 28 = .ok (.ireturn, 1) := dk_172 (dk_at dksX0_book_1 4 rfl rfl)
theorem dX0_book_29 : decode cX0_book 29 = .ok (.aload_n 0, 1) := dk_42 (dk_at dksX0_book_1 5 rfl rfl)
theorem dX0_book_30 : decode cX0_book 30 = .ok (.getfield 343, 3) := dk_180 1 87 (dk_at dksX0_book_1 6 rfl rfl)
theorem dX0_book_33 : decode cX0_book 33 = .ok (.bipush 8, 2) := dk_16 8 (dk_at dksX0_book_1 9 rfl rfl)
theorem dX0_book_35 : decode cX0_book 35 = .ok (.if_icmp .ne 6, 3) := dk_160 0 6 (dk_at dksX0_book_1 11 rfl rfl)
theorem dX0_book_38 : decode cX0_book 38 = .ok (.bipush (-4), 2) := dk_16 252 (dk_at dksX0_book_1 14 rfl rfl)
theorem dX0_book_40 : decode cX0_book 40 = .ok (.ireturn, 1) := dk_172 (dk_at dksX0_book_1 16 rfl rfl)
theorem dX0_book_41 : decode cX0_book 41 = .ok (.aload_n 0, 1) := dk_42 (dk_at dksX0_book_1 17 rfl rfl)
theorem dX0_book_42 : decode cX0_book 42 = .ok (.getfield 72, 3) := dk_180 0 72 (dk_at dksX0_book_1 18 rfl rfl)
theorem dX0_book_45 : decode cX0_book 45 = .ok (.aload_n 0, 1) := dk_42 (dk_at dksX0_book_1 21 rfl rfl)
theorem dX0_book_46 : decode cX0_book 46 = .ok (.getfield 343, 3) := dk_180 1 87 (dk_at dksX0_book_2 0 rfl rfl)
theorem dX0_book_49 : decode cX0_book 49 = .ok (.iload_n 1, 1) := dk_27 (dk_at dksX0_book_2 3 rfl rfl)
theorem dX0_book_50 : decode cX0_book 50 = .ok (.iastore, 1) := dk_79 (dk_at dksX0_book_2 4 rfl rfl)
theorem dX0_book_51 : decode cX0_book 51 = .ok (.aload_n 0, 1) := dk_42 (dk_at dksX0_book_2 5 rfl rfl)
theorem dX0_book_52 : decode cX0_book 52 = .ok (.getfield 75, 3) := dk_180 0 75 (dk_at dksX0_book_2 6 rfl rfl)
theorem dX0_book_55 : decode cX0_book 55 = .ok (.aload_n 0, 1) := dk_42 (dk_at dksX0_book_2 9 rfl rfl)
theorem dX0_book_56 : decode cX0_book 56 = .ok (.dup, 1) := dk_89 (dk_at dksX0_book_2 10 rfl rfl)
theorem dX0_book_57 : decode cX0_book 57 = .ok (.getfield 343, 3) := dk_180 1 87 (dk_at dksX0_book_2 11 rfl rfl)
theorem dX0_book_60 : decode cX0_book 60 = .ok (.dup_x1, 1) := dk_90 (dk_at dksX0_book_2 14 rfl rfl)
theorem dX0_book_61 : decode cX0_book 61 = .ok (.iconst 1, 1) := dk_4 (dk_at dksX0_book_2 15 rfl rfl)
theorem dX0_book_62 : decode cX0_book 62 = .ok (.iadd, 1) := dk_96 (dk_at dksX0_book_2 16 rfl rfl)
theorem dX0_book_63 : decode cX0_book 63 = .ok (.putfield 343, 3) := dk_181 1 87 (dk_at dksX0_book_2 17 rfl rfl)
theorem dX0_book_66 : decode cX0_book 66 = .ok (.iload_n 2, 1) := dk_28 (dk_at dksX0_book_2 20 rfl rfl)
theorem dX0_book_67 : decode cX0_book 67 = .ok (.iastore, 1) := dk_79 (dk_at dksX0_book_2 21 rfl rfl)
theorem dX0_book_68 : decode cX0_book 68 = .ok (.aload_n 0, 1) := dk_42 (dk_at dksX0_book_2 22 rfl rfl)
theorem dX0_book_69 : decode cX0_book 69 = .ok (.getfield 343, 3) := dk_180 1 87 (dk_at dksX0_book_3 0 rfl rfl)
theorem dX0_book_72 : decode cX0_book 72 = .ok (.ireturn, 1) := dk_172 (dk_at dksX0_book_3 3 rfl rfl)
abbrev cX0_looked : ByteArray := prog_1_method_49_code
def yX0_looked : MethodName := ⟨RX0, "looked", "()I"⟩
def dkwX0_looked_1 : List UInt8 := [42, 180, 0, 75, 27, 46, 159, 0, 5, 27, 172, 132, 1, 1, 167, 255, 220, 16, 251, 172]
abbrev dktX0_looked_1 : List UInt8 := dkwX0_looked_1 ++ []
def dkwX0_looked_0 : List UInt8 := [3, 60, 27, 42, 180, 1, 87, 162, 0, 34, 42, 180, 0, 28, 180, 0, 153, 42, 180, 0, 72, 27, 46, 51]
abbrev dktX0_looked_0 : List UInt8 := dkwX0_looked_0 ++ dktX0_looked_1
theorem dksX0_looked_0 : cX0_looked.data.toList.drop 0 = dktX0_looked_0 := by decide +kernel
theorem dksX0_looked_1 : cX0_looked.data.toList.drop 24 = dktX0_looked_1 := dk_seg dksX0_looked_0 24 rfl rfl
theorem dX0_looked_0 : decode cX0_looked 0 = .ok (.iconst 0, 1) := dk_3 (dk_at dksX0_looked_0 0 rfl rfl)
theorem dX0_looked_1 : decode cX0_looked 1 = .ok (.istore_n 1, 1) := dk_60 (dk_at dksX0_looked_0 1 rfl rfl)
theorem dX0_looked_2 : decode cX0_looked 2 = .ok (.iload_n 1, 1) := dk_27 (dk_at dksX0_looked_0 2 rfl rfl)
theorem dX0_looked_3 : decode cX0_looked 3 = .ok (.aload_n 0, 1) := dk_42 (dk_at dksX0_looked_0 3 rfl rfl)
theorem dX0_looked_4 : decode cX0_looked 4 = .ok (.getfield 343, 3) := dk_180 1 87 (dk_at dksX0_looked_0 4 rfl rfl)
theorem dX0_looked_7 : decode cX0_looked 7 = .ok (.if_icmp .ge 34, 3) := dk_162 0 34 (dk_at dksX0_looked_0 7 rfl rfl)
theorem dX0_looked_10 : decode cX0_looked 10 = .ok (.aload_n 0, 1) := dk_42 (dk_at dksX0_looked_0 10 rfl rfl)
theorem dX0_looked_11 : decode cX0_looked 11 = .ok (.getfield 28, 3) := dk_180 0 28 (dk_at dksX0_looked_0 11 rfl rfl)
theorem dX0_looked_14 : decode cX0_looked 14 = .ok (.getfield 153, 3) := dk_180 0 153 (dk_at dksX0_looked_0 14 rfl rfl)
theorem dX0_looked_17 : decode cX0_looked 17 = .ok (.aload_n 0, 1) := dk_42 (dk_at dksX0_looked_0 17 rfl rfl)
theorem dX0_looked_18 : decode cX0_looked 18 = .ok (.getfield 72, 3) := dk_180 0 72 (dk_at dksX0_looked_0 18 rfl rfl)
theorem dX0_looked_21 : decode cX0_looked 21 = .ok (.iload_n 1, 1) := dk_27 (dk_at dksX0_looked_0 21 rfl rfl)
theorem dX0_looked_22 : decode cX0_looked 22 = .ok (.iaload, 1) := dk_46 (dk_at dksX0_looked_0 22 rfl rfl)
theorem dX0_looked_23 : decode cX0_looked 23 = .ok (.baload, 1) := dk_51 (dk_at dksX0_looked_0 23 rfl rfl)
theorem dX0_looked_24 : decode cX0_looked 24 = .ok (.aload_n 0, 1) := dk_42 (dk_at dksX0_looked_1 0 rfl rfl)
theorem dX0_looked_25 : decode cX0_looked 25 = .ok (.getfield 75, 3) := dk_180 0 75 (dk_at dksX0_looked_1 1 rfl rfl)
theorem dX0_looked_28 : decode cX0_looked 28 = .ok (.iload_n 1, 1) := dk_27 (dk_at dksX0_looked_1 4 rfl rfl)
theorem dX0_looked_29 : decode cX0_looked 29 = .ok (.iaload, 1) := dk_46 (dk_at dksX0_looked_1 5 rfl rfl)
theorem dX0_looked_30 : decode cX0_looked 30 = .ok (.if_icmp .eq 5, 3) := dk_159 0 5 (dk_at dksX0_looked_1 6 rfl rfl)
theorem dX0_looked_33 : decode cX0_looked 33 = .ok (.iload_n 1, 1) := dk_27 (dk_at dksX0_looked_1 9 rfl rfl)
theorem dX0_looked_34 : decode cX0_looked 34 = .ok (.ireturn, 1) := dk_172 (dk_at dksX0_looked_1 10 rfl rfl)
theorem dX0_looked_35 : decode cX0_looked 35 = .ok (.iinc 1 1, 3) := dk_132 1 1 (dk_at dksX0_looked_1 11 rfl rfl)
theorem dX0_looked_38 : decode cX0_looked 38 = .ok (.goto (-36), 3) := dk_167 255 220 (dk_at dksX0_looked_1 14 rfl rfl)
theorem dX0_looked_41 : decode cX0_looked 41 = .ok (.bipush (-5), 2) := dk_16 251 (dk_at dksX0_looked_1 17 rfl rfl)
theorem dX0_looked_43 : decode cX0_looked 43 = .ok (.ireturn, 1) := dk_172 (dk_at dksX0_looked_1 19 rfl rfl)
abbrev cX0_judge : ByteArray := prog_1_method_51_code
def yX0_judge : MethodName := ⟨RX0, "judge", "(II)I"⟩
def dkwX0_judge_1 : List UInt8 := [180, 1, 97, 192, 1, 101, 28, 182, 1, 103, 172, 78, 16, 244, 172]
abbrev dktX0_judge_1 : List UInt8 := dkwX0_judge_1 ++ []
def dkwX0_judge_0 : List UInt8 := [27, 184, 1, 94, 154, 0, 5, 2, 172, 42, 42, 180, 0, 28, 182, 0, 234, 42, 42, 180, 0, 80, 27, 50]
abbrev dktX0_judge_0 : List UInt8 := dkwX0_judge_0 ++ dktX0_judge_1
theorem dksX0_judge_0 : cX0_judge.data.toList.drop 0 = dktX0_judge_0 := by decide +kernel
theorem dksX0_judge_1 : cX0_judge.data.toList.drop 24 = dktX0_judge_1 := dk_seg dksX0_judge_0 24 rfl rfl
theorem dX0_judge_0 : decode cX0_judge 0 = .ok (.iload_n 1, 1) := dk_27 (dk_at dksX0_judge_0 0 rfl rfl)
theorem dX0_judge_1 : decode cX0_judge 1 = .ok (.invokestatic 350, 3) := dk_184 1 94 (dk_at dksX0_judge_0 1 rfl rfl)
theorem dX0_judge_4 : decode cX0_judge 4 = .ok (.ifCond .ne 5, 3) := dk_154 0 5 (dk_at dksX0_judge_0 4 rfl rfl)
theorem dX0_judge_7 : decode cX0_judge 7 = .ok (.iconst (-1), 1) := dk_2 (dk_at dksX0_judge_0 7 rfl rfl)
theorem dX0_judge_8 : decode cX0_judge 8 = .ok (.ireturn, 1) := dk_172 (dk_at dksX0_judge_0 8 rfl rfl)
theorem dX0_judge_9 : decode cX0_judge 9 = .ok (.aload_n 0, 1) := dk_42 (dk_at dksX0_judge_0 9 rfl rfl)
theorem dX0_judge_10 : decode cX0_judge 10 = .ok (.aload_n 0, 1) := dk_42 (dk_at dksX0_judge_0 10 rfl rfl)
theorem dX0_judge_11 : decode cX0_judge 11 = .ok (.getfield 28, 3) := dk_180 0 28 (dk_at dksX0_judge_0 11 rfl rfl)
theorem dX0_judge_14 : decode cX0_judge 14 = .ok (.invokevirtual 234, 3) := dk_182 0 234 (dk_at dksX0_judge_0 14 rfl rfl)
theorem dX0_judge_17 : decode cX0_judge 17 = .ok (.aload_n 0, 1) := dk_42 (dk_at dksX0_judge_0 17 rfl rfl)
theorem dX0_judge_18 : decode cX0_judge 18 = .ok (.aload_n 0, 1) := dk_42 (dk_at dksX0_judge_0 18 rfl rfl)
theorem dX0_judge_19 : decode cX0_judge 19 = .ok (.getfield 80, 3) := dk_180 0 80 (dk_at dksX0_judge_0 19 rfl rfl)
theorem dX0_judge_22 : decode cX0_judge 22 = .ok (.iload_n 1, 1) := dk_27 (dk_at dksX0_judge_0 22 rfl rfl)
theorem dX0_judge_23 : decode cX0_judge 23 = .ok (.aaload, 1) := dk_50 (dk_at dksX0_judge_0 23 rfl rfl)
theorem dX0_judge_24 : decode cX0_judge 24 = .ok (.getfield 353, 3) := dk_180 1 97 (dk_at dksX0_judge_1 0 rfl rfl)
theorem dX0_judge_27 : decode cX0_judge 27 = .ok (.checkcast 357, 3) := dk_192 1 101 (dk_at dksX0_judge_1 3 rfl rfl)
theorem dX0_judge_30 : decode cX0_judge 30 = .ok (.iload_n 2, 1) := dk_28 (dk_at dksX0_judge_1 6 rfl rfl)
theorem dX0_judge_31 : decode cX0_judge 31 = .ok (.invokevirtual 359, 3) := dk_182 1 103 (dk_at dksX0_judge_1 7 rfl rfl)
theorem dX0_judge_34 : decode cX0_judge 34 = .ok (.ireturn, 1) := dk_172 (dk_at dksX0_judge_1 10 rfl rfl)
theorem dX0_judge_35 : decode cX0_judge 35 = .ok (.astore_n 3, 1) := dk_78 (dk_at dksX0_judge_1 11 rfl rfl)
theorem dX0_judge_36 : decode cX0_judge 36 = .ok (.bipush (-12), 2) := dk_16 244 (dk_at dksX0_judge_1 12 rfl rfl)
theorem dX0_judge_38 : decode cX0_judge 38 = .ok (.ireturn, 1) := dk_172 (dk_at dksX0_judge_1 14 rfl rfl)
abbrev cX0_isTape : ByteArray := prog_1_method_60_code
def yX0_isTape : MethodName := ⟨RX0, "isTape", "(I)Z"⟩
def dkwX0_isTape_0 : List UInt8 := [26, 3, 8, 184, 0, 5, 172]
abbrev dktX0_isTape_0 : List UInt8 := dkwX0_isTape_0 ++ []
theorem dksX0_isTape_0 : cX0_isTape.data.toList.drop 0 = dktX0_isTape_0 := by decide +kernel
theorem dX0_isTape_0 : decode cX0_isTape 0 = .ok (.iload_n 0, 1) := dk_26 (dk_at dksX0_isTape_0 0 rfl rfl)
theorem dX0_isTape_1 : decode cX0_isTape 1 = .ok (.iconst 0, 1) := dk_3 (dk_at dksX0_isTape_0 1 rfl rfl)
theorem dX0_isTape_2 : decode cX0_isTape 2 = .ok (.iconst 5, 1) := dk_8 (dk_at dksX0_isTape_0 2 rfl rfl)
theorem dX0_isTape_3 : decode cX0_isTape 3 = .ok (.invokestatic 5, 3) := dk_184 0 5 (dk_at dksX0_isTape_0 3 rfl rfl)
theorem dX0_isTape_6 : decode cX0_isTape 6 = .ok (.ireturn, 1) := dk_172 (dk_at dksX0_isTape_0 6 rfl rfl)
abbrev cX0_firstOther : ByteArray := prog_1_method_50_code
def yX0_firstOther : MethodName := ⟨RX0, "firstOther", "([SI)I"⟩
def dkwX0_firstOther_3 : List UInt8 := [172, 132, 3, 1, 167, 255, 183, 16, 251, 172, 58, 4, 29, 16, 100, 96, 172, 58, 4, 29, 16, 100, 96, 172]
abbrev dktX0_firstOther_3 : List UInt8 := dkwX0_firstOther_3 ++ []
def dkwX0_firstOther_2 : List UInt8 := [22, 4, 136, 53, 42, 42, 180, 0, 28, 29, 42, 180, 0, 28, 182, 0, 225, 182, 0, 228, 159, 0, 5, 29]
abbrev dktX0_firstOther_2 : List UInt8 := dkwX0_firstOther_2 ++ dktX0_firstOther_3
def dkwX0_firstOther_1 : List UInt8 := [133, 148, 156, 0, 10, 22, 4, 9, 148, 156, 0, 13, 187, 1, 33, 89, 16, 243, 183, 1, 90, 191, 43]
abbrev dktX0_firstOther_1 : List UInt8 := dkwX0_firstOther_1 ++ dktX0_firstOther_2
def dkwX0_firstOther_0 : List UInt8 := [3, 62, 29, 42, 180, 0, 28, 180, 0, 115, 162, 0, 68, 28, 133, 29, 133, 97, 55, 4, 22, 4, 43, 190]
abbrev dktX0_firstOther_0 : List UInt8 := dkwX0_firstOther_0 ++ dktX0_firstOther_1
theorem dksX0_firstOther_0 : cX0_firstOther.data.toList.drop 0 = dktX0_firstOther_0 := by decide +kernel
theorem dksX0_firstOther_1 : cX0_firstOther.data.toList.drop 24 = dktX0_firstOther_1 := dk_seg dksX0_firstOther_0 24 rfl rfl
theorem dksX0_firstOther_2 : cX0_firstOther.data.toList.drop 47 = dktX0_firstOther_2 := dk_seg dksX0_firstOther_1 23 rfl rfl
theorem dksX0_firstOther_3 : cX0_firstOther.data.toList.drop 71 = dktX0_firstOther_3 := dk_seg dksX0_firstOther_2 24 rfl rfl
theorem dX0_firstOther_0 : decode cX0_firstOther 0 = .ok (.iconst 0, 1) := dk_3 (dk_at dksX0_firstOther_0 0 rfl rfl)
theorem dX0_firstOther_1 : decode cX0_firstOther 1 = .ok (.istore_n 3, 1) := dk_62 (dk_at dksX0_firstOther_0 1 rfl rfl)
theorem dX0_firstOther_2 : decode cX0_firstOther 2 = .ok (.iload_n 3, 1) := dk_29 (dk_at dksX0_firstOther_0 2 rfl rfl)
theorem dX0_firstOther_3 : decode cX0_firstOther 3 = .ok (.aload_n 0, 1) := dk_42 (dk_at dksX0_firstOther_0 3 rfl rfl)
theorem dX0_firstOther_4 : decode cX0_firstOther 4 = .ok (.getfield 28, 3) := dk_180 0 28 (dk_at dksX0_firstOther_0 4 rfl rfl)
theorem dX0_firstOther_7 : decode cX0_firstOther 7 = .ok (.getfield 115, 3) := dk_180 0 115 (dk_at dksX0_firstOther_0 7 rfl rfl)
theorem dX0_firstOther_10 : decode cX0_firstOther 10 = .ok (.if_icmp .ge 68, 3) := dk_162 0 68 (dk_at dksX0_firstOther_0 10 rfl rfl)
theorem dX0_firstOther_13 : decode cX0_firstOther 13 = .ok (.iload_n 2, 1) := dk_28 (dk_at dksX0_firstOther_0 13 rfl rfl)
theorem dX0_firstOther_14 : decode cX0_firstOther 14 = .ok (.i2l, 1) := dk_133 (dk_at dksX0_firstOther_0 14 rfl rfl)
theorem dX0_firstOther_15 : decode cX0_firstOther 15 = .ok (.iload_n 3, 1) := dk_29 (dk_at dksX0_firstOther_0 15 rfl rfl)
theorem dX0_firstOther_16 : decode cX0_firstOther 16 = .ok (.i2l, 1) := dk_133 (dk_at dksX0_firstOther_0 16 rfl rfl)
theorem dX0_firstOther_17 : decode cX0_firstOther 17 = .ok (.ladd, 1) := dk_97 (dk_at dksX0_firstOther_0 17 rfl rfl)
theorem dX0_firstOther_18 : decode cX0_firstOther 18 = .ok (.lstore 4, 2) := dk_55 4 (dk_at dksX0_firstOther_0 18 rfl rfl)
theorem dX0_firstOther_20 : decode cX0_firstOther 20 = .ok (.lload 4, 2) := dk_22 4 (dk_at dksX0_firstOther_0 20 rfl rfl)
theorem dX0_firstOther_22 : decode cX0_firstOther 22 = .ok (.aload_n 1, 1) := dk_43 (dk_at dksX0_firstOther_0 22 rfl rfl)
theorem dX0_firstOther_23 : decode cX0_firstOther 23 = .ok (.arraylength, 1) := dk_190 (dk_at dksX0_firstOther_0 23 rfl rfl)
theorem dX0_firstOther_24 : decode cX0_firstOther 24 = .ok (.i2l, 1) := dk_133 (dk_at dksX0_firstOther_1 0 rfl rfl)
theorem dX0_firstOther_25 : decode cX0_firstOther 25 = .ok (.lcmp, 1) := dk_148 (dk_at dksX0_firstOther_1 1 rfl rfl)
theorem dX0_firstOther_26 : decode cX0_firstOther 26 = .ok (.ifCond .ge 10, 3) := dk_156 0 10 (dk_at dksX0_firstOther_1 2 rfl rfl)
theorem dX0_firstOther_29 : decode cX0_firstOther 29 = .ok (.lload 4, 2) := dk_22 4 (dk_at dksX0_firstOther_1 5 rfl rfl)
theorem dX0_firstOther_31 : decode cX0_firstOther 31 = .ok (.lconst 0, 1) := dk_9 (dk_at dksX0_firstOther_1 7 rfl rfl)
theorem dX0_firstOther_32 : decode cX0_firstOther 32 = .ok (.lcmp, 1) := dk_148 (dk_at dksX0_firstOther_1 8 rfl rfl)
theorem dX0_firstOther_33 : decode cX0_firstOther 33 = .ok (.ifCond .ge 13, 3) := dk_156 0 13 (dk_at dksX0_firstOther_1 9 rfl rfl)
theorem dX0_firstOther_36 : decode cX0_firstOther 36 = .ok (.new 289, 3) := dk_187 1 33 (dk_at dksX0_firstOther_1 12 rfl rfl)
theorem dX0_firstOther_39 : decode cX0_firstOther 39 = .ok (.dup, 1) := dk_89 (dk_at dksX0_firstOther_1 15 rfl rfl)
theorem dX0_firstOther_40 : decode cX0_firstOther 40 = .ok (.bipush (-13), 2) := dk_16 243 (dk_at dksX0_firstOther_1 16 rfl rfl)
theorem dX0_firstOther_42 : decode cX0_firstOther 42 = .ok (.invokespecial 346, 3) := dk_183 1 90 (dk_at dksX0_firstOther_1 18 rfl rfl)
theorem dX0_firstOther_45 : decode cX0_firstOther 45 = .ok (.athrow, 1) := dk_191 (dk_at dksX0_firstOther_1 21 rfl rfl)
theorem dX0_firstOther_46 : decode cX0_firstOther 46 = .ok (.aload_n 1, 1) := dk_43 (dk_at dksX0_firstOther_1 22 rfl rfl)
theorem dX0_firstOther_47 : decode cX0_firstOther 47 = .ok (.lload 4, 2) := dk_22 4 (dk_at dksX0_firstOther_2 0 rfl rfl)
theorem dX0_firstOther_49 : decode cX0_firstOther 49 = .ok (.l2i, 1) := dk_136 (dk_at dksX0_firstOther_2 2 rfl rfl)
theorem dX0_firstOther_50 : decode cX0_firstOther 50 = .ok (.saload, 1) := dk_53 (dk_at dksX0_firstOther_2 3 rfl rfl)
theorem dX0_firstOther_51 : decode cX0_firstOther 51 = .ok (.aload_n 0, 1) := dk_42 (dk_at dksX0_firstOther_2 4 rfl rfl)
theorem dX0_firstOther_52 : decode cX0_firstOther 52 = .ok (.aload_n 0, 1) := dk_42 (dk_at dksX0_firstOther_2 5 rfl rfl)
theorem dX0_firstOther_53 : decode cX0_firstOther 53 = .ok (.getfield 28, 3) := dk_180 0 28 (dk_at dksX0_firstOther_2 6 rfl rfl)
theorem dX0_firstOther_56 : decode cX0_firstOther 56 = .ok (.iload_n 3, 1) := dk_29 (dk_at dksX0_firstOther_2 9 rfl rfl)
theorem dX0_firstOther_57 : decode cX0_firstOther 57 = .ok (.aload_n 0, 1) := dk_42 (dk_at dksX0_firstOther_2 10 rfl rfl)
theorem dX0_firstOther_58 : decode cX0_firstOther 58 = .ok (.getfield 28, 3) := dk_180 0 28 (dk_at dksX0_firstOther_2 11 rfl rfl)
theorem dX0_firstOther_61 : decode cX0_firstOther 61 = .ok (.invokevirtual 225, 3) := dk_182 0 225 (dk_at dksX0_firstOther_2 14 rfl rfl)
theorem dX0_firstOther_64 : decode cX0_firstOther 64 = .ok (.invokevirtual 228, 3) := dk_182 0 228 (dk_at dksX0_firstOther_2 17 rfl rfl)
theorem dX0_firstOther_67 : decode cX0_firstOther 67 = .ok (.if_icmp .eq 5, 3) := dk_159 0 5 (dk_at dksX0_firstOther_2 20 rfl rfl)
theorem dX0_firstOther_70 : decode cX0_firstOther 70 = .ok (.iload_n 3, 1) := dk_29 (dk_at dksX0_firstOther_2 23 rfl rfl)
theorem dX0_firstOther_71 : decode cX0_firstOther 71 = .ok (.ireturn, 1) := dk_172 (dk_at dksX0_firstOther_3 0 rfl rfl)
theorem dX0_firstOther_72 : decode cX0_firstOther 72 = .ok (.iinc 3 1, 3) := dk_132 3 1 (dk_at dksX0_firstOther_3 1 rfl rfl)
theorem dX0_firstOther_75 : decode cX0_firstOther 75 = .ok (.goto (-73), 3) := dk_167 255 183 (dk_at dksX0_firstOther_3 4 rfl rfl)
theorem dX0_firstOther_78 : decode cX0_firstOther 78 = .ok (.bipush (-5), 2) := dk_16 251 (dk_at dksX0_firstOther_3 7 rfl rfl)
theorem dX0_firstOther_80 : decode cX0_firstOther 80 = .ok (.ireturn, 1) := dk_172 (dk_at dksX0_firstOther_3 9 rfl rfl)
theorem dX0_firstOther_81 : decode cX0_firstOther 81 = .ok (.astore 4, 2) := dk_58 4 (dk_at dksX0_firstOther_3 10 rfl rfl)
theorem dX0_firstOther_83 : decode cX0_firstOther 83 = .ok (.iload_n 3, 1) := dk_29 (dk_at dksX0_firstOther_3 12 rfl rfl)
theorem dX0_firstOther_84 : decode cX0_firstOther 84 = .ok (.bipush 100, 2) := dk_16 100 (dk_at dksX0_firstOther_3 13 rfl rfl)
theorem dX0_firstOther_86 : decode cX0_firstOther 86 = .ok (.iadd, 1) := dk_96 (dk_at dksX0_firstOther_3 15 rfl rfl)
theorem dX0_firstOther_87 : decode cX0_firstOther 87 = .ok (.ireturn, 1) := dk_172 (dk_at dksX0_firstOther_3 16 rfl rfl)
theorem dX0_firstOther_88 : decode cX0_firstOther 88 = .ok (.astore 4, 2) := dk_58 4 (dk_at dksX0_firstOther_3 17 rfl rfl)
theorem dX0_firstOther_90 : decode cX0_firstOther 90 = .ok (.iload_n 3, 1) := dk_29 (dk_at dksX0_firstOther_3 19 rfl rfl)
theorem dX0_firstOther_91 : decode cX0_firstOther 91 = .ok (.bipush 100, 2) := dk_16 100 (dk_at dksX0_firstOther_3 20 rfl rfl)
theorem dX0_firstOther_93 : decode cX0_firstOther 93 = .ok (.iadd, 1) := dk_96 (dk_at dksX0_firstOther_3 22 rfl rfl)
theorem dX0_firstOther_94 : decode cX0_firstOther 94 = .ok (.ireturn, 1) := dk_172 (dk_at dksX0_firstOther_3 23 rfl rfl)
abbrev cX0_image : ByteArray := prog_1_method_52_code
def yX0_image : MethodName := ⟨RX0, "image", "()I"⟩
def dkwX0_image_7 : List UInt8 := [180, 0, 115, 172]
abbrev dktX0_image_7 : List UInt8 := dkwX0_image_7 ++ []
def dkwX0_image_6 : List UInt8 := [181, 1, 118, 42, 42, 180, 1, 87, 181, 1, 121, 42, 42, 180, 0, 42, 181, 1, 124, 42, 180, 0, 28]
abbrev dktX0_image_6 : List UInt8 := dkwX0_image_6 ++ dktX0_image_7
def dkwX0_image_5 : List UInt8 := [3, 42, 180, 0, 111, 3, 16, 8, 184, 1, 109, 42, 42, 180, 1, 57, 181, 1, 115, 42, 42, 180, 1, 74]
abbrev dktX0_image_5 : List UInt8 := dkwX0_image_5 ++ dktX0_image_6
def dkwX0_image_4 : List UInt8 := [16, 8, 184, 1, 109, 42, 180, 0, 72, 3, 42, 180, 0, 108, 3, 16, 8, 184, 1, 109, 42, 180, 0, 75]
abbrev dktX0_image_4 : List UInt8 := dkwX0_image_4 ++ dktX0_image_5
def dkwX0_image_3 : List UInt8 := [180, 0, 66, 3, 42, 180, 0, 102, 3, 16, 8, 184, 1, 109, 42, 180, 0, 69, 3, 42, 180, 0, 105, 3]
abbrev dktX0_image_3 : List UInt8 := dkwX0_image_3 ++ dktX0_image_4
def dkwX0_image_2 : List UInt8 := [180, 0, 96, 3, 8, 184, 1, 109, 42, 180, 0, 63, 3, 42, 180, 0, 99, 3, 8, 184, 1, 109, 42]
abbrev dktX0_image_2 : List UInt8 := dkwX0_image_2 ++ dktX0_image_3
def dkwX0_image_1 : List UInt8 := [184, 1, 109, 42, 180, 0, 21, 3, 42, 180, 0, 93, 3, 16, 24, 184, 1, 109, 42, 180, 0, 60, 3, 42]
abbrev dktX0_image_1 : List UInt8 := dkwX0_image_1 ++ dktX0_image_2
def dkwX0_image_0 : List UInt8 := [42, 180, 0, 87, 42, 180, 0, 28, 182, 1, 2, 42, 180, 0, 17, 3, 42, 180, 0, 90, 3, 16, 6]
abbrev dktX0_image_0 : List UInt8 := dkwX0_image_0 ++ dktX0_image_1
theorem dksX0_image_0 : cX0_image.data.toList.drop 0 = dktX0_image_0 := by decide +kernel
theorem dksX0_image_1 : cX0_image.data.toList.drop 23 = dktX0_image_1 := dk_seg dksX0_image_0 23 rfl rfl
theorem dksX0_image_2 : cX0_image.data.toList.drop 47 = dktX0_image_2 := dk_seg dksX0_image_1 24 rfl rfl
theorem dksX0_image_3 : cX0_image.data.toList.drop 70 = dktX0_image_3 := dk_seg dksX0_image_2 23 rfl rfl
theorem dksX0_image_4 : cX0_image.data.toList.drop 94 = dktX0_image_4 := dk_seg dksX0_image_3 24 rfl rfl
theorem dksX0_image_5 : cX0_image.data.toList.drop 118 = dktX0_image_5 := dk_seg dksX0_image_4 24 rfl rfl
theorem dksX0_image_6 : cX0_image.data.toList.drop 142 = dktX0_image_6 := dk_seg dksX0_image_5 24 rfl rfl
theorem dksX0_image_7 : cX0_image.data.toList.drop 165 = dktX0_image_7 := dk_seg dksX0_image_6 23 rfl rfl
theorem dX0_image_0 : decode cX0_image 0 = .ok (.aload_n 0, 1) := dk_42 (dk_at dksX0_image_0 0 rfl rfl)
theorem dX0_image_1 : decode cX0_image 1 = .ok (.getfield 87, 3) := dk_180 0 87 (dk_at dksX0_image_0 1 rfl rfl)
theorem dX0_image_4 : decode cX0_image 4 = .ok (.aload_n 0, 1) := dk_42 (dk_at dksX0_image_0 4 rfl rfl)
theorem dX0_image_5 : decode cX0_image 5 = .ok (.getfield 28, 3) := dk_180 0 28 (dk_at dksX0_image_0 5 rfl rfl)
theorem dX0_image_8 : decode cX0_image 8 = .ok (.invokevirtual 258, 3) := dk_182 1 2 (dk_at dksX0_image_0 8 rfl rfl)
theorem dX0_image_11 : decode cX0_image 11 = .ok (.aload_n 0, 1) := dk_42 (dk_at dksX0_image_0 11 rfl rfl)
theorem dX0_image_12 : decode cX0_image 12 = .ok (.getfield 17, 3) := dk_180 0 17 (dk_at dksX0_image_0 12 rfl rfl)
theorem dX0_image_15 : decode cX0_image 15 = .ok (.iconst 0, 1) := dk_3 (dk_at dksX0_image_0 15 rfl rfl)
theorem dX0_image_16 : decode cX0_image 16 = .ok (.aload_n 0, 1) := dk_42 (dk_at dksX0_image_0 16 rfl rfl)
theorem dX0_image_17 : decode cX0_image 17 = .ok (.getfield 90, 3) := dk_180 0 90 (dk_at dksX0_image_0 17 rfl rfl)
theorem dX0_image_20 : decode cX0_image 20 = .ok (.iconst 0, 1) := dk_3 (dk_at dksX0_image_0 20 rfl rfl)
theorem dX0_image_21 : decode cX0_image 21 = .ok (.bipush 6, 2) := dk_16 6 (dk_at dksX0_image_0 21 rfl rfl)
theorem dX0_image_23 : decode cX0_image 23 = .ok (.invokestatic 365, 3) := dk_184 1 109 (dk_at dksX0_image_1 0 rfl rfl)
theorem dX0_image_26 : decode cX0_image 26 = .ok (.aload_n 0, 1) := dk_42 (dk_at dksX0_image_1 3 rfl rfl)
theorem dX0_image_27 : decode cX0_image 27 = .ok (.getfield 21, 3) := dk_180 0 21 (dk_at dksX0_image_1 4 rfl rfl)
theorem dX0_image_30 : decode cX0_image 30 = .ok (.iconst 0, 1) := dk_3 (dk_at dksX0_image_1 7 rfl rfl)
theorem dX0_image_31 : decode cX0_image 31 = .ok (.aload_n 0, 1) := dk_42 (dk_at dksX0_image_1 8 rfl rfl)
theorem dX0_image_32 : decode cX0_image 32 = .ok (.getfield 93, 3) := dk_180 0 93 (dk_at dksX0_image_1 9 rfl rfl)
theorem dX0_image_35 : decode cX0_image 35 = .ok (.iconst 0, 1) := dk_3 (dk_at dksX0_image_1 12 rfl rfl)
theorem dX0_image_36 : decode cX0_image 36 = .ok (.bipush 24, 2) := dk_16 24 (dk_at dksX0_image_1 13 rfl rfl)
theorem dX0_image_38 : decode cX0_image 38 = .ok (.invokestatic 365, 3) := dk_184 1 109 (dk_at dksX0_image_1 15 rfl rfl)
theorem dX0_image_41 : decode cX0_image 41 = .ok (.aload_n 0, 1) := dk_42 (dk_at dksX0_image_1 18 rfl rfl)
theorem dX0_image_42 : decode cX0_image 42 = .ok (.getfield 60, 3) := dk_180 0 60 (dk_at dksX0_image_1 19 rfl rfl)
theorem dX0_image_45 : decode cX0_image 45 = .ok (.iconst 0, 1) := dk_3 (dk_at dksX0_image_1 22 rfl rfl)
theorem dX0_image_46 : decode cX0_image 46 = .ok (.aload_n 0, 1) := dk_42 (dk_at dksX0_image_1 23 rfl rfl)
theorem dX0_image_47 : decode cX0_image 47 = .ok (.getfield 96, 3) := dk_180 0 96 (dk_at dksX0_image_2 0 rfl rfl)
theorem dX0_image_50 : decode cX0_image 50 = .ok (.iconst 0, 1) := dk_3 (dk_at dksX0_image_2 3 rfl rfl)
theorem dX0_image_51 : decode cX0_image 51 = .ok (.iconst 5, 1) := dk_8 (dk_at dksX0_image_2 4 rfl rfl)
theorem dX0_image_52 : decode cX0_image 52 = .ok (.invokestatic 365, 3) := dk_184 1 109 (dk_at dksX0_image_2 5 rfl rfl)
theorem dX0_image_55 : decode cX0_image 55 = .ok (.aload_n 0, 1) := dk_42 (dk_at dksX0_image_2 8 rfl rfl)
theorem dX0_image_56 : decode cX0_image 56 = .ok (.getfield 63, 3) := dk_180 0 63 (dk_at dksX0_image_2 9 rfl rfl)
theorem dX0_image_59 : decode cX0_image 59 = .ok (.iconst 0, 1) := dk_3 (dk_at dksX0_image_2 12 rfl rfl)
theorem dX0_image_60 : decode cX0_image 60 = .ok (.aload_n 0, 1) := dk_42 (dk_at dksX0_image_2 13 rfl rfl)
theorem dX0_image_61 : decode cX0_image 61 = .ok (.getfield 99, 3) := dk_180 0 99 (dk_at dksX0_image_2 14 rfl rfl)
theorem dX0_image_64 : decode cX0_image 64 = .ok (.iconst 0, 1) := dk_3 (dk_at dksX0_image_2 17 rfl rfl)
theorem dX0_image_65 : decode cX0_image 65 = .ok (.iconst 5, 1) := dk_8 (dk_at dksX0_image_2 18 rfl rfl)
theorem dX0_image_66 : decode cX0_image 66 = .ok (.invokestatic 365, 3) := dk_184 1 109 (dk_at dksX0_image_2 19 rfl rfl)
theorem dX0_image_69 : decode cX0_image 69 = .ok (.aload_n 0, 1) := dk_42 (dk_at dksX0_image_2 22 rfl rfl)
theorem dX0_image_70 : decode cX0_image 70 = .ok (.getfield 66, 3) := dk_180 0 66 (dk_at dksX0_image_3 0 rfl rfl)
theorem dX0_image_73 : decode cX0_image 73 = .ok (.iconst 0, 1) := dk_3 (dk_at dksX0_image_3 3 rfl rfl)
theorem dX0_image_74 : decode cX0_image 74 = .ok (.aload_n 0, 1) := dk_42 (dk_at dksX0_image_3 4 rfl rfl)
theorem dX0_image_75 : decode cX0_image 75 = .ok (.getfield 102, 3) := dk_180 0 102 (dk_at dksX0_image_3 5 rfl rfl)
theorem dX0_image_78 : decode cX0_image 78 = .ok (.iconst 0, 1) := dk_3 (dk_at dksX0_image_3 8 rfl rfl)
theorem dX0_image_79 : decode cX0_image 79 = .ok (.bipush 8, 2) := dk_16 8 (dk_at dksX0_image_3 9 rfl rfl)
theorem dX0_image_81 : decode cX0_image 81 = .ok (.invokestatic 365, 3) := dk_184 1 109 (dk_at dksX0_image_3 11 rfl rfl)
theorem dX0_image_84 : decode cX0_image 84 = .ok (.aload_n 0, 1) := dk_42 (dk_at dksX0_image_3 14 rfl rfl)
theorem dX0_image_85 : decode cX0_image 85 = .ok (.getfield 69, 3) := dk_180 0 69 (dk_at dksX0_image_3 15 rfl rfl)
theorem dX0_image_88 : decode cX0_image 88 = .ok (.iconst 0, 1) := dk_3 (dk_at dksX0_image_3 18 rfl rfl)
theorem dX0_image_89 : decode cX0_image 89 = .ok (.aload_n 0, 1) := dk_42 (dk_at dksX0_image_3 19 rfl rfl)
theorem dX0_image_90 : decode cX0_image 90 = .ok (.getfield 105, 3) := dk_180 0 105 (dk_at dksX0_image_3 20 rfl rfl)
theorem dX0_image_93 : decode cX0_image 93 = .ok (.iconst 0, 1) := dk_3 (dk_at dksX0_image_3 23 rfl rfl)
theorem dX0_image_94 : decode cX0_image 94 = .ok (.bipush 8, 2) := dk_16 8 (dk_at dksX0_image_4 0 rfl rfl)
theorem dX0_image_96 : decode cX0_image 96 = .ok (.invokestatic 365, 3) := dk_184 1 109 (dk_at dksX0_image_4 2 rfl rfl)
theorem dX0_image_99 : decode cX0_image 99 = .ok (.aload_n 0, 1) := dk_42 (dk_at dksX0_image_4 5 rfl rfl)
theorem dX0_image_100 : decode cX0_image 100 = .ok (.getfield 72, 3) := dk_180 0 72 (dk_at dksX0_image_4 6 rfl rfl)
theorem dX0_image_103 : decode cX0_image 103 = .ok (.iconst 0, 1) := dk_3 (dk_at dksX0_image_4 9 rfl rfl)
theorem dX0_image_104 : decode cX0_image 104 = .ok (.aload_n 0, 1) := dk_42 (dk_at dksX0_image_4 10 rfl rfl)
theorem dX0_image_105 : decode cX0_image 105 = .ok (.getfield 108, 3) := dk_180 0 108 (dk_at dksX0_image_4 11 rfl rfl)
theorem dX0_image_108 : decode cX0_image 108 = .ok (.iconst 0, 1) := dk_3 (dk_at dksX0_image_4 14 rfl rfl)
theorem dX0_image_109 : decode cX0_image 109 = .ok (.bipush 8, 2) := dk_16 8 (dk_at dksX0_image_4 15 rfl rfl)
theorem dX0_image_111 : decode cX0_image 111 = .ok (.invokestatic 365, 3) := dk_184 1 109 (dk_at dksX0_image_4 17 rfl rfl)
theorem dX0_image_114 : decode cX0_image 114 = .ok (.aload_n 0, 1) := dk_42 (dk_at dksX0_image_4 20 rfl rfl)
theorem dX0_image_115 : decode cX0_image 115 = .ok (.getfield 75, 3) := dk_180 0 75 (dk_at dksX0_image_4 21 rfl rfl)
theorem dX0_image_118 : decode cX0_image 118 = .ok (.iconst 0, 1) := dk_3 (dk_at dksX0_image_5 0 rfl rfl)
theorem dX0_image_119 : decode cX0_image 119 = .ok (.aload_n 0, 1) := dk_42 (dk_at dksX0_image_5 1 rfl rfl)
theorem dX0_image_120 : decode cX0_image 120 = .ok (.getfield 111, 3) := dk_180 0 111 (dk_at dksX0_image_5 2 rfl rfl)
theorem dX0_image_123 : decode cX0_image 123 = .ok (.iconst 0, 1) := dk_3 (dk_at dksX0_image_5 5 rfl rfl)
theorem dX0_image_124 : decode cX0_image 124 = .ok (.bipush 8, 2) := dk_16 8 (dk_at dksX0_image_5 6 rfl rfl)
theorem dX0_image_126 : decode cX0_image 126 = .ok (.invokestatic 365, 3) := dk_184 1 109 (dk_at dksX0_image_5 8 rfl rfl)
theorem dX0_image_129 : decode cX0_image 129 = .ok (.aload_n 0, 1) := dk_42 (dk_at dksX0_image_5 11 rfl rfl)
theorem dX0_image_130 : decode cX0_image 130 = .ok (.aload_n 0, 1) := dk_42 (dk_at dksX0_image_5 12 rfl rfl)
theorem dX0_image_131 : decode cX0_image 131 = .ok (.getfield 313, 3) := dk_180 1 57 (dk_at dksX0_image_5 13 rfl rfl)
theorem dX0_image_134 : decode cX0_image 134 = .ok (.putfield 371, 3) := dk_181 1 115 (dk_at dksX0_image_5 16 rfl rfl)
theorem dX0_image_137 : decode cX0_image 137 = .ok (.aload_n 0, 1) := dk_42 (dk_at dksX0_image_5 19 rfl rfl)
theorem dX0_image_138 : decode cX0_image 138 = .ok (.aload_n 0, 1) := dk_42 (dk_at dksX0_image_5 20 rfl rfl)
theorem dX0_image_139 : decode cX0_image 139 = .ok (.getfield 330, 3) := dk_180 1 74 (dk_at dksX0_image_5 21 rfl rfl)
theorem dX0_image_142 : decode cX0_image 142 = .ok (.putfield 374, 3) := dk_181 1 118 (dk_at dksX0_image_6 0 rfl rfl)
theorem dX0_image_145 : decode cX0_image 145 = .ok (.aload_n 0, 1) := dk_42 (dk_at dksX0_image_6 3 rfl rfl)
theorem dX0_image_146 : decode cX0_image 146 = .ok (.aload_n 0, 1) := dk_42 (dk_at dksX0_image_6 4 rfl rfl)
theorem dX0_image_147 : decode cX0_image 147 = .ok (.getfield 343, 3) := dk_180 1 87 (dk_at dksX0_image_6 5 rfl rfl)
theorem dX0_image_150 : decode cX0_image 150 = .ok (.putfield 377, 3) := dk_181 1 121 (dk_at dksX0_image_6 8 rfl rfl)
theorem dX0_image_153 : decode cX0_image 153 = .ok (.aload_n 0, 1) := dk_42 (dk_at dksX0_image_6 11 rfl rfl)
theorem dX0_image_154 : decode cX0_image 154 = .ok (.aload_n 0, 1) := dk_42 (dk_at dksX0_image_6 12 rfl rfl)
theorem dX0_image_155 : decode cX0_image 155 = .ok (.getfield 42, 3) := dk_180 0 42 (dk_at dksX0_image_6 13 rfl rfl)
theorem dX0_image_158 : decode cX0_image 158 = .ok (.putfield 380, 3) := dk_181 1 124 (dk_at dksX0_image_6 16 rfl rfl)
theorem dX0_image_161 : decode cX0_image 161 = .ok (.aload_n 0, 1) := dk_42 (dk_at dksX0_image_6 19 rfl rfl)
theorem dX0_image_162 : decode cX0_image 162 = .ok (.getfield 28, 3) := dk_180 0 28 (dk_at dksX0_image_6 20 rfl rfl)
theorem dX0_image_165 : decode cX0_image 165 = .ok (.getfield 115, 3) := dk_180 0 115 (dk_at dksX0_image_7 0 rfl rfl)
theorem dX0_image_168 : decode cX0_image 168 = .ok (.ireturn, 1) := dk_172 (dk_at dksX0_image_7 3 rfl rfl)
abbrev cX0_undo : ByteArray := prog_1_method_53_code
def yX0_undo : MethodName := ⟨RX0, "undo", "()I"⟩
def dkwX0_undo_7 : List UInt8 := [180, 1, 124, 181, 0, 42, 42, 180, 0, 28, 180, 0, 115, 172]
abbrev dktX0_undo_7 : List UInt8 := dkwX0_undo_7 ++ []
def dkwX0_undo_6 : List UInt8 := [180, 1, 115, 181, 1, 57, 42, 42, 180, 1, 118, 181, 1, 74, 42, 42, 180, 1, 121, 181, 1, 87, 42, 42]
abbrev dktX0_undo_6 : List UInt8 := dkwX0_undo_6 ++ dktX0_undo_7
def dkwX0_undo_5 : List UInt8 := [3, 16, 8, 184, 1, 109, 42, 180, 0, 111, 3, 42, 180, 0, 75, 3, 16, 8, 184, 1, 109, 42, 42]
abbrev dktX0_undo_5 : List UInt8 := dkwX0_undo_5 ++ dktX0_undo_6
def dkwX0_undo_4 : List UInt8 := [42, 180, 0, 105, 3, 42, 180, 0, 69, 3, 16, 8, 184, 1, 109, 42, 180, 0, 108, 3, 42, 180, 0, 72]
abbrev dktX0_undo_4 : List UInt8 := dkwX0_undo_4 ++ dktX0_undo_5
def dkwX0_undo_3 : List UInt8 := [42, 180, 0, 63, 3, 8, 184, 1, 109, 42, 180, 0, 102, 3, 42, 180, 0, 66, 3, 16, 8, 184, 1, 109]
abbrev dktX0_undo_3 : List UInt8 := dkwX0_undo_3 ++ dktX0_undo_4
def dkwX0_undo_2 : List UInt8 := [16, 24, 184, 1, 109, 42, 180, 0, 96, 3, 42, 180, 0, 60, 3, 8, 184, 1, 109, 42, 180, 0, 99, 3]
abbrev dktX0_undo_2 : List UInt8 := dkwX0_undo_2 ++ dktX0_undo_3
def dkwX0_undo_1 : List UInt8 := [180, 0, 90, 3, 42, 180, 0, 17, 3, 16, 6, 184, 1, 109, 42, 180, 0, 93, 3, 42, 180, 0, 21, 3]
abbrev dktX0_undo_1 : List UInt8 := dkwX0_undo_1 ++ dktX0_undo_2
def dkwX0_undo_0 : List UInt8 := [42, 180, 1, 124, 199, 0, 6, 16, 253, 172, 42, 180, 0, 28, 42, 180, 0, 87, 182, 1, 2, 42]
abbrev dktX0_undo_0 : List UInt8 := dkwX0_undo_0 ++ dktX0_undo_1
theorem dksX0_undo_0 : cX0_undo.data.toList.drop 0 = dktX0_undo_0 := by decide +kernel
theorem dksX0_undo_1 : cX0_undo.data.toList.drop 22 = dktX0_undo_1 := dk_seg dksX0_undo_0 22 rfl rfl
theorem dksX0_undo_2 : cX0_undo.data.toList.drop 46 = dktX0_undo_2 := dk_seg dksX0_undo_1 24 rfl rfl
theorem dksX0_undo_3 : cX0_undo.data.toList.drop 70 = dktX0_undo_3 := dk_seg dksX0_undo_2 24 rfl rfl
theorem dksX0_undo_4 : cX0_undo.data.toList.drop 94 = dktX0_undo_4 := dk_seg dksX0_undo_3 24 rfl rfl
theorem dksX0_undo_5 : cX0_undo.data.toList.drop 118 = dktX0_undo_5 := dk_seg dksX0_undo_4 24 rfl rfl
theorem dksX0_undo_6 : cX0_undo.data.toList.drop 141 = dktX0_undo_6 := dk_seg dksX0_undo_5 23 rfl rfl
theorem dksX0_undo_7 : cX0_undo.data.toList.drop 165 = dktX0_undo_7 := dk_seg dksX0_undo_6 24 rfl rfl
theorem dX0_undo_0 : decode cX0_undo 0 = .ok (.aload_n 0, 1) := dk_42 (dk_at dksX0_undo_0 0 rfl rfl)
theorem dX0_undo_1 : decode cX0_undo 1 = .ok (.getfield 380, 3) := dk_180 1 124 (dk_at dksX0_undo_0 1 rfl rfl)
theorem dX0_undo_4 : decode cX0_undo 4 = .ok (.ifnonnull 6, 3) := dk_199 0 6 (dk_at dksX0_undo_0 4 rfl rfl)
theorem dX0_undo_7 : decode cX0_undo 7 = .ok (.bipush (-3), 2) := dk_16 253 (dk_at dksX0_undo_0 7 rfl rfl)
theorem dX0_undo_9 : decode cX0_undo 9 = .ok (.ireturn, 1) := dk_172 (dk_at dksX0_undo_0 9 rfl rfl)
theorem dX0_undo_10 : decode cX0_undo 10 = .ok (.aload_n 0, 1) := dk_42 (dk_at dksX0_undo_0 10 rfl rfl)
theorem dX0_undo_11 : decode cX0_undo 11 = .ok (.getfield 28, 3) := dk_180 0 28 (dk_at dksX0_undo_0 11 rfl rfl)
theorem dX0_undo_14 : decode cX0_undo 14 = .ok (.aload_n 0, 1) := dk_42 (dk_at dksX0_undo_0 14 rfl rfl)
theorem dX0_undo_15 : decode cX0_undo 15 = .ok (.getfield 87, 3) := dk_180 0 87 (dk_at dksX0_undo_0 15 rfl rfl)
theorem dX0_undo_18 : decode cX0_undo 18 = .ok (.invokevirtual 258, 3) := dk_182 1 2 (dk_at dksX0_undo_0 18 rfl rfl)
theorem dX0_undo_21 : decode cX0_undo 21 = .ok (.aload_n 0, 1) := dk_42 (dk_at dksX0_undo_0 21 rfl rfl)
theorem dX0_undo_22 : decode cX0_undo 22 = .ok (.getfield 90, 3) := dk_180 0 90 (dk_at dksX0_undo_1 0 rfl rfl)
theorem dX0_undo_25 : decode cX0_undo 25 = .ok (.iconst 0, 1) := dk_3 (dk_at dksX0_undo_1 3 rfl rfl)
theorem dX0_undo_26 : decode cX0_undo 26 = .ok (.aload_n 0, 1) := dk_42 (dk_at dksX0_undo_1 4 rfl rfl)
theorem dX0_undo_27 : decode cX0_undo 27 = .ok (.getfield 17, 3) := dk_180 0 17 (dk_at dksX0_undo_1 5 rfl rfl)
theorem dX0_undo_30 : decode cX0_undo 30 = .ok (.iconst 0, 1) := dk_3 (dk_at dksX0_undo_1 8 rfl rfl)
theorem dX0_undo_31 : decode cX0_undo 31 = .ok (.bipush 6, 2) := dk_16 6 (dk_at dksX0_undo_1 9 rfl rfl)
theorem dX0_undo_33 : decode cX0_undo 33 = .ok (.invokestatic 365, 3) := dk_184 1 109 (dk_at dksX0_undo_1 11 rfl rfl)
theorem dX0_undo_36 : decode cX0_undo 36 = .ok (.aload_n 0, 1) := dk_42 (dk_at dksX0_undo_1 14 rfl rfl)
theorem dX0_undo_37 : decode cX0_undo 37 = .ok (.getfield 93, 3) := dk_180 0 93 (dk_at dksX0_undo_1 15 rfl rfl)
theorem dX0_undo_40 : decode cX0_undo 40 = .ok (.iconst 0, 1) := dk_3 (dk_at dksX0_undo_1 18 rfl rfl)
theorem dX0_undo_41 : decode cX0_undo 41 = .ok (.aload_n 0, 1) := dk_42 (dk_at dksX0_undo_1 19 rfl rfl)
theorem dX0_undo_42 : decode cX0_undo 42 = .ok (.getfield 21, 3) := dk_180 0 21 (dk_at dksX0_undo_1 20 rfl rfl)
theorem dX0_undo_45 : decode cX0_undo 45 = .ok (.iconst 0, 1) := dk_3 (dk_at dksX0_undo_1 23 rfl rfl)
theorem dX0_undo_46 : decode cX0_undo 46 = .ok (.bipush 24, 2) := dk_16 24 (dk_at dksX0_undo_2 0 rfl rfl)
theorem dX0_undo_48 : decode cX0_undo 48 = .ok (.invokestatic 365, 3) := dk_184 1 109 (dk_at dksX0_undo_2 2 rfl rfl)
theorem dX0_undo_51 : decode cX0_undo 51 = .ok (.aload_n 0, 1) := dk_42 (dk_at dksX0_undo_2 5 rfl rfl)
theorem dX0_undo_52 : decode cX0_undo 52 = .ok (.getfield 96, 3) := dk_180 0 96 (dk_at dksX0_undo_2 6 rfl rfl)
theorem dX0_undo_55 : decode cX0_undo 55 = .ok (.iconst 0, 1) := dk_3 (dk_at dksX0_undo_2 9 rfl rfl)
theorem dX0_undo_56 : decode cX0_undo 56 = .ok (.aload_n 0, 1) := dk_42 (dk_at dksX0_undo_2 10 rfl rfl)
theorem dX0_undo_57 : decode cX0_undo 57 = .ok (.getfield 60, 3) := dk_180 0 60 (dk_at dksX0_undo_2 11 rfl rfl)
theorem dX0_undo_60 : decode cX0_undo 60 = .ok (.iconst 0, 1) := dk_3 (dk_at dksX0_undo_2 14 rfl rfl)
theorem dX0_undo_61 : decode cX0_undo 61 = .ok (.iconst 5, 1) := dk_8 (dk_at dksX0_undo_2 15 rfl rfl)
theorem dX0_undo_62 : decode cX0_undo 62 = .ok (.invokestatic 365, 3) := dk_184 1 109 (dk_at dksX0_undo_2 16 rfl rfl)
theorem dX0_undo_65 : decode cX0_undo 65 = .ok (.aload_n 0, 1) := dk_42 (dk_at dksX0_undo_2 19 rfl rfl)
theorem dX0_undo_66 : decode cX0_undo 66 = .ok (.getfield 99, 3) := dk_180 0 99 (dk_at dksX0_undo_2 20 rfl rfl)
theorem dX0_undo_69 : decode cX0_undo 69 = .ok (.iconst 0, 1) := dk_3 (dk_at dksX0_undo_2 23 rfl rfl)
theorem dX0_undo_70 : decode cX0_undo 70 = .ok (.aload_n 0, 1) := dk_42 (dk_at dksX0_undo_3 0 rfl rfl)
theorem dX0_undo_71 : decode cX0_undo 71 = .ok (.getfield 63, 3) := dk_180 0 63 (dk_at dksX0_undo_3 1 rfl rfl)
theorem dX0_undo_74 : decode cX0_undo 74 = .ok (.iconst 0, 1) := dk_3 (dk_at dksX0_undo_3 4 rfl rfl)
theorem dX0_undo_75 : decode cX0_undo 75 = .ok (.iconst 5, 1) := dk_8 (dk_at dksX0_undo_3 5 rfl rfl)
theorem dX0_undo_76 : decode cX0_undo 76 = .ok (.invokestatic 365, 3) := dk_184 1 109 (dk_at dksX0_undo_3 6 rfl rfl)
theorem dX0_undo_79 : decode cX0_undo 79 = .ok (.aload_n 0, 1) := dk_42 (dk_at dksX0_undo_3 9 rfl rfl)
theorem dX0_undo_80 : decode cX0_undo 80 = .ok (.getfield 102, 3) := dk_180 0 102 (dk_at dksX0_undo_3 10 rfl rfl)
theorem dX0_undo_83 : decode cX0_undo 83 = .ok (.iconst 0, 1) := dk_3 (dk_at dksX0_undo_3 13 rfl rfl)
theorem dX0_undo_84 : decode cX0_undo 84 = .ok (.aload_n 0, 1) := dk_42 (dk_at dksX0_undo_3 14 rfl rfl)
theorem dX0_undo_85 : decode cX0_undo 85 = .ok (.getfield 66, 3) := dk_180 0 66 (dk_at dksX0_undo_3 15 rfl rfl)
theorem dX0_undo_88 : decode cX0_undo 88 = .ok (.iconst 0, 1) := dk_3 (dk_at dksX0_undo_3 18 rfl rfl)
theorem dX0_undo_89 : decode cX0_undo 89 = .ok (.bipush 8, 2) := dk_16 8 (dk_at dksX0_undo_3 19 rfl rfl)
theorem dX0_undo_91 : decode cX0_undo 91 = .ok (.invokestatic 365, 3) := dk_184 1 109 (dk_at dksX0_undo_3 21 rfl rfl)
theorem dX0_undo_94 : decode cX0_undo 94 = .ok (.aload_n 0, 1) := dk_42 (dk_at dksX0_undo_4 0 rfl rfl)
theorem dX0_undo_95 : decode cX0_undo 95 = .ok (.getfield 105, 3) := dk_180 0 105 (dk_at dksX0_undo_4 1 rfl rfl)
theorem dX0_undo_98 : decode cX0_undo 98 = .ok (.iconst 0, 1) := dk_3 (dk_at dksX0_undo_4 4 rfl rfl)
theorem dX0_undo_99 : decode cX0_undo 99 = .ok (.aload_n 0, 1) := dk_42 (dk_at dksX0_undo_4 5 rfl rfl)
theorem dX0_undo_100 : decode cX0_undo 100 = .ok (.getfield 69, 3) := dk_180 0 69 (dk_at dksX0_undo_4 6 rfl rfl)
theorem dX0_undo_103 : decode cX0_undo 103 = .ok (.iconst 0, 1) := dk_3 (dk_at dksX0_undo_4 9 rfl rfl)
theorem dX0_undo_104 : decode cX0_undo 104 = .ok (.bipush 8, 2) := dk_16 8 (dk_at dksX0_undo_4 10 rfl rfl)
theorem dX0_undo_106 : decode cX0_undo 106 = .ok (.invokestatic 365, 3) := dk_184 1 109 (dk_at dksX0_undo_4 12 rfl rfl)
theorem dX0_undo_109 : decode cX0_undo 109 = .ok (.aload_n 0, 1) := dk_42 (dk_at dksX0_undo_4 15 rfl rfl)
theorem dX0_undo_110 : decode cX0_undo 110 = .ok (.getfield 108, 3) := dk_180 0 108 (dk_at dksX0_undo_4 16 rfl rfl)
theorem dX0_undo_113 : decode cX0_undo 113 = .ok (.iconst 0, 1) := dk_3 (dk_at dksX0_undo_4 19 rfl rfl)
theorem dX0_undo_114 : decode cX0_undo 114 = .ok (.aload_n 0, 1) := dk_42 (dk_at dksX0_undo_4 20 rfl rfl)
theorem dX0_undo_115 : decode cX0_undo 115 = .ok (.getfield 72, 3) := dk_180 0 72 (dk_at dksX0_undo_4 21 rfl rfl)
theorem dX0_undo_118 : decode cX0_undo 118 = .ok (.iconst 0, 1) := dk_3 (dk_at dksX0_undo_5 0 rfl rfl)
theorem dX0_undo_119 : decode cX0_undo 119 = .ok (.bipush 8, 2) := dk_16 8 (dk_at dksX0_undo_5 1 rfl rfl)
theorem dX0_undo_121 : decode cX0_undo 121 = .ok (.invokestatic 365, 3) := dk_184 1 109 (dk_at dksX0_undo_5 3 rfl rfl)
theorem dX0_undo_124 : decode cX0_undo 124 = .ok (.aload_n 0, 1) := dk_42 (dk_at dksX0_undo_5 6 rfl rfl)
theorem dX0_undo_125 : decode cX0_undo 125 = .ok (.getfield 111, 3) := dk_180 0 111 (dk_at dksX0_undo_5 7 rfl rfl)
theorem dX0_undo_128 : decode cX0_undo 128 = .ok (.iconst 0, 1) := dk_3 (dk_at dksX0_undo_5 10 rfl rfl)
theorem dX0_undo_129 : decode cX0_undo 129 = .ok (.aload_n 0, 1) := dk_42 (dk_at dksX0_undo_5 11 rfl rfl)
theorem dX0_undo_130 : decode cX0_undo 130 = .ok (.getfield 75, 3) := dk_180 0 75 (dk_at dksX0_undo_5 12 rfl rfl)
theorem dX0_undo_133 : decode cX0_undo 133 = .ok (.iconst 0, 1) := dk_3 (dk_at dksX0_undo_5 15 rfl rfl)
theorem dX0_undo_134 : decode cX0_undo 134 = .ok (.bipush 8, 2) := dk_16 8 (dk_at dksX0_undo_5 16 rfl rfl)
theorem dX0_undo_136 : decode cX0_undo 136 = .ok (.invokestatic 365, 3) := dk_184 1 109 (dk_at dksX0_undo_5 18 rfl rfl)
theorem dX0_undo_139 : decode cX0_undo 139 = .ok (.aload_n 0, 1) := dk_42 (dk_at dksX0_undo_5 21 rfl rfl)
theorem dX0_undo_140 : decode cX0_undo 140 = .ok (.aload_n 0, 1) := dk_42 (dk_at dksX0_undo_5 22 rfl rfl)
theorem dX0_undo_141 : decode cX0_undo 141 = .ok (.getfield 371, 3) := dk_180 1 115 (dk_at dksX0_undo_6 0 rfl rfl)
theorem dX0_undo_144 : decode cX0_undo 144 = .ok (.putfield 313, 3) := dk_181 1 57 (dk_at dksX0_undo_6 3 rfl rfl)
theorem dX0_undo_147 : decode cX0_undo 147 = .ok (.aload_n 0, 1) := dk_42 (dk_at dksX0_undo_6 6 rfl rfl)
theorem dX0_undo_148 : decode cX0_undo 148 = .ok (.aload_n 0, 1) := dk_42 (dk_at dksX0_undo_6 7 rfl rfl)
theorem dX0_undo_149 : decode cX0_undo 149 = .ok (.getfield 374, 3) := dk_180 1 118 (dk_at dksX0_undo_6 8 rfl rfl)
theorem dX0_undo_152 : decode cX0_undo 152 = .ok (.putfield 330, 3) := dk_181 1 74 (dk_at dksX0_undo_6 11 rfl rfl)
theorem dX0_undo_155 : decode cX0_undo 155 = .ok (.aload_n 0, 1) := dk_42 (dk_at dksX0_undo_6 14 rfl rfl)
theorem dX0_undo_156 : decode cX0_undo 156 = .ok (.aload_n 0, 1) := dk_42 (dk_at dksX0_undo_6 15 rfl rfl)
theorem dX0_undo_157 : decode cX0_undo 157 = .ok (.getfield 377, 3) := dk_180 1 121 (dk_at dksX0_undo_6 16 rfl rfl)
theorem dX0_undo_160 : decode cX0_undo 160 = .ok (.putfield 343, 3) := dk_181 1 87 (dk_at dksX0_undo_6 19 rfl rfl)
theorem dX0_undo_163 : decode cX0_undo 163 = .ok (.aload_n 0, 1) := dk_42 (dk_at dksX0_undo_6 22 rfl rfl)
theorem dX0_undo_164 : decode cX0_undo 164 = .ok (.aload_n 0, 1) := dk_42 (dk_at dksX0_undo_6 23 rfl rfl)
theorem dX0_undo_165 : decode cX0_undo 165 = .ok (.getfield 380, 3) := dk_180 1 124 (dk_at dksX0_undo_7 0 rfl rfl)
theorem dX0_undo_168 : decode cX0_undo 168 = .ok (.putfield 42, 3) := dk_181 0 42 (dk_at dksX0_undo_7 3 rfl rfl)
theorem dX0_undo_171 : decode cX0_undo 171 = .ok (.aload_n 0, 1) := dk_42 (dk_at dksX0_undo_7 6 rfl rfl)
theorem dX0_undo_172 : decode cX0_undo 172 = .ok (.getfield 28, 3) := dk_180 0 28 (dk_at dksX0_undo_7 7 rfl rfl)
theorem dX0_undo_175 : decode cX0_undo 175 = .ok (.getfield 115, 3) := dk_180 0 115 (dk_at dksX0_undo_7 10 rfl rfl)
theorem dX0_undo_178 : decode cX0_undo 178 = .ok (.ireturn, 1) := dk_172 (dk_at dksX0_undo_7 13 rfl rfl)
abbrev cX0_act : ByteArray := prog_1_method_54_code
def yX0_act : MethodName := ⟨RX0, "act", "(III)I"⟩
def dkwX0_act_2 : List UInt8 := [167, 0, 23, 28, 4, 160, 0, 12, 25, 4, 29, 182, 1, 133, 167, 0, 9, 25, 4, 29, 182, 1, 136, 172]
abbrev dktX0_act_2 : List UInt8 := dkwX0_act_2 ++ []
def dkwX0_act_1 : List UInt8 := [154, 0, 5, 3, 172, 42, 180, 0, 17, 27, 50, 58, 4, 28, 154, 0, 12, 25, 4, 29, 182, 1, 130]
abbrev dktX0_act_1 : List UInt8 := dkwX0_act_1 ++ dktX0_act_2
def dkwX0_act_0 : List UInt8 := [42, 180, 0, 56, 3, 181, 1, 127, 42, 27, 182, 1, 5, 153, 0, 12, 28, 3, 5, 184, 0, 5]
abbrev dktX0_act_0 : List UInt8 := dkwX0_act_0 ++ dktX0_act_1
theorem dksX0_act_0 : cX0_act.data.toList.drop 0 = dktX0_act_0 := by decide +kernel
theorem dksX0_act_1 : cX0_act.data.toList.drop 22 = dktX0_act_1 := dk_seg dksX0_act_0 22 rfl rfl
theorem dksX0_act_2 : cX0_act.data.toList.drop 45 = dktX0_act_2 := dk_seg dksX0_act_1 23 rfl rfl
theorem dX0_act_0 : decode cX0_act 0 = .ok (.aload_n 0, 1) := dk_42 (dk_at dksX0_act_0 0 rfl rfl)
theorem dX0_act_1 : decode cX0_act 1 = .ok (.getfield 56, 3) := dk_180 0 56 (dk_at dksX0_act_0 1 rfl rfl)
theorem dX0_act_4 : decode cX0_act 4 = .ok (.iconst 0, 1) := dk_3 (dk_at dksX0_act_0 4 rfl rfl)
theorem dX0_act_5 : decode cX0_act 5 = .ok (.putfield 383, 3) := dk_181 1 127 (dk_at dksX0_act_0 5 rfl rfl)
theorem dX0_act_8 : decode cX0_act 8 = .ok (.aload_n 0, 1) := dk_42 (dk_at dksX0_act_0 8 rfl rfl)
theorem dX0_act_9 : decode cX0_act 9 = .ok (.iload_n 1, 1) := dk_27 (dk_at dksX0_act_0 9 rfl rfl)
theorem dX0_act_10 : decode cX0_act 10 = .ok (.invokevirtual 261, 3) := dk_182 1 5 (dk_at dksX0_act_0 10 rfl rfl)
theorem dX0_act_13 : decode cX0_act 13 = .ok (.ifCond .eq 12, 3) := dk_153 0 12 (dk_at dksX0_act_0 13 rfl rfl)
theorem dX0_act_16 : decode cX0_act 16 = .ok (.iload_n 2, 1) := dk_28 (dk_at dksX0_act_0 16 rfl rfl)
theorem dX0_act_17 : decode cX0_act 17 = .ok (.iconst 0, 1) := dk_3 (dk_at dksX0_act_0 17 rfl rfl)
theorem dX0_act_18 : decode cX0_act 18 = .ok (.iconst 2, 1) := dk_5 (dk_at dksX0_act_0 18 rfl rfl)
theorem dX0_act_19 : decode cX0_act 19 = .ok (.invokestatic 5, 3) := dk_184 0 5 (dk_at dksX0_act_0 19 rfl rfl)
theorem dX0_act_22 : decode cX0_act 22 = .ok (.ifCond .ne 5, 3) := dk_154 0 5 (dk_at dksX0_act_1 0 rfl rfl)
theorem dX0_act_25 : decode cX0_act 25 = .ok (.iconst 0, 1) := dk_3 (dk_at dksX0_act_1 3 rfl rfl)
theorem dX0_act_26 : decode cX0_act 26 = .ok (.ireturn, 1) := dk_172 (dk_at dksX0_act_1 4 rfl rfl)
theorem dX0_act_27 : decode cX0_act 27 = .ok (.aload_n 0, 1) := dk_42 (dk_at dksX0_act_1 5 rfl rfl)
theorem dX0_act_28 : decode cX0_act 28 = .ok (.getfield 17, 3) := dk_180 0 17 (dk_at dksX0_act_1 6 rfl rfl)
theorem dX0_act_31 : decode cX0_act 31 = .ok (.iload_n 1, 1) := dk_27 (dk_at dksX0_act_1 9 rfl rfl)
theorem dX0_act_32 : decode cX0_act 32 = .ok (.aaload, 1) := dk_50 (dk_at dksX0_act_1 10 rfl rfl)
theorem dX0_act_33 : decode cX0_act 33 = .ok (.astore 4, 2) := dk_58 4 (dk_at dksX0_act_1 11 rfl rfl)
theorem dX0_act_35 : decode cX0_act 35 = .ok (.iload_n 2, 1) := dk_28 (dk_at dksX0_act_1 13 rfl rfl)
theorem dX0_act_36 : decode cX0_act 36 = .ok (.ifCond .ne 12, 3) := dk_154 0 12 (dk_at dksX0_act_1 14 rfl rfl)
theorem dX0_act_39 : decode cX0_act 39 = .ok (.aload 4, 2) := dk_25 4 (dk_at dksX0_act_1 17 rfl rfl)
theorem dX0_act_41 : decode cX0_act 41 = .ok (.iload_n 3, 1) := dk_29 (dk_at dksX0_act_1 19 rfl rfl)
theorem dX0_act_42 : decode cX0_act 42 = .ok (.invokevirtual 386, 3) := dk_182 1 130 (dk_at dksX0_act_1 20 rfl rfl)
theorem dX0_act_45 : decode cX0_act 45 = .ok (.goto 23, 3) := dk_167 0 23 (dk_at dksX0_act_2 0 rfl rfl)
theorem dX0_act_48 : decode cX0_act 48 = .ok (.iload_n 2, 1) := dk_28 (dk_at dksX0_act_2 3 rfl rfl)
theorem dX0_act_49 : decode cX0_act 49 = .ok (.iconst 1, 1) := dk_4 (dk_at dksX0_act_2 4 rfl rfl)
theorem dX0_act_50 : decode cX0_act 50 = .ok (.if_icmp .ne 12, 3) := dk_160 0 12 (dk_at dksX0_act_2 5 rfl rfl)
theorem dX0_act_53 : decode cX0_act 53 = .ok (.aload 4, 2) := dk_25 4 (dk_at dksX0_act_2 8 rfl rfl)
theorem dX0_act_55 : decode cX0_act 55 = .ok (.iload_n 3, 1) := dk_29 (dk_at dksX0_act_2 10 rfl rfl)
theorem dX0_act_56 : decode cX0_act 56 = .ok (.invokevirtual 389, 3) := dk_182 1 133 (dk_at dksX0_act_2 11 rfl rfl)
theorem dX0_act_59 : decode cX0_act 59 = .ok (.goto 9, 3) := dk_167 0 9 (dk_at dksX0_act_2 14 rfl rfl)
theorem dX0_act_62 : decode cX0_act 62 = .ok (.aload 4, 2) := dk_25 4 (dk_at dksX0_act_2 17 rfl rfl)
theorem dX0_act_64 : decode cX0_act 64 = .ok (.iload_n 3, 1) := dk_29 (dk_at dksX0_act_2 19 rfl rfl)
theorem dX0_act_65 : decode cX0_act 65 = .ok (.invokevirtual 392, 3) := dk_182 1 136 (dk_at dksX0_act_2 20 rfl rfl)
theorem dX0_act_68 : decode cX0_act 68 = .ok (.ireturn, 1) := dk_172 (dk_at dksX0_act_2 23 rfl rfl)
abbrev cX0_trace : ByteArray := prog_1_method_55_code
def yX0_trace : MethodName := ⟨RX0, "trace", "(I)I"⟩
def dkwX0_trace_1 : List UInt8 := [180, 0, 56, 180, 1, 139, 27, 46, 167, 0, 4, 2, 172]
abbrev dktX0_trace_1 : List UInt8 := dkwX0_trace_1 ++ []
def dkwX0_trace_0 : List UInt8 := [27, 3, 42, 180, 0, 56, 180, 1, 127, 16, 20, 184, 0, 255, 4, 100, 184, 0, 5, 153, 0, 15, 42]
abbrev dktX0_trace_0 : List UInt8 := dkwX0_trace_0 ++ dktX0_trace_1
theorem dksX0_trace_0 : cX0_trace.data.toList.drop 0 = dktX0_trace_0 := by decide +kernel
theorem dksX0_trace_1 : cX0_trace.data.toList.drop 23 = dktX0_trace_1 := dk_seg dksX0_trace_0 23 rfl rfl
theorem dX0_trace_0 : decode cX0_trace 0 = .ok (.iload_n 1, 1) := dk_27 (dk_at dksX0_trace_0 0 rfl rfl)
theorem dX0_trace_1 : decode cX0_trace 1 = .ok (.iconst 0, 1) := dk_3 (dk_at dksX0_trace_0 1 rfl rfl)
theorem dX0_trace_2 : decode cX0_trace 2 = .ok (.aload_n 0, 1) := dk_42 (dk_at dksX0_trace_0 2 rfl rfl)
theorem dX0_trace_3 : decode cX0_trace 3 = .ok (.getfield 56, 3) := dk_180 0 56 (dk_at dksX0_trace_0 3 rfl rfl)
theorem dX0_trace_6 : decode cX0_trace 6 = .ok (.getfield 383, 3) := dk_180 1 127 (dk_at dksX0_trace_0 6 rfl rfl)
theorem dX0_trace_9 : decode cX0_trace 9 = .ok (.bipush 20, 2) := dk_16 20 (dk_at dksX0_trace_0 9 rfl rfl)
theorem dX0_trace_11 : decode cX0_trace 11 = .ok (.invokestatic 255, 3) := dk_184 0 255 (dk_at dksX0_trace_0 11 rfl rfl)
theorem dX0_trace_14 : decode cX0_trace 14 = .ok (.iconst 1, 1) := dk_4 (dk_at dksX0_trace_0 14 rfl rfl)
theorem dX0_trace_15 : decode cX0_trace 15 = .ok (.isub, 1) := dk_100 (dk_at dksX0_trace_0 15 rfl rfl)
theorem dX0_trace_16 : decode cX0_trace 16 = .ok (.invokestatic 5, 3) := dk_184 0 5 (dk_at dksX0_trace_0 16 rfl rfl)
theorem dX0_trace_19 : decode cX0_trace 19 = .ok (.ifCond .eq 15, 3) := dk_153 0 15 (dk_at dksX0_trace_0 19 rfl rfl)
theorem dX0_trace_22 : decode cX0_trace 22 = .ok (.aload_n 0, 1) := dk_42 (dk_at dksX0_trace_0 22 rfl rfl)
theorem dX0_trace_23 : decode cX0_trace 23 = .ok (.getfield 56, 3) := dk_180 0 56 (dk_at dksX0_trace_1 0 rfl rfl)
theorem dX0_trace_26 : decode cX0_trace 26 = .ok (.getfield 395, 3) := dk_180 1 139 (dk_at dksX0_trace_1 3 rfl rfl)
theorem dX0_trace_29 : decode cX0_trace 29 = .ok (.iload_n 1, 1) := dk_27 (dk_at dksX0_trace_1 6 rfl rfl)
theorem dX0_trace_30 : decode cX0_trace 30 = .ok (.iaload, 1) := dk_46 (dk_at dksX0_trace_1 7 rfl rfl)
theorem dX0_trace_31 : decode cX0_trace 31 = .ok (.goto 4, 3) := dk_167 0 4 (dk_at dksX0_trace_1 8 rfl rfl)
theorem dX0_trace_34 : decode cX0_trace 34 = .ok (.iconst (-1), 1) := dk_2 (dk_at dksX0_trace_1 11 rfl rfl)
theorem dX0_trace_35 : decode cX0_trace 35 = .ok (.ireturn, 1) := dk_172 (dk_at dksX0_trace_1 12 rfl rfl)
abbrev cX0_taken : ByteArray := prog_1_method_57_code
def yX0_taken : MethodName := ⟨RX0, "taken", "(II)I"⟩
def dkwX0_taken_2 : List UInt8 := [172]
abbrev dktX0_taken_2 : List UInt8 := dkwX0_taken_2 ++ []
def dkwX0_taken_1 : List UInt8 := [180, 0, 17, 27, 50, 167, 0, 4, 1, 28, 184, 1, 142, 182, 0, 165, 172, 78, 16, 245, 172, 78, 16, 244]
abbrev dktX0_taken_1 : List UInt8 := dkwX0_taken_1 ++ dktX0_taken_2
def dkwX0_taken_0 : List UInt8 := [28, 3, 16, 6, 184, 0, 5, 154, 0, 6, 16, 254, 172, 42, 27, 182, 1, 5, 153, 0, 12, 42]
abbrev dktX0_taken_0 : List UInt8 := dkwX0_taken_0 ++ dktX0_taken_1
theorem dksX0_taken_0 : cX0_taken.data.toList.drop 0 = dktX0_taken_0 := by decide +kernel
theorem dksX0_taken_1 : cX0_taken.data.toList.drop 22 = dktX0_taken_1 := dk_seg dksX0_taken_0 22 rfl rfl
theorem dksX0_taken_2 : cX0_taken.data.toList.drop 46 = dktX0_taken_2 := dk_seg dksX0_taken_1 24 rfl rfl
theorem dX0_taken_0 : decode cX0_taken 0 = .ok (.iload_n 2, 1) := dk_28 (dk_at dksX0_taken_0 0 rfl rfl)
theorem dX0_taken_1 : decode cX0_taken 1 = .ok (.iconst 0, 1) := dk_3 (dk_at dksX0_taken_0 1 rfl rfl)
theorem dX0_taken_2 : decode cX0_taken 2 = .ok (.bipush 6, 2) := dk_16 6 (dk_at dksX0_taken_0 2 rfl rfl)
theorem dX0_taken_4 : decode cX0_taken 4 = .ok (.invokestatic 5, 3) := dk_184 0 5 (dk_at dksX0_taken_0 4 rfl rfl)
theorem dX0_taken_7 : decode cX0_taken 7 = .ok (.ifCond .ne 6, 3) := dk_154 0 6 (dk_at dksX0_taken_0 7 rfl rfl)
theorem dX0_taken_10 : decode cX0_taken 10 = .ok (.bipush (-2), 2) := dk_16 254 (dk_at dksX0_taken_0 10 rfl rfl)
theorem dX0_taken_12 : decode cX0_taken 12 = .ok (.ireturn, 1) := dk_172 (dk_at dksX0_taken_0 12 rfl rfl)
theorem dX0_taken_13 : decode cX0_taken 13 = .ok (.aload_n 0, 1) := dk_42 (dk_at dksX0_taken_0 13 rfl rfl)
theorem dX0_taken_14 : decode cX0_taken 14 = .ok (.iload_n 1, 1) := dk_27 (dk_at dksX0_taken_0 14 rfl rfl)
theorem dX0_taken_15 : decode cX0_taken 15 = .ok (.invokevirtual 261, 3) := dk_182 1 5 (dk_at dksX0_taken_0 15 rfl rfl)
theorem dX0_taken_18 : decode cX0_taken 18 = .ok (.ifCond .eq 12, 3) := dk_153 0 12 (dk_at dksX0_taken_0 18 rfl rfl)
theorem dX0_taken_21 : decode cX0_taken 21 = .ok (.aload_n 0, 1) := dk_42 (dk_at dksX0_taken_0 21 rfl rfl)
theorem dX0_taken_22 : decode cX0_taken 22 = .ok (.getfield 17, 3) := dk_180 0 17 (dk_at dksX0_taken_1 0 rfl rfl)
theorem dX0_taken_25 : decode cX0_taken 25 = .ok (.iload_n 1, 1) := dk_27 (dk_at dksX0_taken_1 3 rfl rfl)
theorem dX0_taken_26 : decode cX0_taken 26 = .ok (.aaload, 1) := dk_50 (dk_at dksX0_taken_1 4 rfl rfl)
theorem dX0_taken_27 : decode cX0_taken 27 = .ok (.goto 4, 3) := dk_167 0 4 (dk_at dksX0_taken_1 5 rfl rfl)
theorem dX0_taken_30 : decode cX0_taken 30 = .ok (.aconst_null, 1) := dk_1 (dk_at dksX0_taken_1 8 rfl rfl)
theorem dX0_taken_31 : decode cX0_taken 31 = .ok (.iload_n 2, 1) := dk_28 (dk_at dksX0_taken_1 9 rfl rfl)
theorem dX0_taken_32 : decode cX0_taken 32 = .ok (.invokestatic 398, 3) := dk_184 1 142 (dk_at dksX0_taken_1 10 rfl rfl)
theorem dX0_taken_35 : decode cX0_taken 35 = .ok (.invokevirtual 165, 3) := dk_182 0 165 (dk_at dksX0_taken_1 13 rfl rfl)
theorem dX0_taken_38 : decode cX0_taken 38 = .ok (.ireturn, 1) := dk_172 (dk_at dksX0_taken_1 16 rfl rfl)
theorem dX0_taken_39 : decode cX0_taken 39 = .ok (.astore_n 3, 1) := dk_78 (dk_at dksX0_taken_1 17 rfl rfl)
theorem dX0_taken_40 : decode cX0_taken 40 = .ok (.bipush (-11), 2) := dk_16 245 (dk_at dksX0_taken_1 18 rfl rfl)
theorem dX0_taken_42 : decode cX0_taken 42 = .ok (.ireturn, 1) := dk_172 (dk_at dksX0_taken_1 20 rfl rfl)
theorem dX0_taken_43 : decode cX0_taken 43 = .ok (.astore_n 3, 1) := dk_78 (dk_at dksX0_taken_1 21 rfl rfl)
theorem dX0_taken_44 : decode cX0_taken 44 = .ok (.bipush (-12), 2) := dk_16 244 (dk_at dksX0_taken_1 22 rfl rfl)
theorem dX0_taken_46 : decode cX0_taken 46 = .ok (.ireturn, 1) := dk_172 (dk_at dksX0_taken_2 0 rfl rfl)
abbrev cX0_takenFor : ByteArray := prog_1_method_56_code
def yX0_takenFor : MethodName := ⟨RX0, "takenFor", "(LFuneralDebts$Tells;I)LFuneralDebts$Mourner;"⟩
def dkwX0_takenFor_3 : List UInt8 := [176, 42, 192, 0, 133, 176, 42, 192, 0, 136, 176]
abbrev dktX0_takenFor_3 : List UInt8 := dkwX0_takenFor_3 ++ []
def dkwX0_takenFor_2 : List UInt8 := [42, 192, 0, 15, 176, 42, 192, 0, 119, 176, 42, 192, 0, 124, 176, 42, 192, 0, 127, 176, 42, 192, 0, 130]
abbrev dktX0_takenFor_2 : List UInt8 := dkwX0_takenFor_2 ++ dktX0_takenFor_3
def dkwX0_takenFor_1 : List UInt8 := [170, 0, 0, 0, 0, 0, 69, 0, 0, 0, 0, 0, 0, 0, 5, 0, 0, 0, 39, 0, 0, 0, 44, 0, 0, 0, 49, 0, 0, 0, 54, 0, 0, 0, 59, 0, 0, 0, 64]
abbrev dktX0_takenFor_1 : List UInt8 := dkwX0_takenFor_1 ++ dktX0_takenFor_2
def dkwX0_takenFor_0 : List UInt8 := [27]
abbrev dktX0_takenFor_0 : List UInt8 := dkwX0_takenFor_0 ++ dktX0_takenFor_1
theorem dksX0_takenFor_0 : cX0_takenFor.data.toList.drop 0 = dktX0_takenFor_0 := by decide +kernel
theorem dksX0_takenFor_1 : cX0_takenFor.data.toList.drop 1 = dktX0_takenFor_1 := dk_seg dksX0_takenFor_0 1 rfl rfl
theorem dksX0_takenFor_2 : cX0_takenFor.data.toList.drop 40 = dktX0_takenFor_2 := dk_seg dksX0_takenFor_1 39 rfl rfl
theorem dksX0_takenFor_3 : cX0_takenFor.data.toList.drop 64 = dktX0_takenFor_3 := dk_seg dksX0_takenFor_2 24 rfl rfl
theorem dX0_takenFor_0 : decode cX0_takenFor 0 = .ok (.iload_n 1, 1) := dk_27 (dk_at dksX0_takenFor_0 0 rfl rfl)
theorem dX0_takenFor_1 : decode cX0_takenFor 1 = .ok (.tableswitch 69 0 5 #[39, 44, 49, 54, 59, 64], 39) := by decide +kernel
theorem dX0_takenFor_40 : decode cX0_takenFor 40 = .ok (.aload_n 0, 1) := dk_42 (dk_at dksX0_takenFor_2 0 rfl rfl)
theorem dX0_takenFor_41 : decode cX0_takenFor 41 = .ok (.checkcast 15, 3) := dk_192 0 15 (dk_at dksX0_takenFor_2 1 rfl rfl)
theorem dX0_takenFor_44 : decode cX0_takenFor 44 = .ok (.areturn, 1) := dk_176 (dk_at dksX0_takenFor_2 4 rfl rfl)
theorem dX0_takenFor_45 : decode cX0_takenFor 45 = .ok (.aload_n 0, 1) := dk_42 (dk_at dksX0_takenFor_2 5 rfl rfl)
theorem dX0_takenFor_46 : decode cX0_takenFor 46 = .ok (.checkcast 119, 3) := dk_192 0 119 (dk_at dksX0_takenFor_2 6 rfl rfl)
theorem dX0_takenFor_49 : decode cX0_takenFor 49 = .ok (.areturn, 1) := dk_176 (dk_at dksX0_takenFor_2 9 rfl rfl)
theorem dX0_takenFor_50 : decode cX0_takenFor 50 = .ok (.aload_n 0, 1) := dk_42 (dk_at dksX0_takenFor_2 10 rfl rfl)
theorem dX0_takenFor_51 : decode cX0_takenFor 51 = .ok (.checkcast 124, 3) := dk_192 0 124 (dk_at dksX0_takenFor_2 11 rfl rfl)
theorem dX0_takenFor_54 : decode cX0_takenFor 54 = .ok (.areturn, 1) := dk_176 (dk_at dksX0_takenFor_2 14 rfl rfl)
theorem dX0_takenFor_55 : decode cX0_takenFor 55 = .ok (.aload_n 0, 1) := dk_42 (dk_at dksX0_takenFor_2 15 rfl rfl)
theorem dX0_takenFor_56 : decode cX0_takenFor 56 = .ok (.checkcast 127, 3) := dk_192 0 127 (dk_at dksX0_takenFor_2 16 rfl rfl)
theorem dX0_takenFor_59 : decode cX0_takenFor 59 = .ok (.areturn, 1) := dk_176 (dk_at dksX0_takenFor_2 19 rfl rfl)
theorem dX0_takenFor_60 : decode cX0_takenFor 60 = .ok (.aload_n 0, 1) := dk_42 (dk_at dksX0_takenFor_2 20 rfl rfl)
theorem dX0_takenFor_61 : decode cX0_takenFor 61 = .ok (.checkcast 130, 3) := dk_192 0 130 (dk_at dksX0_takenFor_2 21 rfl rfl)
theorem dX0_takenFor_64 : decode cX0_takenFor 64 = .ok (.areturn, 1) := dk_176 (dk_at dksX0_takenFor_3 0 rfl rfl)
theorem dX0_takenFor_65 : decode cX0_takenFor 65 = .ok (.aload_n 0, 1) := dk_42 (dk_at dksX0_takenFor_3 1 rfl rfl)
theorem dX0_takenFor_66 : decode cX0_takenFor 66 = .ok (.checkcast 133, 3) := dk_192 0 133 (dk_at dksX0_takenFor_3 2 rfl rfl)
theorem dX0_takenFor_69 : decode cX0_takenFor 69 = .ok (.areturn, 1) := dk_176 (dk_at dksX0_takenFor_3 5 rfl rfl)
theorem dX0_takenFor_70 : decode cX0_takenFor 70 = .ok (.aload_n 0, 1) := dk_42 (dk_at dksX0_takenFor_3 6 rfl rfl)
theorem dX0_takenFor_71 : decode cX0_takenFor 71 = .ok (.checkcast 136, 3) := dk_192 0 136 (dk_at dksX0_takenFor_3 7 rfl rfl)
theorem dX0_takenFor_74 : decode cX0_takenFor 74 = .ok (.areturn, 1) := dk_176 (dk_at dksX0_takenFor_3 10 rfl rfl)
abbrev cX0_count : ByteArray := prog_1_method_58_code
def yX0_count : MethodName := ⟨RX0, "count", "(I)I"⟩
def dkwX0_count_3 : List UInt8 := [180, 1, 87, 172, 42, 180, 1, 18, 172, 42, 180, 0, 56, 180, 1, 127, 172, 16, 254, 172]
abbrev dktX0_count_3 : List UInt8 := dkwX0_count_3 ++ []
def dkwX0_count_2 : List UInt8 := [42, 180, 0, 28, 180, 0, 115, 172, 42, 180, 1, 21, 172, 42, 180, 1, 57, 172, 42, 180, 1, 74, 172, 42]
abbrev dktX0_count_2 : List UInt8 := dkwX0_count_2 ++ dktX0_count_3
def dkwX0_count_1 : List UInt8 := [170, 0, 0, 0, 0, 0, 84, 0, 0, 0, 0, 0, 0, 0, 6, 0, 0, 0, 43, 0, 0, 0, 51, 0, 0, 0, 56, 0, 0, 0, 61, 0, 0, 0, 66, 0, 0, 0, 71, 0, 0, 0, 76]
abbrev dktX0_count_1 : List UInt8 := dkwX0_count_1 ++ dktX0_count_2
def dkwX0_count_0 : List UInt8 := [27]
abbrev dktX0_count_0 : List UInt8 := dkwX0_count_0 ++ dktX0_count_1
theorem dksX0_count_0 : cX0_count.data.toList.drop 0 = dktX0_count_0 := by decide +kernel
theorem dksX0_count_1 : cX0_count.data.toList.drop 1 = dktX0_count_1 := dk_seg dksX0_count_0 1 rfl rfl
theorem dksX0_count_2 : cX0_count.data.toList.drop 44 = dktX0_count_2 := dk_seg dksX0_count_1 43 rfl rfl
theorem dksX0_count_3 : cX0_count.data.toList.drop 68 = dktX0_count_3 := dk_seg dksX0_count_2 24 rfl rfl
theorem dX0_count_0 : decode cX0_count 0 = .ok (.iload_n 1, 1) := dk_27 (dk_at dksX0_count_0 0 rfl rfl)
theorem dX0_count_1 : decode cX0_count 1 = .ok (.tableswitch 84 0 6 #[43, 51, 56, 61, 66, 71, 76], 43) := by decide +kernel
theorem dX0_count_44 : decode cX0_count 44 = .ok (.aload_n 0, 1) := dk_42 (dk_at dksX0_count_2 0 rfl rfl)
theorem dX0_count_45 : decode cX0_count 45 = .ok (.getfield 28, 3) := dk_180 0 28 (dk_at dksX0_count_2 1 rfl rfl)
theorem dX0_count_48 : decode cX0_count 48 = .ok (.getfield 115, 3) := dk_180 0 115 (dk_at dksX0_count_2 4 rfl rfl)
theorem dX0_count_51 : decode cX0_count 51 = .ok (.ireturn, 1) := dk_172 (dk_at dksX0_count_2 7 rfl rfl)
theorem dX0_count_52 : decode cX0_count 52 = .ok (.aload_n 0, 1) := dk_42 (dk_at dksX0_count_2 8 rfl rfl)
theorem dX0_count_53 : decode cX0_count 53 = .ok (.getfield 277, 3) := dk_180 1 21 (dk_at dksX0_count_2 9 rfl rfl)
theorem dX0_count_56 : decode cX0_count 56 = .ok (.ireturn, 1) := dk_172 (dk_at dksX0_count_2 12 rfl rfl)
theorem dX0_count_57 : decode cX0_count 57 = .ok (.aload_n 0, 1) := dk_42 (dk_at dksX0_count_2 13 rfl rfl)
theorem dX0_count_58 : decode cX0_count 58 = .ok (.getfield 313, 3) := dk_180 1 57 (dk_at dksX0_count_2 14 rfl rfl)
theorem dX0_count_61 : decode cX0_count 61 = .ok (.ireturn, 1) := dk_172 (dk_at dksX0_count_2 17 rfl rfl)
theorem dX0_count_62 : decode cX0_count 62 = .ok (.aload_n 0, 1) := dk_42 (dk_at dksX0_count_2 18 rfl rfl)
theorem dX0_count_63 : decode cX0_count 63 = .ok (.getfield 330, 3) := dk_180 1 74 (dk_at dksX0_count_2 19 rfl rfl)
theorem dX0_count_66 : decode cX0_count 66 = .ok (.ireturn, 1) := dk_172 (dk_at dksX0_count_2 22 rfl rfl)
theorem dX0_count_67 : decode cX0_count 67 = .ok (.aload_n 0, 1) := dk_42 (dk_at dksX0_count_2 23 rfl rfl)
theorem dX0_count_68 : decode cX0_count 68 = .ok (.getfield 343, 3) := dk_180 1 87 (dk_at dksX0_count_3 0 rfl rfl)
theorem dX0_count_71 : decode cX0_count 71 = .ok (.ireturn, 1) := dk_172 (dk_at dksX0_count_3 3 rfl rfl)
theorem dX0_count_72 : decode cX0_count 72 = .ok (.aload_n 0, 1) := dk_42 (dk_at dksX0_count_3 4 rfl rfl)
theorem dX0_count_73 : decode cX0_count 73 = .ok (.getfield 274, 3) := dk_180 1 18 (dk_at dksX0_count_3 5 rfl rfl)
theorem dX0_count_76 : decode cX0_count 76 = .ok (.ireturn, 1) := dk_172 (dk_at dksX0_count_3 8 rfl rfl)
theorem dX0_count_77 : decode cX0_count 77 = .ok (.aload_n 0, 1) := dk_42 (dk_at dksX0_count_3 9 rfl rfl)
theorem dX0_count_78 : decode cX0_count 78 = .ok (.getfield 56, 3) := dk_180 0 56 (dk_at dksX0_count_3 10 rfl rfl)
theorem dX0_count_81 : decode cX0_count 81 = .ok (.getfield 383, 3) := dk_180 1 127 (dk_at dksX0_count_3 13 rfl rfl)
theorem dX0_count_84 : decode cX0_count 84 = .ok (.ireturn, 1) := dk_172 (dk_at dksX0_count_3 16 rfl rfl)
theorem dX0_count_85 : decode cX0_count 85 = .ok (.bipush (-2), 2) := dk_16 254 (dk_at dksX0_count_3 17 rfl rfl)
theorem dX0_count_87 : decode cX0_count 87 = .ok (.ireturn, 1) := dk_172 (dk_at dksX0_count_3 19 rfl rfl)
abbrev cX0_tape : ByteArray := prog_1_method_61_code
def yX0_tape : MethodName := ⟨RX0, "tape", "(III)I"⟩
def dkwX0_tape_2 : List UInt8 := [29, 184, 1, 146, 181, 1, 97, 4, 172, 58, 4, 16, 242, 172]
abbrev dktX0_tape_2 : List UInt8 := dkwX0_tape_2 ++ []
def dkwX0_tape_1 : List UInt8 := [16, 60, 164, 0, 6, 16, 254, 172, 42, 180, 0, 80, 27, 50, 28, 2, 160, 0, 7, 1, 167, 0, 8, 28]
abbrev dktX0_tape_1 : List UInt8 := dkwX0_tape_1 ++ dktX0_tape_2
def dkwX0_tape_0 : List UInt8 := [27, 184, 1, 94, 154, 0, 5, 2, 172, 28, 2, 7, 184, 0, 5, 153, 0, 14, 28, 2, 159, 0, 12, 29]
abbrev dktX0_tape_0 : List UInt8 := dkwX0_tape_0 ++ dktX0_tape_1
theorem dksX0_tape_0 : cX0_tape.data.toList.drop 0 = dktX0_tape_0 := by decide +kernel
theorem dksX0_tape_1 : cX0_tape.data.toList.drop 24 = dktX0_tape_1 := dk_seg dksX0_tape_0 24 rfl rfl
theorem dksX0_tape_2 : cX0_tape.data.toList.drop 48 = dktX0_tape_2 := dk_seg dksX0_tape_1 24 rfl rfl
theorem dX0_tape_0 : decode cX0_tape 0 = .ok (.iload_n 1, 1) := dk_27 (dk_at dksX0_tape_0 0 rfl rfl)
theorem dX0_tape_1 : decode cX0_tape 1 = .ok (.invokestatic 350, 3) := dk_184 1 94 (dk_at dksX0_tape_0 1 rfl rfl)
theorem dX0_tape_4 : decode cX0_tape 4 = .ok (.ifCond .ne 5, 3) := dk_154 0 5 (dk_at dksX0_tape_0 4 rfl rfl)
theorem dX0_tape_7 : decode cX0_tape 7 = .ok (.iconst (-1), 1) := dk_2 (dk_at dksX0_tape_0 7 rfl rfl)
theorem dX0_tape_8 : decode cX0_tape 8 = .ok (.ireturn, 1) := dk_172 (dk_at dksX0_tape_0 8 rfl rfl)
theorem dX0_tape_9 : decode cX0_tape 9 = .ok (.iload_n 2, 1) := dk_28 (dk_at dksX0_tape_0 9 rfl rfl)
theorem dX0_tape_10 : decode cX0_tape 10 = .ok (.iconst (-1), 1) := dk_2 (dk_at dksX0_tape_0 10 rfl rfl)
theorem dX0_tape_11 : decode cX0_tape 11 = .ok (.iconst 4, 1) := dk_7 (dk_at dksX0_tape_0 11 rfl rfl)
theorem dX0_tape_12 : decode cX0_tape 12 = .ok (.invokestatic 5, 3) := dk_184 0 5 (dk_at dksX0_tape_0 12 rfl rfl)
theorem dX0_tape_15 : decode cX0_tape 15 = .ok (.ifCond .eq 14, 3) := dk_153 0 14 (dk_at dksX0_tape_0 15 rfl rfl)
theorem dX0_tape_18 : decode cX0_tape 18 = .ok (.iload_n 2, 1) := dk_28 (dk_at dksX0_tape_0 18 rfl rfl)
theorem dX0_tape_19 : decode cX0_tape 19 = .ok (.iconst (-1), 1) := dk_2 (dk_at dksX0_tape_0 19 rfl rfl)
theorem dX0_tape_20 : decode cX0_tape 20 = .ok (.if_icmp .eq 12, 3) := dk_159 0 12 (dk_at dksX0_tape_0 20 rfl rfl)
theorem dX0_tape_23 : decode cX0_tape 23 = .ok (.iload_n 3, 1) := dk_29 (dk_at dksX0_tape_0 23 rfl rfl)
theorem dX0_tape_24 : decode cX0_tape 24 = .ok (.bipush 60, 2) := dk_16 60 (dk_at dksX0_tape_1 0 rfl rfl)
theorem dX0_tape_26 : decode cX0_tape 26 = .ok (.if_icmp .le 6, 3) := dk_164 0 6 (dk_at dksX0_tape_1 2 rfl rfl)
theorem dX0_tape_29 : decode cX0_tape 29 = .ok (.bipush (-2), 2) := dk_16 254 (dk_at dksX0_tape_1 5 rfl rfl)
theorem dX0_tape_31 : decode cX0_tape 31 = .ok (.ireturn, 1) := dk_172 (dk_at dksX0_tape_1 7 rfl rfl)
theorem dX0_tape_32 : decode cX0_tape 32 = .ok (.aload_n 0, 1) := dk_42 (dk_at dksX0_tape_1 8 rfl rfl)
theorem dX0_tape_33 : decode cX0_tape 33 = .ok (.getfield 80, 3) := dk_180 0 80 (dk_at dksX0_tape_1 9 rfl rfl)
theorem dX0_tape_36 : decode cX0_tape 36 = .ok (.iload_n 1, 1) := dk_27 (dk_at dksX0_tape_1 12 rfl rfl)
theorem dX0_tape_37 : decode cX0_tape 37 = .ok (.aaload, 1) := dk_50 (dk_at dksX0_tape_1 13 rfl rfl)
theorem dX0_tape_38 : decode cX0_tape 38 = .ok (.iload_n 2, 1) := dk_28 (dk_at dksX0_tape_1 14 rfl rfl)
theorem dX0_tape_39 : decode cX0_tape 39 = .ok (.iconst (-1), 1) := dk_2 (dk_at dksX0_tape_1 15 rfl rfl)
theorem dX0_tape_40 : decode cX0_tape 40 = .ok (.if_icmp .ne 7, 3) := dk_160 0 7 (dk_at dksX0_tape_1 16 rfl rfl)
theorem dX0_tape_43 : decode cX0_tape 43 = .ok (.aconst_null, 1) := dk_1 (dk_at dksX0_tape_1 19 rfl rfl)
theorem dX0_tape_44 : decode cX0_tape 44 = .ok (.goto 8, 3) := dk_167 0 8 (dk_at dksX0_tape_1 20 rfl rfl)
theorem dX0_tape_47 : decode cX0_tape 47 = .ok (.iload_n 2, 1) := dk_28 (dk_at dksX0_tape_1 23 rfl rfl)
theorem dX0_tape_48 : decode cX0_tape 48 = .ok (.iload_n 3, 1) := dk_29 (dk_at dksX0_tape_2 0 rfl rfl)
theorem dX0_tape_49 : decode cX0_tape 49 = .ok (.invokestatic 402, 3) := dk_184 1 146 (dk_at dksX0_tape_2 1 rfl rfl)
theorem dX0_tape_52 : decode cX0_tape 52 = .ok (.putfield 353, 3) := dk_181 1 97 (dk_at dksX0_tape_2 4 rfl rfl)
theorem dX0_tape_55 : decode cX0_tape 55 = .ok (.iconst 1, 1) := dk_4 (dk_at dksX0_tape_2 7 rfl rfl)
theorem dX0_tape_56 : decode cX0_tape 56 = .ok (.ireturn, 1) := dk_172 (dk_at dksX0_tape_2 8 rfl rfl)
theorem dX0_tape_57 : decode cX0_tape 57 = .ok (.astore 4, 2) := dk_58 4 (dk_at dksX0_tape_2 9 rfl rfl)
theorem dX0_tape_59 : decode cX0_tape 59 = .ok (.bipush (-14), 2) := dk_16 242 (dk_at dksX0_tape_2 11 rfl rfl)
theorem dX0_tape_61 : decode cX0_tape 61 = .ok (.ireturn, 1) := dk_172 (dk_at dksX0_tape_2 13 rfl rfl)
abbrev cX0_rowOf : ByteArray := prog_1_method_59_code
def yX0_rowOf : MethodName := ⟨RX0, "rowOf", "(II)Ljava/lang/Object;"⟩
def dkwX0_rowOf_2 : List UInt8 := [27, 188, 8, 176, 27, 188, 9, 176, 27, 188, 10, 176, 27, 188, 11, 176, 27, 188, 4, 176]
abbrev dktX0_rowOf_2 : List UInt8 := dkwX0_rowOf_2 ++ []
def dkwX0_rowOf_1 : List UInt8 := [170, 0, 0, 0, 0, 0, 47, 0, 0, 0, 0, 0, 0, 0, 3, 0, 0, 0, 31, 0, 0, 0, 35, 0, 0, 0, 39, 0, 0, 0, 43]
abbrev dktX0_rowOf_1 : List UInt8 := dkwX0_rowOf_1 ++ dktX0_rowOf_2
def dkwX0_rowOf_0 : List UInt8 := [26]
abbrev dktX0_rowOf_0 : List UInt8 := dkwX0_rowOf_0 ++ dktX0_rowOf_1
theorem dksX0_rowOf_0 : cX0_rowOf.data.toList.drop 0 = dktX0_rowOf_0 := by decide +kernel
theorem dksX0_rowOf_1 : cX0_rowOf.data.toList.drop 1 = dktX0_rowOf_1 := dk_seg dksX0_rowOf_0 1 rfl rfl
theorem dksX0_rowOf_2 : cX0_rowOf.data.toList.drop 32 = dktX0_rowOf_2 := dk_seg dksX0_rowOf_1 31 rfl rfl
theorem dX0_rowOf_0 : decode cX0_rowOf 0 = .ok (.iload_n 0, 1) := dk_26 (dk_at dksX0_rowOf_0 0 rfl rfl)
theorem dX0_rowOf_1 : decode cX0_rowOf 1 = .ok (.tableswitch 47 0 3 #[31, 35, 39, 43], 31) := by decide +kernel
theorem dX0_rowOf_32 : decode cX0_rowOf 32 = .ok (.iload_n 1, 1) := dk_27 (dk_at dksX0_rowOf_2 0 rfl rfl)
theorem dX0_rowOf_33 : decode cX0_rowOf 33 = .ok (.newarray .byte, 2) := dk_188_8 (dk_at dksX0_rowOf_2 1 rfl rfl)
theorem dX0_rowOf_35 : decode cX0_rowOf 35 = .ok (.areturn, 1) := dk_176 (dk_at dksX0_rowOf_2 3 rfl rfl)
theorem dX0_rowOf_36 : decode cX0_rowOf 36 = .ok (.iload_n 1, 1) := dk_27 (dk_at dksX0_rowOf_2 4 rfl rfl)
theorem dX0_rowOf_37 : decode cX0_rowOf 37 = .ok (.newarray .short, 2) := dk_188_9 (dk_at dksX0_rowOf_2 5 rfl rfl)
theorem dX0_rowOf_39 : decode cX0_rowOf 39 = .ok (.areturn, 1) := dk_176 (dk_at dksX0_rowOf_2 7 rfl rfl)
theorem dX0_rowOf_40 : decode cX0_rowOf 40 = .ok (.iload_n 1, 1) := dk_27 (dk_at dksX0_rowOf_2 8 rfl rfl)
theorem dX0_rowOf_41 : decode cX0_rowOf 41 = .ok (.newarray .int, 2) := dk_188_10 (dk_at dksX0_rowOf_2 9 rfl rfl)
theorem dX0_rowOf_43 : decode cX0_rowOf 43 = .ok (.areturn, 1) := dk_176 (dk_at dksX0_rowOf_2 11 rfl rfl)
theorem dX0_rowOf_44 : decode cX0_rowOf 44 = .ok (.iload_n 1, 1) := dk_27 (dk_at dksX0_rowOf_2 12 rfl rfl)
theorem dX0_rowOf_45 : decode cX0_rowOf 45 = .ok (.newarray .long, 2) := dk_188_11 (dk_at dksX0_rowOf_2 13 rfl rfl)
theorem dX0_rowOf_47 : decode cX0_rowOf 47 = .ok (.areturn, 1) := dk_176 (dk_at dksX0_rowOf_2 15 rfl rfl)
theorem dX0_rowOf_48 : decode cX0_rowOf 48 = .ok (.iload_n 1, 1) := dk_27 (dk_at dksX0_rowOf_2 16 rfl rfl)
theorem dX0_rowOf_49 : decode cX0_rowOf 49 = .ok (.newarray .boolean, 2) := dk_188_4 (dk_at dksX0_rowOf_2 17 rfl rfl)
theorem dX0_rowOf_51 : decode cX0_rowOf 51 = .ok (.areturn, 1) := dk_176 (dk_at dksX0_rowOf_2 19 rfl rfl)
abbrev cX0_item : ByteArray := prog_1_method_62_code
def yX0_item : MethodName := ⟨RX0, "item", "(IIJ)I"⟩
def dkwX0_item_7 : List UInt8 := [180, 1, 97, 192, 1, 159, 28, 33, 9, 148, 153, 0, 7, 4, 167, 0, 4, 3, 84, 4, 172]
abbrev dktX0_item_7 : List UInt8 := dkwX0_item_7 ++ []
def dkwX0_item_6 : List UInt8 := [193, 1, 157, 153, 0, 18, 25, 10, 192, 1, 157, 58, 9, 25, 9, 28, 33, 80, 167, 0, 24, 25, 5]
abbrev dktX0_item_6 : List UInt8 := dkwX0_item_6 ++ dktX0_item_7
def dkwX0_item_5 : List UInt8 := [192, 1, 156, 58, 8, 25, 8, 28, 33, 136, 79, 167, 0, 54, 25, 5, 180, 1, 97, 58, 10, 25, 10]
abbrev dktX0_item_5 : List UInt8 := dkwX0_item_5 ++ dktX0_item_6
def dkwX0_item_4 : List UInt8 := [136, 147, 86, 167, 0, 85, 25, 5, 180, 1, 97, 58, 10, 25, 10, 193, 1, 156, 153, 0, 19, 25, 10]
abbrev dktX0_item_4 : List UInt8 := dkwX0_item_4 ++ dktX0_item_5
def dkwX0_item_3 : List UInt8 := [180, 1, 97, 58, 10, 25, 10, 193, 1, 101, 153, 0, 20, 25, 10, 192, 1, 101, 58, 7, 25, 7, 28, 33]
abbrev dktX0_item_3 : List UInt8 := dkwX0_item_3 ++ dktX0_item_4
def dkwX0_item_2 : List UInt8 := [153, 0, 20, 25, 10, 192, 1, 155, 58, 6, 25, 6, 28, 33, 136, 145, 84, 167, 0, 117, 25, 5]
abbrev dktX0_item_2 : List UInt8 := dkwX0_item_2 ++ dktX0_item_3
def dkwX0_item_1 : List UInt8 := [167, 0, 11, 58, 6, 25, 6, 180, 1, 35, 172, 25, 5, 180, 1, 97, 58, 10, 25, 10, 193, 1, 155]
abbrev dktX0_item_1 : List UInt8 := dkwX0_item_1 ++ dktX0_item_2
def dkwX0_item_0 : List UInt8 := [27, 184, 1, 94, 154, 0, 5, 2, 172, 42, 180, 0, 80, 27, 50, 58, 5, 25, 5, 28, 182, 1, 152]
abbrev dktX0_item_0 : List UInt8 := dkwX0_item_0 ++ dktX0_item_1
theorem dksX0_item_0 : cX0_item.data.toList.drop 0 = dktX0_item_0 := by decide +kernel
theorem dksX0_item_1 : cX0_item.data.toList.drop 23 = dktX0_item_1 := dk_seg dksX0_item_0 23 rfl rfl
theorem dksX0_item_2 : cX0_item.data.toList.drop 46 = dktX0_item_2 := dk_seg dksX0_item_1 23 rfl rfl
theorem dksX0_item_3 : cX0_item.data.toList.drop 68 = dktX0_item_3 := dk_seg dksX0_item_2 22 rfl rfl
theorem dksX0_item_4 : cX0_item.data.toList.drop 92 = dktX0_item_4 := dk_seg dksX0_item_3 24 rfl rfl
theorem dksX0_item_5 : cX0_item.data.toList.drop 115 = dktX0_item_5 := dk_seg dksX0_item_4 23 rfl rfl
theorem dksX0_item_6 : cX0_item.data.toList.drop 138 = dktX0_item_6 := dk_seg dksX0_item_5 23 rfl rfl
theorem dksX0_item_7 : cX0_item.data.toList.drop 161 = dktX0_item_7 := dk_seg dksX0_item_6 23 rfl rfl
theorem dX0_item_0 : decode cX0_item 0 = .ok (.iload_n 1, 1) := dk_27 (dk_at dksX0_item_0 0 rfl rfl)
theorem dX0_item_1 : decode cX0_item 1 = .ok (.invokestatic 350, 3) := dk_184 1 94 (dk_at dksX0_item_0 1 rfl rfl)
theorem dX0_item_4 : decode cX0_item 4 = .ok (.ifCond .ne 5, 3) := dk_154 0 5 (dk_at dksX0_item_0 4 rfl rfl)
theorem dX0_item_7 : decode cX0_item 7 = .ok (.iconst (-1), 1) := dk_2 (dk_at dksX0_item_0 7 rfl rfl)
theorem dX0_item_8 : decode cX0_item 8 = .ok (.ireturn, 1) := dk_172 (dk_at dksX0_item_0 8 rfl rfl)
theorem dX0_item_9 : decode cX0_item 9 = .ok (.aload_n 0, 1) := dk_42 (dk_at dksX0_item_0 9 rfl rfl)
theorem dX0_item_10 : decode cX0_item 10 = .ok (.getfield 80, 3) := dk_180 0 80 (dk_at dksX0_item_0 10 rfl rfl)
theorem dX0_item_13 : decode cX0_item 13 = .ok (.iload_n 1, 1) := dk_27 (dk_at dksX0_item_0 13 rfl rfl)
theorem dX0_item_14 : decode cX0_item 14 = .ok (.aaload, 1) := dk_50 (dk_at dksX0_item_0 14 rfl rfl)
theorem dX0_item_15 : decode cX0_item 15 = .ok (.astore 5, 2) := dk_58 5 (dk_at dksX0_item_0 15 rfl rfl)
theorem dX0_item_17 : decode cX0_item 17 = .ok (.aload 5, 2) := dk_25 5 (dk_at dksX0_item_0 17 rfl rfl)
theorem dX0_item_19 : decode cX0_item 19 = .ok (.iload_n 2, 1) := dk_28 (dk_at dksX0_item_0 19 rfl rfl)
theorem dX0_item_20 : decode cX0_item 20 = .ok (.invokevirtual 408, 3) := dk_182 1 152 (dk_at dksX0_item_0 20 rfl rfl)
theorem dX0_item_23 : decode cX0_item 23 = .ok (.goto 11, 3) := dk_167 0 11 (dk_at dksX0_item_1 0 rfl rfl)
theorem dX0_item_26 : decode cX0_item 26 = .ok (.astore 6, 2) := dk_58 6 (dk_at dksX0_item_1 3 rfl rfl)
theorem dX0_item_28 : decode cX0_item 28 = .ok (.aload 6, 2) := dk_25 6 (dk_at dksX0_item_1 5 rfl rfl)
theorem dX0_item_30 : decode cX0_item 30 = .ok (.getfield 291, 3) := dk_180 1 35 (dk_at dksX0_item_1 7 rfl rfl)
theorem dX0_item_33 : decode cX0_item 33 = .ok (.ireturn, 1) := dk_172 (dk_at dksX0_item_1 10 rfl rfl)
theorem dX0_item_34 : decode cX0_item 34 = .ok (.aload 5, 2) := dk_25 5 (dk_at dksX0_item_1 11 rfl rfl)
theorem dX0_item_36 : decode cX0_item 36 = .ok (.getfield 353, 3) := dk_180 1 97 (dk_at dksX0_item_1 13 rfl rfl)
theorem dX0_item_39 : decode cX0_item 39 = .ok (.astore 10, 2) := dk_58 10 (dk_at dksX0_item_1 16 rfl rfl)
theorem dX0_item_41 : decode cX0_item 41 = .ok (.aload 10, 2) := dk_25 10 (dk_at dksX0_item_1 18 rfl rfl)
theorem dX0_item_43 : decode cX0_item 43 = .ok (.instanceof 411, 3) := dk_193 1 155 (dk_at dksX0_item_1 20 rfl rfl)
theorem dX0_item_46 : decode cX0_item 46 = .ok (.ifCond .eq 20, 3) := dk_153 0 20 (dk_at dksX0_item_2 0 rfl rfl)
theorem dX0_item_49 : decode cX0_item 49 = .ok (.aload 10, 2) := dk_25 10 (dk_at dksX0_item_2 3 rfl rfl)
theorem dX0_item_51 : decode cX0_item 51 = .ok (.checkcast 411, 3) := dk_192 1 155 (dk_at dksX0_item_2 5 rfl rfl)
theorem dX0_item_54 : decode cX0_item 54 = .ok (.astore 6, 2) := dk_58 6 (dk_at dksX0_item_2 8 rfl rfl)
theorem dX0_item_56 : decode cX0_item 56 = .ok (.aload 6, 2) := dk_25 6 (dk_at dksX0_item_2 10 rfl rfl)
theorem dX0_item_58 : decode cX0_item 58 = .ok (.iload_n 2, 1) := dk_28 (dk_at dksX0_item_2 12 rfl rfl)
theorem dX0_item_59 : decode cX0_item 59 = .ok (.lload_n 3, 1) := dk_33 (dk_at dksX0_item_2 13 rfl rfl)
theorem dX0_item_60 : decode cX0_item 60 = .ok (.l2i, 1) := dk_136 (dk_at dksX0_item_2 14 rfl rfl)
theorem dX0_item_61 : decode cX0_item 61 = .ok (.i2b, 1) := dk_145 (dk_at dksX0_item_2 15 rfl rfl)
theorem dX0_item_62 : decode cX0_item 62 = .ok (.bastore, 1) := dk_84 (dk_at dksX0_item_2 16 rfl rfl)
theorem dX0_item_63 : decode cX0_item 63 = .ok (.goto 117, 3) := dk_167 0 117 (dk_at dksX0_item_2 17 rfl rfl)
theorem dX0_item_66 : decode cX0_item 66 = .ok (.aload 5, 2) := dk_25 5 (dk_at dksX0_item_2 20 rfl rfl)
theorem dX0_item_68 : decode cX0_item 68 = .ok (.getfield 353, 3) := dk_180 1 97 (dk_at dksX0_item_3 0 rfl rfl)
theorem dX0_item_71 : decode cX0_item 71 = .ok (.astore 10, 2) := dk_58 10 (dk_at dksX0_item_3 3 rfl rfl)
theorem dX0_item_73 : decode cX0_item 73 = .ok (.aload 10, 2) := dk_25 10 (dk_at dksX0_item_3 5 rfl rfl)
theorem dX0_item_75 : decode cX0_item 75 = .ok (.instanceof 357, 3) := dk_193 1 101 (dk_at dksX0_item_3 7 rfl rfl)
theorem dX0_item_78 : decode cX0_item 78 = .ok (.ifCond .eq 20, 3) := dk_153 0 20 (dk_at dksX0_item_3 10 rfl rfl)
theorem dX0_item_81 : decode cX0_item 81 = .ok (.aload 10, 2) := dk_25 10 (dk_at dksX0_item_3 13 rfl rfl)
theorem dX0_item_83 : decode cX0_item 83 = .ok (.checkcast 357, 3) := dk_192 1 101 (dk_at dksX0_item_3 15 rfl rfl)
theorem dX0_item_86 : decode cX0_item 86 = .ok (.astore 7, 2) := dk_58 7 (dk_at dksX0_item_3 18 rfl rfl)
theorem dX0_item_88 : decode cX0_item 88 = .ok (.aload 7, 2) := dk_25 7 (dk_at dksX0_item_3 20 rfl rfl)
theorem dX0_item_90 : decode cX0_item 90 = .ok (.iload_n 2, 1) := dk_28 (dk_at dksX0_item_3 22 rfl rfl)
theorem dX0_item_91 : decode cX0_item 91 = .ok (.lload_n 3, 1) := dk_33 (dk_at dksX0_item_3 23 rfl rfl)
theorem dX0_item_92 : decode cX0_item 92 = .ok (.l2i, 1) := dk_136 (dk_at dksX0_item_4 0 rfl rfl)
theorem dX0_item_93 : decode cX0_item 93 = .ok (.i2s, 1) := dk_147 (dk_at dksX0_item_4 1 rfl rfl)
theorem dX0_item_94 : decode cX0_item 94 = .ok (.sastore, 1) := dk_86 (dk_at dksX0_item_4 2 rfl rfl)
theorem dX0_item_95 : decode cX0_item 95 = .ok (.goto 85, 3) := dk_167 0 85 (dk_at dksX0_item_4 3 rfl rfl)
theorem dX0_item_98 : decode cX0_item 98 = .ok (.aload 5, 2) := dk_25 5 (dk_at dksX0_item_4 6 rfl rfl)
theorem dX0_item_100 : decode cX0_item 100 = .ok (.getfield 353, 3) := dk_180 1 97 (dk_at dksX0_item_4 8 rfl rfl)
theorem dX0_item_103 : decode cX0_item 103 = .ok (.astore 10, 2) := dk_58 10 (dk_at dksX0_item_4 11 rfl rfl)
theorem dX0_item_105 : decode cX0_item 105 = .ok (.aload 10, 2) := dk_25 10 (dk_at dksX0_item_4 13 rfl rfl)
theorem dX0_item_107 : decode cX0_item 107 = .ok (.instanceof 412, 3) := dk_193 1 156 (dk_at dksX0_item_4 15 rfl rfl)
theorem dX0_item_110 : decode cX0_item 110 = .ok (.ifCond .eq 19, 3) := dk_153 0 19 (dk_at dksX0_item_4 18 rfl rfl)
theorem dX0_item_113 : decode cX0_item 113 = .ok (.aload 10, 2) := dk_25 10 (dk_at dksX0_item_4 21 rfl rfl)
theorem dX0_item_115 : decode cX0_item 115 = .ok (.checkcast 412, 3) := dk_192 1 156 (dk_at dksX0_item_5 0 rfl rfl)
theorem dX0_item_118 : decode cX0_item 118 = .ok (.astore 8, 2) := dk_58 8 (dk_at dksX0_item_5 3 rfl rfl)
theorem dX0_item_120 : decode cX0_item 120 = .ok (.aload 8, 2) := dk_25 8 (dk_at dksX0_item_5 5 rfl rfl)
theorem dX0_item_122 : decode cX0_item 122 = .ok (.iload_n 2, 1) := dk_28 (dk_at dksX0_item_5 7 rfl rfl)
theorem dX0_item_123 : decode cX0_item 123 = .ok (.lload_n 3, 1) := dk_33 (dk_at dksX0_item_5 8 rfl rfl)
theorem dX0_item_124 : decode cX0_item 124 = .ok (.l2i, 1) := dk_136 (dk_at dksX0_item_5 9 rfl rfl)
theorem dX0_item_125 : decode cX0_item 125 = .ok (.iastore, 1) := dk_79 (dk_at dksX0_item_5 10 rfl rfl)
theorem dX0_item_126 : decode cX0_item 126 = .ok (.goto 54, 3) := dk_167 0 54 (dk_at dksX0_item_5 11 rfl rfl)
theorem dX0_item_129 : decode cX0_item 129 = .ok (.aload 5, 2) := dk_25 5 (dk_at dksX0_item_5 14 rfl rfl)
theorem dX0_item_131 : decode cX0_item 131 = .ok (.getfield 353, 3) := dk_180 1 97 (dk_at dksX0_item_5 16 rfl rfl)
theorem dX0_item_134 : decode cX0_item 134 = .ok (.astore 10, 2) := dk_58 10 (dk_at dksX0_item_5 19 rfl rfl)
theorem dX0_item_136 : decode cX0_item 136 = .ok (.aload 10, 2) := dk_25 10 (dk_at dksX0_item_5 21 rfl rfl)
theorem dX0_item_138 : decode cX0_item 138 = .ok (.instanceof 413, 3) := dk_193 1 157 (dk_at dksX0_item_6 0 rfl rfl)
theorem dX0_item_141 : decode cX0_item 141 = .ok (.ifCond .eq 18, 3) := dk_153 0 18 (dk_at dksX0_item_6 3 rfl rfl)
theorem dX0_item_144 : decode cX0_item 144 = .ok (.aload 10, 2) := dk_25 10 (dk_at dksX0_item_6 6 rfl rfl)
theorem dX0_item_146 : decode cX0_item 146 = .ok (.checkcast 413, 3) := dk_192 1 157 (dk_at dksX0_item_6 8 rfl rfl)
theorem dX0_item_149 : decode cX0_item 149 = .ok (.astore 9, 2) := dk_58 9 (dk_at dksX0_item_6 11 rfl rfl)
theorem dX0_item_151 : decode cX0_item 151 = .ok (.aload 9, 2) := dk_25 9 (dk_at dksX0_item_6 13 rfl rfl)
theorem dX0_item_153 : decode cX0_item 153 = .ok (.iload_n 2, 1) := dk_28 (dk_at dksX0_item_6 15 rfl rfl)
theorem dX0_item_154 : decode cX0_item 154 = .ok (.lload_n 3, 1) := dk_33 (dk_at dksX0_item_6 16 rfl rfl)
theorem dX0_item_155 : decode cX0_item 155 = .ok (.lastore, 1) := dk_80 (dk_at dksX0_item_6 17 rfl rfl)
theorem dX0_item_156 : decode cX0_item 156 = .ok (.goto 24, 3) := dk_167 0 24 (dk_at dksX0_item_6 18 rfl rfl)
theorem dX0_item_159 : decode cX0_item 159 = .ok (.aload 5, 2) := dk_25 5 (dk_at dksX0_item_6 21 rfl rfl)
theorem dX0_item_161 : decode cX0_item 161 = .ok (.getfield 353, 3) := dk_180 1 97 (dk_at dksX0_item_7 0 rfl rfl)
theorem dX0_item_164 : decode cX0_item 164 = .ok (.checkcast 415, 3) := dk_192 1 159 (dk_at dksX0_item_7 3 rfl rfl)
theorem dX0_item_167 : decode cX0_item 167 = .ok (.iload_n 2, 1) := dk_28 (dk_at dksX0_item_7 6 rfl rfl)
theorem dX0_item_168 : decode cX0_item 168 = .ok (.lload_n 3, 1) := dk_33 (dk_at dksX0_item_7 7 rfl rfl)
theorem dX0_item_169 : decode cX0_item 169 = .ok (.lconst 0, 1) := dk_9 (dk_at dksX0_item_7 8 rfl rfl)
theorem dX0_item_170 : decode cX0_item 170 = .ok (.lcmp, 1) := dk_148 (dk_at dksX0_item_7 9 rfl rfl)
theorem dX0_item_171 : decode cX0_item 171 = .ok (.ifCond .eq 7, 3) := dk_153 0 7 (dk_at dksX0_item_7 10 rfl rfl)
theorem dX0_item_174 : decode cX0_item 174 = .ok (.iconst 1, 1) := dk_4 (dk_at dksX0_item_7 13 rfl rfl)
theorem dX0_item_175 : decode cX0_item 175 = .ok (.goto 4, 3) := dk_167 0 4 (dk_at dksX0_item_7 14 rfl rfl)
theorem dX0_item_178 : decode cX0_item 178 = .ok (.iconst 0, 1) := dk_3 (dk_at dksX0_item_7 17 rfl rfl)
theorem dX0_item_179 : decode cX0_item 179 = .ok (.bastore, 1) := dk_84 (dk_at dksX0_item_7 18 rfl rfl)
theorem dX0_item_180 : decode cX0_item 180 = .ok (.iconst 1, 1) := dk_4 (dk_at dksX0_item_7 19 rfl rfl)
theorem dX0_item_181 : decode cX0_item 181 = .ok (.ireturn, 1) := dk_172 (dk_at dksX0_item_7 20 rfl rfl)
abbrev cX0_read : ByteArray := prog_1_method_63_code
def yX0_read : MethodName := ⟨RX0, "read", "(II)J"⟩
def dkwX0_read_7 : List UInt8 := [192, 1, 159, 28, 51, 153, 0, 7, 10, 167, 0, 4, 9, 173]
abbrev dktX0_read_7 : List UInt8 := dkwX0_read_7 ++ []
def dkwX0_read_6 : List UInt8 := [193, 1, 157, 153, 0, 17, 25, 5, 192, 1, 157, 58, 4, 25, 4, 28, 47, 167, 0, 20, 45, 180, 1, 97]
abbrev dktX0_read_6 : List UInt8 := dkwX0_read_6 ++ dktX0_read_7
def dkwX0_read_5 : List UInt8 := [153, 0, 16, 25, 5, 192, 1, 156, 58, 4, 25, 4, 28, 46, 133, 173, 45, 180, 1, 97, 58, 5, 25, 5]
abbrev dktX0_read_5 : List UInt8 := dkwX0_read_5 ++ dktX0_read_6
def dkwX0_read_4 : List UInt8 := [192, 1, 101, 58, 4, 25, 4, 28, 53, 133, 173, 45, 180, 1, 97, 58, 5, 25, 5, 193, 1, 156]
abbrev dktX0_read_4 : List UInt8 := dkwX0_read_4 ++ dktX0_read_5
def dkwX0_read_3 : List UInt8 := [25, 4, 28, 51, 133, 173, 45, 180, 1, 97, 58, 5, 25, 5, 193, 1, 101, 153, 0, 16, 25, 5]
abbrev dktX0_read_3 : List UInt8 := dkwX0_read_3 ++ dktX0_read_4
def dkwX0_read_2 : List UInt8 := [27, 50, 78, 45, 180, 1, 97, 58, 5, 25, 5, 193, 1, 155, 153, 0, 16, 25, 5, 192, 1, 155, 58, 4]
abbrev dktX0_read_2 : List UInt8 := dkwX0_read_2 ++ dktX0_read_3
def dkwX0_read_1 : List UInt8 := [180, 0, 80, 27, 50, 182, 1, 161, 4, 100, 184, 0, 5, 154, 0, 7, 20, 1, 68, 173, 42, 180, 0, 80]
abbrev dktX0_read_1 : List UInt8 := dkwX0_read_1 ++ dktX0_read_2
def dkwX0_read_0 : List UInt8 := [27, 184, 1, 94, 153, 0, 34, 42, 180, 0, 80, 27, 50, 180, 1, 97, 198, 0, 22, 28, 3, 42]
abbrev dktX0_read_0 : List UInt8 := dkwX0_read_0 ++ dktX0_read_1
theorem dksX0_read_0 : cX0_read.data.toList.drop 0 = dktX0_read_0 := by decide +kernel
theorem dksX0_read_1 : cX0_read.data.toList.drop 22 = dktX0_read_1 := dk_seg dksX0_read_0 22 rfl rfl
theorem dksX0_read_2 : cX0_read.data.toList.drop 46 = dktX0_read_2 := dk_seg dksX0_read_1 24 rfl rfl
theorem dksX0_read_3 : cX0_read.data.toList.drop 70 = dktX0_read_3 := dk_seg dksX0_read_2 24 rfl rfl
theorem dksX0_read_4 : cX0_read.data.toList.drop 92 = dktX0_read_4 := dk_seg dksX0_read_3 22 rfl rfl
theorem dksX0_read_5 : cX0_read.data.toList.drop 114 = dktX0_read_5 := dk_seg dksX0_read_4 22 rfl rfl
theorem dksX0_read_6 : cX0_read.data.toList.drop 138 = dktX0_read_6 := dk_seg dksX0_read_5 24 rfl rfl
theorem dksX0_read_7 : cX0_read.data.toList.drop 162 = dktX0_read_7 := dk_seg dksX0_read_6 24 rfl rfl
theorem dX0_read_0 : decode cX0_read 0 = .ok (.iload_n 1, 1) := dk_27 (dk_at dksX0_read_0 0 rfl rfl)
theorem dX0_read_1 : decode cX0_read 1 = .ok (.invokestatic 350, 3) := dk_184 1 94 (dk_at dksX0_read_0 1 rfl rfl)
theorem dX0_read_4 : decode cX0_read 4 = .ok (.ifCond .eq 34, 3) := dk_153 0 34 (dk_at dksX0_read_0 4 rfl rfl)
theorem dX0_read_7 : decode cX0_read 7 = .ok (.aload_n 0, 1) := dk_42 (dk_at dksX0_read_0 7 rfl rfl)
theorem dX0_read_8 : decode cX0_read 8 = .ok (.getfield 80, 3) := dk_180 0 80 (dk_at dksX0_read_0 8 rfl rfl)
theorem dX0_read_11 : decode cX0_read 11 = .ok (.iload_n 1, 1) := dk_27 (dk_at dksX0_read_0 11 rfl rfl)
theorem dX0_read_12 : decode cX0_read 12 = .ok (.aaload, 1) := dk_50 (dk_at dksX0_read_0 12 rfl rfl)
theorem dX0_read_13 : decode cX0_read 13 = .ok (.getfield 353, 3) := dk_180 1 97 (dk_at dksX0_read_0 13 rfl rfl)
theorem dX0_read_16 : decode cX0_read 16 = .ok (.ifnull 22, 3) := dk_198 0 22 (dk_at dksX0_read_0 16 rfl rfl)
theorem dX0_read_19 : decode cX0_read 19 = .ok (.iload_n 2, 1) := dk_28 (dk_at dksX0_read_0 19 rfl rfl)
theorem dX0_read_20 : decode cX0_read 20 = .ok (.iconst 0, 1) := dk_3 (dk_at dksX0_read_0 20 rfl rfl)
theorem dX0_read_21 : decode cX0_read 21 = .ok (.aload_n 0, 1) := dk_42 (dk_at dksX0_read_0 21 rfl rfl)
theorem dX0_read_22 : decode cX0_read 22 = .ok (.getfield 80, 3) := dk_180 0 80 (dk_at dksX0_read_1 0 rfl rfl)
theorem dX0_read_25 : decode cX0_read 25 = .ok (.iload_n 1, 1) := dk_27 (dk_at dksX0_read_1 3 rfl rfl)
theorem dX0_read_26 : decode cX0_read 26 = .ok (.aaload, 1) := dk_50 (dk_at dksX0_read_1 4 rfl rfl)
theorem dX0_read_27 : decode cX0_read 27 = .ok (.invokevirtual 417, 3) := dk_182 1 161 (dk_at dksX0_read_1 5 rfl rfl)
theorem dX0_read_30 : decode cX0_read 30 = .ok (.iconst 1, 1) := dk_4 (dk_at dksX0_read_1 8 rfl rfl)
theorem dX0_read_31 : decode cX0_read 31 = .ok (.isub, 1) := dk_100 (dk_at dksX0_read_1 9 rfl rfl)
theorem dX0_read_32 : decode cX0_read 32 = .ok (.invokestatic 5, 3) := dk_184 0 5 (dk_at dksX0_read_1 10 rfl rfl)
theorem dX0_read_35 : decode cX0_read 35 = .ok (.ifCond .ne 7, 3) := dk_154 0 7 (dk_at dksX0_read_1 13 rfl rfl)
theorem dX0_read_38 : decode cX0_read 38 = .ok (.ldc2_w 324, 3) := dk_20 1 68 (dk_at dksX0_read_1 16 rfl rfl)
theorem dX0_read_41 : decode cX0_read 41 = .ok (.lreturn, 1) := dk_173 (dk_at dksX0_read_1 19 rfl rfl)
theorem dX0_read_42 : decode cX0_read 42 = .ok (.aload_n 0, 1) := dk_42 (dk_at dksX0_read_1 20 rfl rfl)
theorem dX0_read_43 : decode cX0_read 43 = .ok (.getfield 80, 3) := dk_180 0 80 (dk_at dksX0_read_1 21 rfl rfl)
theorem dX0_read_46 : decode cX0_read 46 = .ok (.iload_n 1, 1) := dk_27 (dk_at dksX0_read_2 0 rfl rfl)
theorem dX0_read_47 : decode cX0_read 47 = .ok (.aaload, 1) := dk_50 (dk_at dksX0_read_2 1 rfl rfl)
theorem dX0_read_48 : decode cX0_read 48 = .ok (.astore_n 3, 1) := dk_78 (dk_at dksX0_read_2 2 rfl rfl)
theorem dX0_read_49 : decode cX0_read 49 = .ok (.aload_n 3, 1) := dk_45 (dk_at dksX0_read_2 3 rfl rfl)
theorem dX0_read_50 : decode cX0_read 50 = .ok (.getfield 353, 3) := dk_180 1 97 (dk_at dksX0_read_2 4 rfl rfl)
theorem dX0_read_53 : decode cX0_read 53 = .ok (.astore 5, 2) := dk_58 5 (dk_at dksX0_read_2 7 rfl rfl)
theorem dX0_read_55 : decode cX0_read 55 = .ok (.aload 5, 2) := dk_25 5 (dk_at dksX0_read_2 9 rfl rfl)
theorem dX0_read_57 : decode cX0_read 57 = .ok (.instanceof 411, 3) := dk_193 1 155 (dk_at dksX0_read_2 11 rfl rfl)
theorem dX0_read_60 : decode cX0_read 60 = .ok (.ifCond .eq 16, 3) := dk_153 0 16 (dk_at dksX0_read_2 14 rfl rfl)
theorem dX0_read_63 : decode cX0_read 63 = .ok (.aload 5, 2) := dk_25 5 (dk_at dksX0_read_2 17 rfl rfl)
theorem dX0_read_65 : decode cX0_read 65 = .ok (.checkcast 411, 3) := dk_192 1 155 (dk_at dksX0_read_2 19 rfl rfl)
theorem dX0_read_68 : decode cX0_read 68 = .ok (.astore 4, 2) := dk_58 4 (dk_at dksX0_read_2 22 rfl rfl)
theorem dX0_read_70 : decode cX0_read 70 = .ok (.aload 4, 2) := dk_25 4 (dk_at dksX0_read_3 0 rfl rfl)
theorem dX0_read_72 : decode cX0_read 72 = .ok (.iload_n 2, 1) := dk_28 (dk_at dksX0_read_3 2 rfl rfl)
theorem dX0_read_73 : decode cX0_read 73 = .ok (.baload, 1) := dk_51 (dk_at dksX0_read_3 3 rfl rfl)
theorem dX0_read_74 : decode cX0_read 74 = .ok (.i2l, 1) := dk_133 (dk_at dksX0_read_3 4 rfl rfl)
theorem dX0_read_75 : decode cX0_read 75 = .ok (.lreturn, 1) := dk_173 (dk_at dksX0_read_3 5 rfl rfl)
theorem dX0_read_76 : decode cX0_read 76 = .ok (.aload_n 3, 1) := dk_45 (dk_at dksX0_read_3 6 rfl rfl)
theorem dX0_read_77 : decode cX0_read 77 = .ok (.getfield 353, 3) := dk_180 1 97 (dk_at dksX0_read_3 7 rfl rfl)
theorem dX0_read_80 : decode cX0_read 80 = .ok (.astore 5, 2) := dk_58 5 (dk_at dksX0_read_3 10 rfl rfl)
theorem dX0_read_82 : decode cX0_read 82 = .ok (.aload 5, 2) := dk_25 5 (dk_at dksX0_read_3 12 rfl rfl)
theorem dX0_read_84 : decode cX0_read 84 = .ok (.instanceof 357, 3) := dk_193 1 101 (dk_at dksX0_read_3 14 rfl rfl)
theorem dX0_read_87 : decode cX0_read 87 = .ok (.ifCond .eq 16, 3) := dk_153 0 16 (dk_at dksX0_read_3 17 rfl rfl)
theorem dX0_read_90 : decode cX0_read 90 = .ok (.aload 5, 2) := dk_25 5 (dk_at dksX0_read_3 20 rfl rfl)
theorem dX0_read_92 : decode cX0_read 92 = .ok (.checkcast 357, 3) := dk_192 1 101 (dk_at dksX0_read_4 0 rfl rfl)
theorem dX0_read_95 : decode cX0_read 95 = .ok (.astore 4, 2) := dk_58 4 (dk_at dksX0_read_4 3 rfl rfl)
theorem dX0_read_97 : decode cX0_read 97 = .ok (.aload 4, 2) := dk_25 4 (dk_at dksX0_read_4 5 rfl rfl)
theorem dX0_read_99 : decode cX0_read 99 = .ok (.iload_n 2, 1) := dk_28 (dk_at dksX0_read_4 7 rfl rfl)
theorem dX0_read_100 : decode cX0_read 100 = .ok (.saload, 1) := dk_53 (dk_at dksX0_read_4 8 rfl rfl)
theorem dX0_read_101 : decode cX0_read 101 = .ok (.i2l, 1) := dk_133 (dk_at dksX0_read_4 9 rfl rfl)
theorem dX0_read_102 : decode cX0_read 102 = .ok (.lreturn, 1) := dk_173 (dk_at dksX0_read_4 10 rfl rfl)
theorem dX0_read_103 : decode cX0_read 103 = .ok (.aload_n 3, 1) := dk_45 (dk_at dksX0_read_4 11 rfl rfl)
theorem dX0_read_104 : decode cX0_read 104 = .ok (.getfield 353, 3) := dk_180 1 97 (dk_at dksX0_read_4 12 rfl rfl)
theorem dX0_read_107 : decode cX0_read 107 = .ok (.astore 5, 2) := dk_58 5 (dk_at dksX0_read_4 15 rfl rfl)
theorem dX0_read_109 : decode cX0_read 109 = .ok (.aload 5, 2) := dk_25 5 (dk_at dksX0_read_4 17 rfl rfl)
theorem dX0_read_111 : decode cX0_read 111 = .ok (.instanceof 412, 3) := dk_193 1 156 (dk_at dksX0_read_4 19 rfl rfl)
theorem dX0_read_114 : decode cX0_read 114 = .ok (.ifCond .eq 16, 3) := dk_153 0 16 (dk_at dksX0_read_5 0 rfl rfl)
theorem dX0_read_117 : decode cX0_read 117 = .ok (.aload 5, 2) := dk_25 5 (dk_at dksX0_read_5 3 rfl rfl)
theorem dX0_read_119 : decode cX0_read 119 = .ok (.checkcast 412, 3) := dk_192 1 156 (dk_at dksX0_read_5 5 rfl rfl)
theorem dX0_read_122 : decode cX0_read 122 = .ok (.astore 4, 2) := dk_58 4 (dk_at dksX0_read_5 8 rfl rfl)
theorem dX0_read_124 : decode cX0_read 124 = .ok (.aload 4, 2) := dk_25 4 (dk_at dksX0_read_5 10 rfl rfl)
theorem dX0_read_126 : decode cX0_read 126 = .ok (.iload_n 2, 1) := dk_28 (dk_at dksX0_read_5 12 rfl rfl)
theorem dX0_read_127 : decode cX0_read 127 = .ok (.iaload, 1) := dk_46 (dk_at dksX0_read_5 13 rfl rfl)
theorem dX0_read_128 : decode cX0_read 128 = .ok (.i2l, 1) := dk_133 (dk_at dksX0_read_5 14 rfl rfl)
theorem dX0_read_129 : decode cX0_read 129 = .ok (.lreturn, 1) := dk_173 (dk_at dksX0_read_5 15 rfl rfl)
theorem dX0_read_130 : decode cX0_read 130 = .ok (.aload_n 3, 1) := dk_45 (dk_at dksX0_read_5 16 rfl rfl)
theorem dX0_read_131 : decode cX0_read 131 = .ok (.getfield 353, 3) := dk_180 1 97 (dk_at dksX0_read_5 17 rfl rfl)
theorem dX0_read_134 : decode cX0_read 134 = .ok (.astore 5, 2) := dk_58 5 (dk_at dksX0_read_5 20 rfl rfl)
theorem dX0_read_136 : decode cX0_read 136 = .ok (.aload 5, 2) := dk_25 5 (dk_at dksX0_read_5 22 rfl rfl)
theorem dX0_read_138 : decode cX0_read 138 = .ok (.instanceof 413, 3) := dk_193 1 157 (dk_at dksX0_read_6 0 rfl rfl)
theorem dX0_read_141 : decode cX0_read 141 = .ok (.ifCond .eq 17, 3) := dk_153 0 17 (dk_at dksX0_read_6 3 rfl rfl)
theorem dX0_read_144 : decode cX0_read 144 = .ok (.aload 5, 2) := dk_25 5 (dk_at dksX0_read_6 6 rfl rfl)
theorem dX0_read_146 : decode cX0_read 146 = .ok (.checkcast 413, 3) := dk_192 1 157 (dk_at dksX0_read_6 8 rfl rfl)
theorem dX0_read_149 : decode cX0_read 149 = .ok (.astore 4, 2) := dk_58 4 (dk_at dksX0_read_6 11 rfl rfl)
theorem dX0_read_151 : decode cX0_read 151 = .ok (.aload 4, 2) := dk_25 4 (dk_at dksX0_read_6 13 rfl rfl)
theorem dX0_read_153 : decode cX0_read 153 = .ok (.iload_n 2, 1) := dk_28 (dk_at dksX0_read_6 15 rfl rfl)
theorem dX0_read_154 : decode cX0_read 154 = .ok (.laload, 1) := dk_47 (dk_at dksX0_read_6 16 rfl rfl)
theorem dX0_read_155 : decode cX0_read 155 = .ok (.goto 20, 3) := dk_167 0 20 (dk_at dksX0_read_6 17 rfl rfl)
theorem dX0_read_158 : decode cX0_read 158 = .ok (.aload_n 3, 1) := dk_45 (dk_at dksX0_read_6 20 rfl rfl)
theorem dX0_read_159 : decode cX0_read 159 = .ok (.getfield 353, 3) := dk_180 1 97 (dk_at dksX0_read_6 21 rfl rfl)
theorem dX0_read_162 : decode cX0_read 162 = .ok (.checkcast 415, 3) := dk_192 1 159 (dk_at dksX0_read_7 0 rfl rfl)
theorem dX0_read_165 : decode cX0_read 165 = .ok (.iload_n 2, 1) := dk_28 (dk_at dksX0_read_7 3 rfl rfl)
theorem dX0_read_166 : decode cX0_read 166 = .ok (.baload, 1) := dk_51 (dk_at dksX0_read_7 4 rfl rfl)
theorem dX0_read_167 : decode cX0_read 167 = .ok (.ifCond .eq 7, 3) := dk_153 0 7 (dk_at dksX0_read_7 5 rfl rfl)
theorem dX0_read_170 : decode cX0_read 170 = .ok (.lconst 1, 1) := dk_10 (dk_at dksX0_read_7 8 rfl rfl)
theorem dX0_read_171 : decode cX0_read 171 = .ok (.goto 4, 3) := dk_167 0 4 (dk_at dksX0_read_7 9 rfl rfl)
theorem dX0_read_174 : decode cX0_read 174 = .ok (.lconst 0, 1) := dk_9 (dk_at dksX0_read_7 12 rfl rfl)
theorem dX0_read_175 : decode cX0_read 175 = .ok (.lreturn, 1) := dk_173 (dk_at dksX0_read_7 13 rfl rfl)
abbrev cX0_shift : ByteArray := prog_1_method_64_code
def yX0_shift : MethodName := ⟨RX0, "shift", "(IIIII)I"⟩
def dkwX0_shift_2 : List UInt8 := [58, 6, 16, 245, 172, 58, 6, 16, 244, 172, 58, 6, 16, 243, 172]
abbrev dktX0_shift_2 : List UInt8 := dkwX0_shift_2 ++ []
def dkwX0_shift_1 : List UInt8 := [180, 1, 97, 28, 42, 180, 0, 80, 29, 50, 180, 1, 97, 21, 4, 21, 5, 184, 1, 109, 21, 5, 172]
abbrev dktX0_shift_1 : List UInt8 := dkwX0_shift_1 ++ dktX0_shift_2
def dkwX0_shift_0 : List UInt8 := [27, 184, 1, 94, 153, 0, 10, 29, 184, 1, 94, 154, 0, 5, 2, 172, 42, 180, 0, 80, 27, 50]
abbrev dktX0_shift_0 : List UInt8 := dkwX0_shift_0 ++ dktX0_shift_1
theorem dksX0_shift_0 : cX0_shift.data.toList.drop 0 = dktX0_shift_0 := by decide +kernel
theorem dksX0_shift_1 : cX0_shift.data.toList.drop 22 = dktX0_shift_1 := dk_seg dksX0_shift_0 22 rfl rfl
theorem dksX0_shift_2 : cX0_shift.data.toList.drop 45 = dktX0_shift_2 := dk_seg dksX0_shift_1 23 rfl rfl
theorem dX0_shift_0 : decode cX0_shift 0 = .ok (.iload_n 1, 1) := dk_27 (dk_at dksX0_shift_0 0 rfl rfl)
theorem dX0_shift_1 : decode cX0_shift 1 = .ok (.invokestatic 350, 3) := dk_184 1 94 (dk_at dksX0_shift_0 1 rfl rfl)
theorem dX0_shift_4 : decode cX0_shift 4 = .ok (.ifCond .eq 10, 3) := dk_153 0 10 (dk_at dksX0_shift_0 4 rfl rfl)
theorem dX0_shift_7 : decode cX0_shift 7 = .ok (.iload_n 3, 1) := dk_29 (dk_at dksX0_shift_0 7 rfl rfl)
theorem dX0_shift_8 : decode cX0_shift 8 = .ok (.invokestatic 350, 3) := dk_184 1 94 (dk_at dksX0_shift_0 8 rfl rfl)
theorem dX0_shift_11 : decode cX0_shift 11 = .ok (.ifCond .ne 5, 3) := dk_154 0 5 (dk_at dksX0_shift_0 11 rfl rfl)
theorem dX0_shift_14 : decode cX0_shift 14 = .ok (.iconst (-1), 1) := dk_2 (dk_at dksX0_shift_0 14 rfl rfl)
theorem dX0_shift_15 : decode cX0_shift 15 = .ok (.ireturn, 1) := dk_172 (dk_at dksX0_shift_0 15 rfl rfl)
theorem dX0_shift_16 : decode cX0_shift 16 = .ok (.aload_n 0, 1) := dk_42 (dk_at dksX0_shift_0 16 rfl rfl)
theorem dX0_shift_17 : decode cX0_shift 17 = .ok (.getfield 80, 3) := dk_180 0 80 (dk_at dksX0_shift_0 17 rfl rfl)
theorem dX0_shift_20 : decode cX0_shift 20 = .ok (.iload_n 1, 1) := dk_27 (dk_at dksX0_shift_0 20 rfl rfl)
theorem dX0_shift_21 : decode cX0_shift 21 = .ok (.aaload, 1) := dk_50 (dk_at dksX0_shift_0 21 rfl rfl)
theorem dX0_shift_22 : decode cX0_shift 22 = .ok (.getfield 353, 3) := dk_180 1 97 (dk_at dksX0_shift_1 0 rfl rfl)
theorem dX0_shift_25 : decode cX0_shift 25 = .ok (.iload_n 2, 1) := dk_28 (dk_at dksX0_shift_1 3 rfl rfl)
theorem dX0_shift_26 : decode cX0_shift 26 = .ok (.aload_n 0, 1) := dk_42 (dk_at dksX0_shift_1 4 rfl rfl)
theorem dX0_shift_27 : decode cX0_shift 27 = .ok (.getfield 80, 3) := dk_180 0 80 (dk_at dksX0_shift_1 5 rfl rfl)
theorem dX0_shift_30 : decode cX0_shift 30 = .ok (.iload_n 3, 1) := dk_29 (dk_at dksX0_shift_1 8 rfl rfl)
theorem dX0_shift_31 : decode cX0_shift 31 = .ok (.aaload, 1) := dk_50 (dk_at dksX0_shift_1 9 rfl rfl)
theorem dX0_shift_32 : decode cX0_shift 32 = .ok (.getfield 353, 3) := dk_180 1 97 (dk_at dksX0_shift_1 10 rfl rfl)
theorem dX0_shift_35 : decode cX0_shift 35 = .ok (.iload 4, 2) := dk_21 4 (dk_at dksX0_shift_1 13 rfl rfl)
theorem dX0_shift_37 : decode cX0_shift 37 = .ok (.iload 5, 2) := dk_21 5 (dk_at dksX0_shift_1 15 rfl rfl)
theorem dX0_shift_39 : decode cX0_shift 39 = .ok (.invokestatic 365, 3) := dk_184 1 109 (dk_at dksX0_shift_1 17 rfl rfl)
theorem dX0_shift_42 : decode cX0_shift 42 = .ok (.iload 5, 2) := dk_21 5 (dk_at dksX0_shift_1 20 rfl rfl)
theorem dX0_shift_44 : decode cX0_shift 44 = .ok (.ireturn, 1) := dk_172 (dk_at dksX0_shift_1 22 rfl rfl)
theorem dX0_shift_45 : decode cX0_shift 45 = .ok (.astore 6, 2) := dk_58 6 (dk_at dksX0_shift_2 0 rfl rfl)
theorem dX0_shift_47 : decode cX0_shift 47 = .ok (.bipush (-11), 2) := dk_16 245 (dk_at dksX0_shift_2 2 rfl rfl)
theorem dX0_shift_49 : decode cX0_shift 49 = .ok (.ireturn, 1) := dk_172 (dk_at dksX0_shift_2 4 rfl rfl)
theorem dX0_shift_50 : decode cX0_shift 50 = .ok (.astore 6, 2) := dk_58 6 (dk_at dksX0_shift_2 5 rfl rfl)
theorem dX0_shift_52 : decode cX0_shift 52 = .ok (.bipush (-12), 2) := dk_16 244 (dk_at dksX0_shift_2 7 rfl rfl)
theorem dX0_shift_54 : decode cX0_shift 54 = .ok (.ireturn, 1) := dk_172 (dk_at dksX0_shift_2 9 rfl rfl)
theorem dX0_shift_55 : decode cX0_shift 55 = .ok (.astore 6, 2) := dk_58 6 (dk_at dksX0_shift_2 10 rfl rfl)
theorem dX0_shift_57 : decode cX0_shift 57 = .ok (.bipush (-13), 2) := dk_16 243 (dk_at dksX0_shift_2 12 rfl rfl)
theorem dX0_shift_59 : decode cX0_shift 59 = .ok (.ireturn, 1) := dk_172 (dk_at dksX0_shift_2 14 rfl rfl)
theorem q72 : (Jvm.Cond.initialized "FuneralDebts") ∈ lw_all := lw_g (lw_at lw_m1 1 rfl) rfl
theorem q116 : (Jvm.Cond.instantiable "FuneralDebts" (34 : Nat)) ∈ lw_all := lw_g (lw_at lw_m1 45 rfl) rfl
theorem q118 : (Jvm.Cond.instanceMethod ({ cls := "FuneralDebts", name := "<init>", desc := "()V" } : Jvm.MethodName)) ∈ lw_all := lw_g (lw_at lw_m1 47 rfl) rfl
theorem q119 : (Jvm.Cond.code ({ cls := "FuneralDebts", name := "<init>", desc := "()V" } : Jvm.MethodName) prog_1_method_6_code (2 : Nat) (Option.none : Option Jvm.ClassFile.FieldType)) ∈ lw_all := lw_g (lw_at lw_m1 48 rfl) rfl
theorem q120 : (Jvm.Cond.methodLink "FuneralDebts" (9 : Nat) ({ cls := "java/lang/Object", name := "<init>", desc := "()V" } : Jvm.MethodName)) ∈ lw_all := lw_g (lw_at lw_m1 49 rfl) rfl
theorem q123 : (Jvm.Cond.classLink "FuneralDebts" (15 : Nat) "FuneralDebts$Mourner") ∈ lw_all := lw_g (lw_at lw_m1 52 rfl) rfl
theorem q125 : (Jvm.Cond.classLink "FuneralDebts" (25 : Nat) "FuneralDebts$Time") ∈ lw_all := lw_g (lw_at lw_m1 54 rfl) rfl
theorem q127 : (Jvm.Cond.methodLinkNest "FuneralDebts" (27 : Nat) ({ cls := "FuneralDebts$Time", name := "<init>", desc := "()V" } : Jvm.MethodName) "FuneralDebts") ∈ lw_tbl := lw_at lw_m1 56 rfl
theorem q132 : (Jvm.Cond.fieldLinkNest "FuneralDebts" (150 : Nat) "FuneralDebts$Time" "loves" "[B" "FuneralDebts") ∈ lw_tbl := lw_at lw_m1 61 rfl
theorem q134 : (Jvm.Cond.fieldLinkNest "FuneralDebts" (153 : Nat) "FuneralDebts$Time" "spots" "[B" "FuneralDebts") ∈ lw_tbl := lw_at lw_m1 63 rfl
theorem q136 : (Jvm.Cond.fieldLinkNest "FuneralDebts" (156 : Nat) "FuneralDebts$Time" "sums" "[I" "FuneralDebts") ∈ lw_tbl := lw_at lw_m1 65 rfl
theorem q138 : (Jvm.Cond.fieldLinkNest "FuneralDebts" (115 : Nat) "FuneralDebts$Time" "many" "I" "FuneralDebts") ∈ lw_tbl := lw_at lw_m1 67 rfl
theorem q140 : (Jvm.Cond.fieldLinkNest "FuneralDebts" (159 : Nat) "FuneralDebts$Time" "gone" "I" "FuneralDebts") ∈ lw_tbl := lw_at lw_m1 69 rfl
theorem q142 : (Jvm.Cond.fieldLinkNest "FuneralDebts" (213 : Nat) "FuneralDebts$Time" "owed" "I" "FuneralDebts") ∈ lw_tbl := lw_at lw_m1 71 rfl
theorem q144 : (Jvm.Cond.fieldLinkNest "FuneralDebts" (181 : Nat) "FuneralDebts$Time" "day" "I" "FuneralDebts") ∈ lw_tbl := lw_at lw_m1 73 rfl
theorem q162 : (Jvm.Cond.classLink "FuneralDebts" (39 : Nat) "FuneralDebts$Parish") ∈ lw_all := lw_g (lw_at lw_m1 91 rfl) rfl
theorem q164 : (Jvm.Cond.methodLinkNest "FuneralDebts" (41 : Nat) ({ cls := "FuneralDebts$Parish", name := "<init>", desc := "()V" } : Jvm.MethodName) "FuneralDebts") ∈ lw_tbl := lw_at lw_m1 93 rfl
theorem q199 : (Jvm.Cond.fieldLinkNest "FuneralDebts" (294 : Nat) "FuneralDebts$Parish" "fall" "I" "FuneralDebts") ∈ lw_tbl := lw_at lw_m1 128 rfl
theorem q207 : (Jvm.Cond.classLink "FuneralDebts" (46 : Nat) "FuneralDebts$Look") ∈ lw_all := lw_g (lw_at lw_m1 136 rfl) rfl
theorem q209 : (Jvm.Cond.methodLinkNest "FuneralDebts" (48 : Nat) ({ cls := "FuneralDebts$Look", name := "<init>", desc := "()V" } : Jvm.MethodName) "FuneralDebts") ∈ lw_tbl := lw_at lw_m1 138 rfl
theorem q214 : (Jvm.Cond.fieldLinkNest "FuneralDebts" (162 : Nat) "FuneralDebts$Look" "mourner" "I" "FuneralDebts") ∈ lw_tbl := lw_at lw_m1 143 rfl
theorem q216 : (Jvm.Cond.fieldLinkNest "FuneralDebts" (169 : Nat) "FuneralDebts$Look" "kind" "I" "FuneralDebts") ∈ lw_tbl := lw_at lw_m1 145 rfl
theorem q218 : (Jvm.Cond.fieldLinkNest "FuneralDebts" (174 : Nat) "FuneralDebts$Look" "v" "I" "FuneralDebts") ∈ lw_tbl := lw_at lw_m1 147 rfl
theorem q220 : (Jvm.Cond.fieldLinkNest "FuneralDebts" (175 : Nat) "FuneralDebts$Look" "dear" "I" "FuneralDebts") ∈ lw_tbl := lw_at lw_m1 149 rfl
theorem q223 : (Jvm.Cond.fieldLinkNest "FuneralDebts" (178 : Nat) "FuneralDebts$Look" "yard" "I" "FuneralDebts") ∈ lw_tbl := lw_at lw_m1 152 rfl
theorem q225 : (Jvm.Cond.fieldLinkNest "FuneralDebts" (184 : Nat) "FuneralDebts$Look" "day" "I" "FuneralDebts") ∈ lw_tbl := lw_at lw_m1 154 rfl
theorem q239 : (Jvm.Cond.classLink "FuneralDebts" (53 : Nat) "FuneralDebts$Trace") ∈ lw_all := lw_g (lw_at lw_m1 168 rfl) rfl
theorem q241 : (Jvm.Cond.methodLinkNest "FuneralDebts" (55 : Nat) ({ cls := "FuneralDebts$Trace", name := "<init>", desc := "()V" } : Jvm.MethodName) "FuneralDebts") ∈ lw_tbl := lw_at lw_m1 170 rfl
theorem q246 : (Jvm.Cond.fieldLinkNest "FuneralDebts" (395 : Nat) "FuneralDebts$Trace" "bodies" "[I" "FuneralDebts") ∈ lw_tbl := lw_at lw_m1 175 rfl
theorem q248 : (Jvm.Cond.fieldLinkNest "FuneralDebts" (383 : Nat) "FuneralDebts$Trace" "count" "I" "FuneralDebts") ∈ lw_tbl := lw_at lw_m1 177 rfl
theorem q254 : (Jvm.Cond.classLink "FuneralDebts" (78 : Nat) "FuneralDebts$Tape") ∈ lw_all := lw_g (lw_at lw_m1 183 rfl) rfl
theorem q257 : (Jvm.Cond.methodLinkNest "FuneralDebts" (114 : Nat) ({ cls := "FuneralDebts$Tape", name := "<init>", desc := "()V" } : Jvm.MethodName) "FuneralDebts") ∈ lw_tbl := lw_at lw_m1 186 rfl
theorem q262 : (Jvm.Cond.fieldLinkNest "FuneralDebts" (353 : Nat) "FuneralDebts$Tape" "row" "Ljava/lang/Object;" "FuneralDebts") ∈ lw_tbl := lw_at lw_m1 191 rfl
theorem q266 : (Jvm.Cond.fieldLink "FuneralDebts" (17 : Nat) "FuneralDebts" "mourners" "[LFuneralDebts$Mourner;") ∈ lw_all := lw_g (lw_at lw_m1 195 rfl) rfl
theorem q267 : (Jvm.Cond.fieldLink "FuneralDebts" (21 : Nat) "FuneralDebts" "rows" "[I") ∈ lw_all := lw_g (lw_at lw_m1 196 rfl) rfl
theorem q268 : (Jvm.Cond.fieldLink "FuneralDebts" (28 : Nat) "FuneralDebts" "now" "LFuneralDebts$Time;") ∈ lw_all := lw_g (lw_at lw_m1 197 rfl) rfl
theorem q269 : (Jvm.Cond.fieldLink "FuneralDebts" (32 : Nat) "FuneralDebts" "tried" "LFuneralDebts$Time;") ∈ lw_all := lw_g (lw_at lw_m1 198 rfl) rfl
theorem q270 : (Jvm.Cond.fieldLink "FuneralDebts" (35 : Nat) "FuneralDebts" "text" "[B") ∈ lw_all := lw_g (lw_at lw_m1 199 rfl) rfl
theorem q271 : (Jvm.Cond.fieldLink "FuneralDebts" (274 : Nat) "FuneralDebts" "texted" "I") ∈ lw_all := lw_g (lw_at lw_m1 200 rfl) rfl
theorem q272 : (Jvm.Cond.fieldLink "FuneralDebts" (277 : Nat) "FuneralDebts" "parishMany" "I") ∈ lw_all := lw_g (lw_at lw_m1 201 rfl) rfl
theorem q273 : (Jvm.Cond.fieldLink "FuneralDebts" (42 : Nat) "FuneralDebts" "held" "LFuneralDebts$Parish;") ∈ lw_all := lw_g (lw_at lw_m1 202 rfl) rfl
theorem q274 : (Jvm.Cond.fieldLink "FuneralDebts" (49 : Nat) "FuneralDebts" "look" "LFuneralDebts$Look;") ∈ lw_all := lw_g (lw_at lw_m1 203 rfl) rfl
theorem q275 : (Jvm.Cond.fieldLink "FuneralDebts" (56 : Nat) "FuneralDebts" "trace" "LFuneralDebts$Trace;") ∈ lw_all := lw_g (lw_at lw_m1 204 rfl) rfl
theorem q276 : (Jvm.Cond.fieldLink "FuneralDebts" (60 : Nat) "FuneralDebts" "seenMourners" "[I") ∈ lw_all := lw_g (lw_at lw_m1 205 rfl) rfl
theorem q277 : (Jvm.Cond.fieldLink "FuneralDebts" (63 : Nat) "FuneralDebts" "seenShares" "[I") ∈ lw_all := lw_g (lw_at lw_m1 206 rfl) rfl
theorem q278 : (Jvm.Cond.fieldLink "FuneralDebts" (66 : Nat) "FuneralDebts" "planWhat" "[I") ∈ lw_all := lw_g (lw_at lw_m1 207 rfl) rfl
theorem q279 : (Jvm.Cond.fieldLink "FuneralDebts" (69 : Nat) "FuneralDebts" "planMourners" "[I") ∈ lw_all := lw_g (lw_at lw_m1 208 rfl) rfl
theorem q280 : (Jvm.Cond.fieldLink "FuneralDebts" (72 : Nat) "FuneralDebts" "bookMourners" "[I") ∈ lw_all := lw_g (lw_at lw_m1 209 rfl) rfl
theorem q281 : (Jvm.Cond.fieldLink "FuneralDebts" (75 : Nat) "FuneralDebts" "bookYards" "[I") ∈ lw_all := lw_g (lw_at lw_m1 210 rfl) rfl
theorem q282 : (Jvm.Cond.fieldLink "FuneralDebts" (313 : Nat) "FuneralDebts" "seenMany" "I") ∈ lw_all := lw_g (lw_at lw_m1 211 rfl) rfl
theorem q283 : (Jvm.Cond.fieldLink "FuneralDebts" (330 : Nat) "FuneralDebts" "planMany" "I") ∈ lw_all := lw_g (lw_at lw_m1 212 rfl) rfl
theorem q284 : (Jvm.Cond.fieldLink "FuneralDebts" (343 : Nat) "FuneralDebts" "bookMany" "I") ∈ lw_all := lw_g (lw_at lw_m1 213 rfl) rfl
theorem q285 : (Jvm.Cond.fieldLink "FuneralDebts" (80 : Nat) "FuneralDebts" "tapes" "[LFuneralDebts$Tape;") ∈ lw_all := lw_g (lw_at lw_m1 214 rfl) rfl
theorem q286 : (Jvm.Cond.fieldLink "FuneralDebts" (84 : Nat) "FuneralDebts" "rates" "[I") ∈ lw_all := lw_g (lw_at lw_m1 215 rfl) rfl
theorem q287 : (Jvm.Cond.fieldLink "FuneralDebts" (87 : Nat) "FuneralDebts" "imageNow" "LFuneralDebts$Time;") ∈ lw_all := lw_g (lw_at lw_m1 216 rfl) rfl
theorem q288 : (Jvm.Cond.fieldLink "FuneralDebts" (90 : Nat) "FuneralDebts" "imageMourners" "[LFuneralDebts$Mourner;") ∈ lw_all := lw_g (lw_at lw_m1 217 rfl) rfl
theorem q289 : (Jvm.Cond.fieldLink "FuneralDebts" (93 : Nat) "FuneralDebts" "imageRows" "[I") ∈ lw_all := lw_g (lw_at lw_m1 218 rfl) rfl
theorem q290 : (Jvm.Cond.fieldLink "FuneralDebts" (96 : Nat) "FuneralDebts" "imageSeenMourners" "[I") ∈ lw_all := lw_g (lw_at lw_m1 219 rfl) rfl
theorem q291 : (Jvm.Cond.fieldLink "FuneralDebts" (99 : Nat) "FuneralDebts" "imageSeenShares" "[I") ∈ lw_all := lw_g (lw_at lw_m1 220 rfl) rfl
theorem q292 : (Jvm.Cond.fieldLink "FuneralDebts" (102 : Nat) "FuneralDebts" "imagePlanWhat" "[I") ∈ lw_all := lw_g (lw_at lw_m1 221 rfl) rfl
theorem q293 : (Jvm.Cond.fieldLink "FuneralDebts" (105 : Nat) "FuneralDebts" "imagePlanMourners" "[I") ∈ lw_all := lw_g (lw_at lw_m1 222 rfl) rfl
theorem q294 : (Jvm.Cond.fieldLink "FuneralDebts" (108 : Nat) "FuneralDebts" "imageBookMourners" "[I") ∈ lw_all := lw_g (lw_at lw_m1 223 rfl) rfl
theorem q295 : (Jvm.Cond.fieldLink "FuneralDebts" (111 : Nat) "FuneralDebts" "imageBookYards" "[I") ∈ lw_all := lw_g (lw_at lw_m1 224 rfl) rfl
theorem q296 : (Jvm.Cond.fieldLink "FuneralDebts" (371 : Nat) "FuneralDebts" "imageSeen" "I") ∈ lw_all := lw_g (lw_at lw_m1 225 rfl) rfl
theorem q297 : (Jvm.Cond.fieldLink "FuneralDebts" (374 : Nat) "FuneralDebts" "imagePlanned" "I") ∈ lw_all := lw_g (lw_at lw_m1 226 rfl) rfl
theorem q298 : (Jvm.Cond.fieldLink "FuneralDebts" (377 : Nat) "FuneralDebts" "imageBooked" "I") ∈ lw_all := lw_g (lw_at lw_m1 227 rfl) rfl
theorem q299 : (Jvm.Cond.fieldLink "FuneralDebts" (380 : Nat) "FuneralDebts" "imageHeld" "LFuneralDebts$Parish;") ∈ lw_all := lw_g (lw_at lw_m1 228 rfl) rfl
theorem q300 : (Jvm.Cond.laysFinal "FuneralDebts" "FuneralDebts" "mourners" "[LFuneralDebts$Mourner;") ∈ lw_all := lw_g (lw_at lw_m1 229 rfl) rfl
theorem q301 : (Jvm.Cond.soleField "FuneralDebts" "mourners") ∈ lw_all := lw_g (lw_at lw_m1 230 rfl) rfl
theorem q302 : (Jvm.Cond.laysFinal "FuneralDebts" "FuneralDebts" "rows" "[I") ∈ lw_all := lw_g (lw_at lw_m1 231 rfl) rfl
theorem q303 : (Jvm.Cond.soleField "FuneralDebts" "rows") ∈ lw_all := lw_g (lw_at lw_m1 232 rfl) rfl
theorem q304 : (Jvm.Cond.laysFinal "FuneralDebts" "FuneralDebts" "now" "LFuneralDebts$Time;") ∈ lw_all := lw_g (lw_at lw_m1 233 rfl) rfl
theorem q305 : (Jvm.Cond.soleField "FuneralDebts" "now") ∈ lw_all := lw_g (lw_at lw_m1 234 rfl) rfl
theorem q306 : (Jvm.Cond.laysFinal "FuneralDebts" "FuneralDebts" "tried" "LFuneralDebts$Time;") ∈ lw_all := lw_g (lw_at lw_m1 235 rfl) rfl
theorem q307 : (Jvm.Cond.soleField "FuneralDebts" "tried") ∈ lw_all := lw_g (lw_at lw_m1 236 rfl) rfl
theorem q308 : (Jvm.Cond.laysFinal "FuneralDebts" "FuneralDebts" "text" "[B") ∈ lw_all := lw_g (lw_at lw_m1 237 rfl) rfl
theorem q309 : (Jvm.Cond.soleField "FuneralDebts" "text") ∈ lw_all := lw_g (lw_at lw_m1 238 rfl) rfl
theorem q310 : (Jvm.Cond.lays "FuneralDebts" "FuneralDebts" "texted" "I") ∈ lw_all := lw_g (lw_at lw_m1 239 rfl) rfl
theorem q311 : (Jvm.Cond.soleField "FuneralDebts" "texted") ∈ lw_all := lw_g (lw_at lw_m2 0 rfl) rfl
theorem q312 : (Jvm.Cond.lays "FuneralDebts" "FuneralDebts" "parishMany" "I") ∈ lw_all := lw_g (lw_at lw_m2 1 rfl) rfl
theorem q313 : (Jvm.Cond.soleField "FuneralDebts" "parishMany") ∈ lw_all := lw_g (lw_at lw_m2 2 rfl) rfl
theorem q314 : (Jvm.Cond.lays "FuneralDebts" "FuneralDebts" "held" "LFuneralDebts$Parish;") ∈ lw_all := lw_g (lw_at lw_m2 3 rfl) rfl
theorem q315 : (Jvm.Cond.soleField "FuneralDebts" "held") ∈ lw_all := lw_g (lw_at lw_m2 4 rfl) rfl
theorem q316 : (Jvm.Cond.laysFinal "FuneralDebts" "FuneralDebts" "look" "LFuneralDebts$Look;") ∈ lw_all := lw_g (lw_at lw_m2 5 rfl) rfl
theorem q317 : (Jvm.Cond.soleField "FuneralDebts" "look") ∈ lw_all := lw_g (lw_at lw_m2 6 rfl) rfl
theorem q318 : (Jvm.Cond.laysFinal "FuneralDebts" "FuneralDebts" "trace" "LFuneralDebts$Trace;") ∈ lw_all := lw_g (lw_at lw_m2 7 rfl) rfl
theorem q319 : (Jvm.Cond.soleField "FuneralDebts" "trace") ∈ lw_all := lw_g (lw_at lw_m2 8 rfl) rfl
theorem q320 : (Jvm.Cond.laysFinal "FuneralDebts" "FuneralDebts" "seenMourners" "[I") ∈ lw_all := lw_g (lw_at lw_m2 9 rfl) rfl
theorem q321 : (Jvm.Cond.soleField "FuneralDebts" "seenMourners") ∈ lw_all := lw_g (lw_at lw_m2 10 rfl) rfl
theorem q322 : (Jvm.Cond.laysFinal "FuneralDebts" "FuneralDebts" "seenShares" "[I") ∈ lw_all := lw_g (lw_at lw_m2 11 rfl) rfl
theorem q323 : (Jvm.Cond.soleField "FuneralDebts" "seenShares") ∈ lw_all := lw_g (lw_at lw_m2 12 rfl) rfl
theorem q324 : (Jvm.Cond.laysFinal "FuneralDebts" "FuneralDebts" "planWhat" "[I") ∈ lw_all := lw_g (lw_at lw_m2 13 rfl) rfl
theorem q325 : (Jvm.Cond.soleField "FuneralDebts" "planWhat") ∈ lw_all := lw_g (lw_at lw_m2 14 rfl) rfl
theorem q326 : (Jvm.Cond.laysFinal "FuneralDebts" "FuneralDebts" "planMourners" "[I") ∈ lw_all := lw_g (lw_at lw_m2 15 rfl) rfl
theorem q327 : (Jvm.Cond.soleField "FuneralDebts" "planMourners") ∈ lw_all := lw_g (lw_at lw_m2 16 rfl) rfl
theorem q328 : (Jvm.Cond.laysFinal "FuneralDebts" "FuneralDebts" "bookMourners" "[I") ∈ lw_all := lw_g (lw_at lw_m2 17 rfl) rfl
theorem q329 : (Jvm.Cond.soleField "FuneralDebts" "bookMourners") ∈ lw_all := lw_g (lw_at lw_m2 18 rfl) rfl
theorem q330 : (Jvm.Cond.laysFinal "FuneralDebts" "FuneralDebts" "bookYards" "[I") ∈ lw_all := lw_g (lw_at lw_m2 19 rfl) rfl
theorem q331 : (Jvm.Cond.soleField "FuneralDebts" "bookYards") ∈ lw_all := lw_g (lw_at lw_m2 20 rfl) rfl
theorem q332 : (Jvm.Cond.lays "FuneralDebts" "FuneralDebts" "seenMany" "I") ∈ lw_all := lw_g (lw_at lw_m2 21 rfl) rfl
theorem q333 : (Jvm.Cond.soleField "FuneralDebts" "seenMany") ∈ lw_all := lw_g (lw_at lw_m2 22 rfl) rfl
theorem q334 : (Jvm.Cond.lays "FuneralDebts" "FuneralDebts" "planMany" "I") ∈ lw_all := lw_g (lw_at lw_m2 23 rfl) rfl
theorem q335 : (Jvm.Cond.soleField "FuneralDebts" "planMany") ∈ lw_all := lw_g (lw_at lw_m2 24 rfl) rfl
theorem q336 : (Jvm.Cond.lays "FuneralDebts" "FuneralDebts" "bookMany" "I") ∈ lw_all := lw_g (lw_at lw_m2 25 rfl) rfl
theorem q337 : (Jvm.Cond.soleField "FuneralDebts" "bookMany") ∈ lw_all := lw_g (lw_at lw_m2 26 rfl) rfl
theorem q338 : (Jvm.Cond.laysFinal "FuneralDebts" "FuneralDebts" "tapes" "[LFuneralDebts$Tape;") ∈ lw_all := lw_g (lw_at lw_m2 27 rfl) rfl
theorem q339 : (Jvm.Cond.soleField "FuneralDebts" "tapes") ∈ lw_all := lw_g (lw_at lw_m2 28 rfl) rfl
theorem q340 : (Jvm.Cond.laysFinal "FuneralDebts" "FuneralDebts" "rates" "[I") ∈ lw_all := lw_g (lw_at lw_m2 29 rfl) rfl
theorem q341 : (Jvm.Cond.soleField "FuneralDebts" "rates") ∈ lw_all := lw_g (lw_at lw_m2 30 rfl) rfl
theorem q342 : (Jvm.Cond.laysFinal "FuneralDebts" "FuneralDebts" "imageNow" "LFuneralDebts$Time;") ∈ lw_all := lw_g (lw_at lw_m2 31 rfl) rfl
theorem q343 : (Jvm.Cond.soleField "FuneralDebts" "imageNow") ∈ lw_all := lw_g (lw_at lw_m2 32 rfl) rfl
theorem q344 : (Jvm.Cond.laysFinal "FuneralDebts" "FuneralDebts" "imageMourners" "[LFuneralDebts$Mourner;") ∈ lw_all := lw_g (lw_at lw_m2 33 rfl) rfl
theorem q345 : (Jvm.Cond.soleField "FuneralDebts" "imageMourners") ∈ lw_all := lw_g (lw_at lw_m2 34 rfl) rfl
theorem q346 : (Jvm.Cond.laysFinal "FuneralDebts" "FuneralDebts" "imageRows" "[I") ∈ lw_all := lw_g (lw_at lw_m2 35 rfl) rfl
theorem q347 : (Jvm.Cond.soleField "FuneralDebts" "imageRows") ∈ lw_all := lw_g (lw_at lw_m2 36 rfl) rfl
theorem q348 : (Jvm.Cond.laysFinal "FuneralDebts" "FuneralDebts" "imageSeenMourners" "[I") ∈ lw_all := lw_g (lw_at lw_m2 37 rfl) rfl
theorem q349 : (Jvm.Cond.soleField "FuneralDebts" "imageSeenMourners") ∈ lw_all := lw_g (lw_at lw_m2 38 rfl) rfl
theorem q350 : (Jvm.Cond.laysFinal "FuneralDebts" "FuneralDebts" "imageSeenShares" "[I") ∈ lw_all := lw_g (lw_at lw_m2 39 rfl) rfl
theorem q351 : (Jvm.Cond.soleField "FuneralDebts" "imageSeenShares") ∈ lw_all := lw_g (lw_at lw_m2 40 rfl) rfl
theorem q352 : (Jvm.Cond.laysFinal "FuneralDebts" "FuneralDebts" "imagePlanWhat" "[I") ∈ lw_all := lw_g (lw_at lw_m2 41 rfl) rfl
theorem q353 : (Jvm.Cond.soleField "FuneralDebts" "imagePlanWhat") ∈ lw_all := lw_g (lw_at lw_m2 42 rfl) rfl
theorem q354 : (Jvm.Cond.laysFinal "FuneralDebts" "FuneralDebts" "imagePlanMourners" "[I") ∈ lw_all := lw_g (lw_at lw_m2 43 rfl) rfl
theorem q355 : (Jvm.Cond.soleField "FuneralDebts" "imagePlanMourners") ∈ lw_all := lw_g (lw_at lw_m2 44 rfl) rfl
theorem q356 : (Jvm.Cond.laysFinal "FuneralDebts" "FuneralDebts" "imageBookMourners" "[I") ∈ lw_all := lw_g (lw_at lw_m2 45 rfl) rfl
theorem q357 : (Jvm.Cond.soleField "FuneralDebts" "imageBookMourners") ∈ lw_all := lw_g (lw_at lw_m2 46 rfl) rfl
theorem q358 : (Jvm.Cond.laysFinal "FuneralDebts" "FuneralDebts" "imageBookYards" "[I") ∈ lw_all := lw_g (lw_at lw_m2 47 rfl) rfl
theorem q359 : (Jvm.Cond.soleField "FuneralDebts" "imageBookYards") ∈ lw_all := lw_g (lw_at lw_m2 48 rfl) rfl
theorem q360 : (Jvm.Cond.lays "FuneralDebts" "FuneralDebts" "imageSeen" "I") ∈ lw_all := lw_g (lw_at lw_m2 49 rfl) rfl
theorem q361 : (Jvm.Cond.soleField "FuneralDebts" "imageSeen") ∈ lw_all := lw_g (lw_at lw_m2 50 rfl) rfl
theorem q362 : (Jvm.Cond.lays "FuneralDebts" "FuneralDebts" "imagePlanned" "I") ∈ lw_all := lw_g (lw_at lw_m2 51 rfl) rfl
theorem q363 : (Jvm.Cond.soleField "FuneralDebts" "imagePlanned") ∈ lw_all := lw_g (lw_at lw_m2 52 rfl) rfl
theorem q364 : (Jvm.Cond.lays "FuneralDebts" "FuneralDebts" "imageBooked" "I") ∈ lw_all := lw_g (lw_at lw_m2 53 rfl) rfl
theorem q365 : (Jvm.Cond.soleField "FuneralDebts" "imageBooked") ∈ lw_all := lw_g (lw_at lw_m2 54 rfl) rfl
theorem q366 : (Jvm.Cond.lays "FuneralDebts" "FuneralDebts" "imageHeld" "LFuneralDebts$Parish;") ∈ lw_all := lw_g (lw_at lw_m2 55 rfl) rfl
theorem q367 : (Jvm.Cond.soleField "FuneralDebts" "imageHeld") ∈ lw_all := lw_g (lw_at lw_m2 56 rfl) rfl
theorem q368 : (Jvm.Cond.superclass "FuneralDebts" "java/lang/Object") ∈ lw_all := lw_g (lw_at lw_m2 57 rfl) rfl
theorem q370 : (Jvm.Cond.instanceMethod ({ cls := "FuneralDebts", name := "mourner", desc := "(IIII)I" } : Jvm.MethodName)) ∈ lw_all := lw_g (lw_at lw_m2 59 rfl) rfl
theorem q371 : (Jvm.Cond.selects "FuneralDebts" ({ cls := "FuneralDebts", name := "mourner", desc := "(IIII)I" } : Jvm.MethodName) ({ cls := "FuneralDebts", name := "mourner", desc := "(IIII)I" } : Jvm.MethodName)) ∈ lw_all := lw_g (lw_at lw_m2 60 rfl) rfl
theorem q372 : (Jvm.Cond.code ({ cls := "FuneralDebts", name := "mourner", desc := "(IIII)I" } : Jvm.MethodName) prog_1_method_9_code (7 : Nat) (Option.some Jvm.ClassFile.FieldType.int)) ∈ lw_all := lw_g (lw_at lw_m2 61 rfl) rfl
theorem q373 : (Jvm.Cond.methodLink "FuneralDebts" (5 : Nat) ({ cls := "FuneralDebts", name := "in", desc := "(III)Z" } : Jvm.MethodName)) ∈ lw_all := lw_g (lw_at lw_m2 62 rfl) rfl
theorem q374 : (Jvm.Cond.static ({ cls := "FuneralDebts", name := "in", desc := "(III)Z" } : Jvm.MethodName)) ∈ lw_all := lw_g (lw_at lw_m2 63 rfl) rfl
theorem q375 : (Jvm.Cond.code ({ cls := "FuneralDebts", name := "in", desc := "(III)Z" } : Jvm.MethodName) prog_1_method_1_code (3 : Nat) (Option.some Jvm.ClassFile.FieldType.boolean)) ∈ lw_all := lw_g (lw_at lw_m2 64 rfl) rfl
theorem q376 : (Jvm.Cond.methodLink "FuneralDebts" (142 : Nat) ({ cls := "FuneralDebts", name := "isYard", desc := "(I)Z" } : Jvm.MethodName)) ∈ lw_all := lw_g (lw_at lw_m2 65 rfl) rfl
theorem q377 : (Jvm.Cond.static ({ cls := "FuneralDebts", name := "isYard", desc := "(I)Z" } : Jvm.MethodName)) ∈ lw_all := lw_g (lw_at lw_m2 66 rfl) rfl
theorem q378 : (Jvm.Cond.code ({ cls := "FuneralDebts", name := "isYard", desc := "(I)Z" } : Jvm.MethodName) prog_1_method_3_code (1 : Nat) (Option.some Jvm.ClassFile.FieldType.boolean)) ∈ lw_all := lw_g (lw_at lw_m2 67 rfl) rfl
theorem q379 : (Jvm.Cond.methodLink "FuneralDebts" (146 : Nat) ({ cls := "FuneralDebts", name := "mournerOf", desc := "(II)LFuneralDebts$Mourner;" } : Jvm.MethodName)) ∈ lw_all := lw_g (lw_at lw_m2 68 rfl) rfl
theorem q380 : (Jvm.Cond.privateMethod ({ cls := "FuneralDebts", name := "mournerOf", desc := "(II)LFuneralDebts$Mourner;" } : Jvm.MethodName)) ∈ lw_tbl := lw_at lw_m2 69 rfl
theorem q381 : (Jvm.Cond.instanceMethod ({ cls := "FuneralDebts", name := "mournerOf", desc := "(II)LFuneralDebts$Mourner;" } : Jvm.MethodName)) ∈ lw_all := lw_g (lw_at lw_m2 70 rfl) rfl
theorem q382 : (Jvm.Cond.code ({ cls := "FuneralDebts", name := "mournerOf", desc := "(II)LFuneralDebts$Mourner;" } : Jvm.MethodName) prog_1_method_8_code (3 : Nat) (Option.some (Jvm.ClassFile.FieldType.object "FuneralDebts$Mourner"))) ∈ lw_all := lw_g (lw_at lw_m2 71 rfl) rfl
theorem q383 : (Jvm.Cond.classLink "FuneralDebts" (119 : Nat) "FuneralDebts$Cousin") ∈ lw_all := lw_g (lw_at lw_m2 72 rfl) rfl
theorem q385 : (Jvm.Cond.methodLink "FuneralDebts" (121 : Nat) ({ cls := "FuneralDebts$Cousin", name := "<init>", desc := "(LFuneralDebts$Trace;II)V" } : Jvm.MethodName)) ∈ lw_all := lw_g (lw_at lw_m2 74 rfl) rfl
theorem q415 : (Jvm.Cond.fieldLink "FuneralDebts" (171 : Nat) "FuneralDebts$Mourner" "v" "I") ∈ lw_all := lw_g (lw_at lw_m2 104 rfl) rfl
theorem q423 : (Jvm.Cond.classLink "FuneralDebts" (124 : Nat) "FuneralDebts$Creditor") ∈ lw_all := lw_g (lw_at lw_m2 112 rfl) rfl
theorem q425 : (Jvm.Cond.methodLink "FuneralDebts" (126 : Nat) ({ cls := "FuneralDebts$Creditor", name := "<init>", desc := "(LFuneralDebts$Trace;II)V" } : Jvm.MethodName)) ∈ lw_all := lw_g (lw_at lw_m2 114 rfl) rfl
theorem q433 : (Jvm.Cond.classLink "FuneralDebts" (127 : Nat) "FuneralDebts$Weeper") ∈ lw_all := lw_g (lw_at lw_m2 122 rfl) rfl
theorem q435 : (Jvm.Cond.methodLink "FuneralDebts" (129 : Nat) ({ cls := "FuneralDebts$Weeper", name := "<init>", desc := "(LFuneralDebts$Trace;II)V" } : Jvm.MethodName)) ∈ lw_all := lw_g (lw_at lw_m2 124 rfl) rfl
theorem q443 : (Jvm.Cond.classLink "FuneralDebts" (130 : Nat) "FuneralDebts$Vicar") ∈ lw_all := lw_g (lw_at lw_m2 132 rfl) rfl
theorem q445 : (Jvm.Cond.methodLink "FuneralDebts" (132 : Nat) ({ cls := "FuneralDebts$Vicar", name := "<init>", desc := "(LFuneralDebts$Trace;II)V" } : Jvm.MethodName)) ∈ lw_all := lw_g (lw_at lw_m2 134 rfl) rfl
theorem q453 : (Jvm.Cond.classLink "FuneralDebts" (133 : Nat) "FuneralDebts$Bearer") ∈ lw_all := lw_g (lw_at lw_m2 142 rfl) rfl
theorem q455 : (Jvm.Cond.methodLink "FuneralDebts" (135 : Nat) ({ cls := "FuneralDebts$Bearer", name := "<init>", desc := "(LFuneralDebts$Trace;II)V" } : Jvm.MethodName)) ∈ lw_all := lw_g (lw_at lw_m2 144 rfl) rfl
theorem q463 : (Jvm.Cond.classLink "FuneralDebts" (136 : Nat) "FuneralDebts$Told") ∈ lw_all := lw_g (lw_at lw_m2 152 rfl) rfl
theorem q465 : (Jvm.Cond.methodLink "FuneralDebts" (138 : Nat) ({ cls := "FuneralDebts$Told", name := "<init>", desc := "(LFuneralDebts$Trace;II[I)V" } : Jvm.MethodName)) ∈ lw_all := lw_g (lw_at lw_m2 154 rfl) rfl
theorem q477 : (Jvm.Cond.methodLink "FuneralDebts" (141 : Nat) ({ cls := "FuneralDebts$Mourner", name := "<init>", desc := "(LFuneralDebts$Trace;II)V" } : Jvm.MethodName)) ∈ lw_all := lw_g (lw_at lw_m2 166 rfl) rfl
theorem q483 : (Jvm.Cond.instanceMethod ({ cls := "FuneralDebts", name := "pass", desc := "(I)I" } : Jvm.MethodName)) ∈ lw_all := lw_g (lw_at lw_m2 172 rfl) rfl
theorem q484 : (Jvm.Cond.selects "FuneralDebts" ({ cls := "FuneralDebts", name := "pass", desc := "(I)I" } : Jvm.MethodName) ({ cls := "FuneralDebts", name := "pass", desc := "(I)I" } : Jvm.MethodName)) ∈ lw_all := lw_g (lw_at lw_m2 173 rfl) rfl
theorem q485 : (Jvm.Cond.code ({ cls := "FuneralDebts", name := "pass", desc := "(I)I" } : Jvm.MethodName) prog_1_method_22_code (3 : Nat) (Option.some Jvm.ClassFile.FieldType.int)) ∈ lw_all := lw_g (lw_at lw_m2 174 rfl) rfl
theorem q486 : (Jvm.Cond.methodLink "FuneralDebts" (248 : Nat) ({ cls := "FuneralDebts", name := "isOn", desc := "(I)Z" } : Jvm.MethodName)) ∈ lw_all := lw_g (lw_at lw_m2 175 rfl) rfl
theorem q487 : (Jvm.Cond.static ({ cls := "FuneralDebts", name := "isOn", desc := "(I)Z" } : Jvm.MethodName)) ∈ lw_all := lw_g (lw_at lw_m2 176 rfl) rfl
theorem q488 : (Jvm.Cond.code ({ cls := "FuneralDebts", name := "isOn", desc := "(I)Z" } : Jvm.MethodName) prog_1_method_5_code (1 : Nat) (Option.some Jvm.ClassFile.FieldType.boolean)) ∈ lw_all := lw_g (lw_at lw_m2 177 rfl) rfl
theorem q489 : (Jvm.Cond.methodLink "FuneralDebts" (251 : Nat) ({ cls := "FuneralDebts", name := "goes", desc := "(LFuneralDebts$Time;)Z" } : Jvm.MethodName)) ∈ lw_all := lw_g (lw_at lw_m2 178 rfl) rfl
theorem q490 : (Jvm.Cond.privateMethod ({ cls := "FuneralDebts", name := "goes", desc := "(LFuneralDebts$Time;)Z" } : Jvm.MethodName)) ∈ lw_tbl := lw_at lw_m2 179 rfl
theorem q491 : (Jvm.Cond.instanceMethod ({ cls := "FuneralDebts", name := "goes", desc := "(LFuneralDebts$Time;)Z" } : Jvm.MethodName)) ∈ lw_all := lw_g (lw_at lw_m2 180 rfl) rfl
theorem q492 : (Jvm.Cond.code ({ cls := "FuneralDebts", name := "goes", desc := "(LFuneralDebts$Time;)Z" } : Jvm.MethodName) prog_1_method_21_code (4 : Nat) (Option.some Jvm.ClassFile.FieldType.boolean)) ∈ lw_all := lw_g (lw_at lw_m2 181 rfl) rfl
theorem q493 : (Jvm.Cond.methodLink "FuneralDebts" (244 : Nat) ({ cls := "FuneralDebts", name := "doMove", desc := "(LFuneralDebts$Time;)Z" } : Jvm.MethodName)) ∈ lw_all := lw_g (lw_at lw_m2 182 rfl) rfl
theorem q494 : (Jvm.Cond.privateMethod ({ cls := "FuneralDebts", name := "doMove", desc := "(LFuneralDebts$Time;)Z" } : Jvm.MethodName)) ∈ lw_tbl := lw_at lw_m2 183 rfl
theorem q495 : (Jvm.Cond.instanceMethod ({ cls := "FuneralDebts", name := "doMove", desc := "(LFuneralDebts$Time;)Z" } : Jvm.MethodName)) ∈ lw_all := lw_g (lw_at lw_m2 184 rfl) rfl
theorem q496 : (Jvm.Cond.code ({ cls := "FuneralDebts", name := "doMove", desc := "(LFuneralDebts$Time;)Z" } : Jvm.MethodName) prog_1_method_20_code (5 : Nat) (Option.some Jvm.ClassFile.FieldType.boolean)) ∈ lw_all := lw_g (lw_at lw_m2 185 rfl) rfl
theorem q497 : (Jvm.Cond.methodLink "FuneralDebts" (234 : Nat) ({ cls := "FuneralDebts", name := "looksForRates", desc := "(LFuneralDebts$Time;)V" } : Jvm.MethodName)) ∈ lw_all := lw_g (lw_at lw_m2 186 rfl) rfl
theorem q498 : (Jvm.Cond.privateMethod ({ cls := "FuneralDebts", name := "looksForRates", desc := "(LFuneralDebts$Time;)V" } : Jvm.MethodName)) ∈ lw_tbl := lw_at lw_m2 187 rfl
theorem q499 : (Jvm.Cond.instanceMethod ({ cls := "FuneralDebts", name := "looksForRates", desc := "(LFuneralDebts$Time;)V" } : Jvm.MethodName)) ∈ lw_all := lw_g (lw_at lw_m2 188 rfl) rfl
theorem q500 : (Jvm.Cond.code ({ cls := "FuneralDebts", name := "looksForRates", desc := "(LFuneralDebts$Time;)V" } : Jvm.MethodName) prog_1_method_11_code (4 : Nat) (Option.none : Option Jvm.ClassFile.FieldType)) ∈ lw_all := lw_g (lw_at lw_m2 189 rfl) rfl
theorem q501 : (Jvm.Cond.methodLink "FuneralDebts" (192 : Nat) ({ cls := "FuneralDebts", name := "rateOf", desc := "(LFuneralDebts$Time;II)I" } : Jvm.MethodName)) ∈ lw_all := lw_g (lw_at lw_m2 190 rfl) rfl
theorem q502 : (Jvm.Cond.privateMethod ({ cls := "FuneralDebts", name := "rateOf", desc := "(LFuneralDebts$Time;II)I" } : Jvm.MethodName)) ∈ lw_tbl := lw_at lw_m2 191 rfl
theorem q503 : (Jvm.Cond.instanceMethod ({ cls := "FuneralDebts", name := "rateOf", desc := "(LFuneralDebts$Time;II)I" } : Jvm.MethodName)) ∈ lw_all := lw_g (lw_at lw_m2 192 rfl) rfl
theorem q504 : (Jvm.Cond.code ({ cls := "FuneralDebts", name := "rateOf", desc := "(LFuneralDebts$Time;II)I" } : Jvm.MethodName) prog_1_method_10_code (4 : Nat) (Option.some Jvm.ClassFile.FieldType.int)) ∈ lw_all := lw_g (lw_at lw_m2 193 rfl) rfl
theorem q505 : (Jvm.Cond.methodLink "FuneralDebts" (165 : Nat) ({ cls := "FuneralDebts$Mourner", name := "kind", desc := "()I" } : Jvm.MethodName)) ∈ lw_all := lw_g (lw_at lw_m2 194 rfl) rfl
theorem q528 : (Jvm.Cond.methodLink "FuneralDebts" (185 : Nat) ({ cls := "FuneralDebts$Parish", name := "sum", desc := "(LFuneralDebts$Look;)I" } : Jvm.MethodName)) ∈ lw_all := lw_g (lw_at lw_m2 217 rfl) rfl
theorem q572 : (Jvm.Cond.methodLink "FuneralDebts" (189 : Nat) ({ cls := "FuneralDebts$Mourner", name := "rates", desc := "(III)I" } : Jvm.MethodName)) ∈ lw_all := lw_g (lw_at lw_m3 21 rfl) rfl
theorem q601 : (Jvm.Cond.methodLink "FuneralDebts" (196 : Nat) ({ cls := "java/lang/Math", name := "max", desc := "(II)I" } : Jvm.MethodName)) ∈ lw_all := lw_g (lw_at lw_m3 50 rfl) rfl
theorem q604 : (Jvm.Cond.methodLink "FuneralDebts" (238 : Nat) ({ cls := "FuneralDebts$Time", name := "isAway", desc := "(I)Z" } : Jvm.MethodName)) ∈ lw_all := lw_g (lw_at lw_m3 53 rfl) rfl
theorem q609 : (Jvm.Cond.static ({ cls := "FuneralDebts", name := "isIn", desc := "(II)Z" } : Jvm.MethodName)) ∈ lw_all := lw_g (lw_at lw_m3 58 rfl) rfl
theorem q610 : (Jvm.Cond.code ({ cls := "FuneralDebts", name := "isIn", desc := "(II)Z" } : Jvm.MethodName) prog_1_method_2_code (2 : Nat) (Option.some Jvm.ClassFile.FieldType.boolean)) ∈ lw_all := lw_g (lw_at lw_m3 59 rfl) rfl
theorem q611 : (Jvm.Cond.methodLink "FuneralDebts" (241 : Nat) ({ cls := "FuneralDebts", name := "bestOf", desc := "(LFuneralDebts$Time;I)I" } : Jvm.MethodName)) ∈ lw_all := lw_g (lw_at lw_m3 60 rfl) rfl
theorem q612 : (Jvm.Cond.privateMethod ({ cls := "FuneralDebts", name := "bestOf", desc := "(LFuneralDebts$Time;I)I" } : Jvm.MethodName)) ∈ lw_tbl := lw_at lw_m3 61 rfl
theorem q613 : (Jvm.Cond.instanceMethod ({ cls := "FuneralDebts", name := "bestOf", desc := "(LFuneralDebts$Time;I)I" } : Jvm.MethodName)) ∈ lw_all := lw_g (lw_at lw_m3 62 rfl) rfl
theorem q614 : (Jvm.Cond.code ({ cls := "FuneralDebts", name := "bestOf", desc := "(LFuneralDebts$Time;I)I" } : Jvm.MethodName) prog_1_method_19_code (7 : Nat) (Option.some Jvm.ClassFile.FieldType.int)) ∈ lw_all := lw_g (lw_at lw_m3 63 rfl) rfl
theorem q615 : (Jvm.Cond.methodLink "FuneralDebts" (231 : Nat) ({ cls := "FuneralDebts", name := "worthOf", desc := "(LFuneralDebts$Time;II)I" } : Jvm.MethodName)) ∈ lw_all := lw_g (lw_at lw_m3 64 rfl) rfl
theorem q616 : (Jvm.Cond.privateMethod ({ cls := "FuneralDebts", name := "worthOf", desc := "(LFuneralDebts$Time;II)I" } : Jvm.MethodName)) ∈ lw_tbl := lw_at lw_m3 65 rfl
theorem q617 : (Jvm.Cond.instanceMethod ({ cls := "FuneralDebts", name := "worthOf", desc := "(LFuneralDebts$Time;II)I" } : Jvm.MethodName)) ∈ lw_all := lw_g (lw_at lw_m3 66 rfl) rfl
theorem q618 : (Jvm.Cond.code ({ cls := "FuneralDebts", name := "worthOf", desc := "(LFuneralDebts$Time;II)I" } : Jvm.MethodName) prog_1_method_18_code (6 : Nat) (Option.some Jvm.ClassFile.FieldType.int)) ∈ lw_all := lw_g (lw_at lw_m3 67 rfl) rfl
theorem q619 : (Jvm.Cond.methodLink "FuneralDebts" (225 : Nat) ({ cls := "FuneralDebts$Time", name := "present", desc := "()I" } : Jvm.MethodName)) ∈ lw_all := lw_g (lw_at lw_m3 68 rfl) rfl
theorem q623 : (Jvm.Cond.methodLink "FuneralDebts" (228 : Nat) ({ cls := "FuneralDebts", name := "shareOf", desc := "(LFuneralDebts$Time;II)I" } : Jvm.MethodName)) ∈ lw_all := lw_g (lw_at lw_m3 72 rfl) rfl
theorem q624 : (Jvm.Cond.privateMethod ({ cls := "FuneralDebts", name := "shareOf", desc := "(LFuneralDebts$Time;II)I" } : Jvm.MethodName)) ∈ lw_tbl := lw_at lw_m3 73 rfl
theorem q625 : (Jvm.Cond.instanceMethod ({ cls := "FuneralDebts", name := "shareOf", desc := "(LFuneralDebts$Time;II)I" } : Jvm.MethodName)) ∈ lw_all := lw_g (lw_at lw_m3 74 rfl) rfl
theorem q626 : (Jvm.Cond.code ({ cls := "FuneralDebts", name := "shareOf", desc := "(LFuneralDebts$Time;II)I" } : Jvm.MethodName) prog_1_method_17_code (4 : Nat) (Option.some Jvm.ClassFile.FieldType.int)) ∈ lw_all := lw_g (lw_at lw_m3 75 rfl) rfl
theorem q627 : (Jvm.Cond.methodLink "FuneralDebts" (202 : Nat) ({ cls := "FuneralDebts", name := "isIn", desc := "(II)Z" } : Jvm.MethodName)) ∈ lw_all := lw_g (lw_at lw_m3 76 rfl) rfl
theorem q628 : (Jvm.Cond.methodLink "FuneralDebts" (216 : Nat) ({ cls := "FuneralDebts", name := "partOf", desc := "(LFuneralDebts$Time;II)I" } : Jvm.MethodName)) ∈ lw_all := lw_g (lw_at lw_m3 77 rfl) rfl
theorem q629 : (Jvm.Cond.privateMethod ({ cls := "FuneralDebts", name := "partOf", desc := "(LFuneralDebts$Time;II)I" } : Jvm.MethodName)) ∈ lw_tbl := lw_at lw_m3 78 rfl
theorem q630 : (Jvm.Cond.instanceMethod ({ cls := "FuneralDebts", name := "partOf", desc := "(LFuneralDebts$Time;II)I" } : Jvm.MethodName)) ∈ lw_all := lw_g (lw_at lw_m3 79 rfl) rfl
theorem q631 : (Jvm.Cond.code ({ cls := "FuneralDebts", name := "partOf", desc := "(LFuneralDebts$Time;II)I" } : Jvm.MethodName) prog_1_method_14_code (5 : Nat) (Option.some Jvm.ClassFile.FieldType.int)) ∈ lw_all := lw_g (lw_at lw_m3 80 rfl) rfl
theorem q632 : (Jvm.Cond.methodLink "FuneralDebts" (210 : Nat) ({ cls := "FuneralDebts", name := "allRates", desc := "(LFuneralDebts$Time;I)I" } : Jvm.MethodName)) ∈ lw_all := lw_g (lw_at lw_m3 81 rfl) rfl
theorem q633 : (Jvm.Cond.privateMethod ({ cls := "FuneralDebts", name := "allRates", desc := "(LFuneralDebts$Time;I)I" } : Jvm.MethodName)) ∈ lw_tbl := lw_at lw_m3 82 rfl
theorem q634 : (Jvm.Cond.instanceMethod ({ cls := "FuneralDebts", name := "allRates", desc := "(LFuneralDebts$Time;I)I" } : Jvm.MethodName)) ∈ lw_all := lw_g (lw_at lw_m3 83 rfl) rfl
theorem q635 : (Jvm.Cond.code ({ cls := "FuneralDebts", name := "allRates", desc := "(LFuneralDebts$Time;I)I" } : Jvm.MethodName) prog_1_method_13_code (5 : Nat) (Option.some Jvm.ClassFile.FieldType.int)) ∈ lw_all := lw_g (lw_at lw_m3 84 rfl) rfl
theorem q636 : (Jvm.Cond.methodLink "FuneralDebts" (206 : Nat) ({ cls := "FuneralDebts", name := "rateHere", desc := "(LFuneralDebts$Time;I)I" } : Jvm.MethodName)) ∈ lw_all := lw_g (lw_at lw_m3 85 rfl) rfl
theorem q637 : (Jvm.Cond.privateMethod ({ cls := "FuneralDebts", name := "rateHere", desc := "(LFuneralDebts$Time;I)I" } : Jvm.MethodName)) ∈ lw_tbl := lw_at lw_m3 86 rfl
theorem q638 : (Jvm.Cond.instanceMethod ({ cls := "FuneralDebts", name := "rateHere", desc := "(LFuneralDebts$Time;I)I" } : Jvm.MethodName)) ∈ lw_all := lw_g (lw_at lw_m3 87 rfl) rfl
theorem q639 : (Jvm.Cond.code ({ cls := "FuneralDebts", name := "rateHere", desc := "(LFuneralDebts$Time;I)I" } : Jvm.MethodName) prog_1_method_12_code (3 : Nat) (Option.some Jvm.ClassFile.FieldType.int)) ∈ lw_all := lw_g (lw_at lw_m3 88 rfl) rfl
theorem q640 : (Jvm.Cond.methodLink "FuneralDebts" (219 : Nat) ({ cls := "FuneralDebts", name := "greatest", desc := "(LFuneralDebts$Time;I)I" } : Jvm.MethodName)) ∈ lw_all := lw_g (lw_at lw_m3 89 rfl) rfl
theorem q641 : (Jvm.Cond.privateMethod ({ cls := "FuneralDebts", name := "greatest", desc := "(LFuneralDebts$Time;I)I" } : Jvm.MethodName)) ∈ lw_tbl := lw_at lw_m3 90 rfl
theorem q642 : (Jvm.Cond.instanceMethod ({ cls := "FuneralDebts", name := "greatest", desc := "(LFuneralDebts$Time;I)I" } : Jvm.MethodName)) ∈ lw_all := lw_g (lw_at lw_m3 91 rfl) rfl
theorem q643 : (Jvm.Cond.code ({ cls := "FuneralDebts", name := "greatest", desc := "(LFuneralDebts$Time;I)I" } : Jvm.MethodName) prog_1_method_15_code (5 : Nat) (Option.some Jvm.ClassFile.FieldType.int)) ∈ lw_all := lw_g (lw_at lw_m3 92 rfl) rfl
theorem q644 : (Jvm.Cond.methodLink "FuneralDebts" (222 : Nat) ({ cls := "FuneralDebts", name := "leftOver", desc := "(LFuneralDebts$Time;I)I" } : Jvm.MethodName)) ∈ lw_all := lw_g (lw_at lw_m3 93 rfl) rfl
theorem q645 : (Jvm.Cond.privateMethod ({ cls := "FuneralDebts", name := "leftOver", desc := "(LFuneralDebts$Time;I)I" } : Jvm.MethodName)) ∈ lw_tbl := lw_at lw_m3 94 rfl
theorem q646 : (Jvm.Cond.instanceMethod ({ cls := "FuneralDebts", name := "leftOver", desc := "(LFuneralDebts$Time;I)I" } : Jvm.MethodName)) ∈ lw_all := lw_g (lw_at lw_m3 95 rfl) rfl
theorem q647 : (Jvm.Cond.code ({ cls := "FuneralDebts", name := "leftOver", desc := "(LFuneralDebts$Time;I)I" } : Jvm.MethodName) prog_1_method_16_code (5 : Nat) (Option.some Jvm.ClassFile.FieldType.int)) ∈ lw_all := lw_g (lw_at lw_m3 96 rfl) rfl
theorem q648 : (Jvm.Cond.constant "FuneralDebts" (254 : Nat) (999999 : Int32)) ∈ lw_all := lw_g (lw_at lw_m3 97 rfl) rfl
theorem q649 : (Jvm.Cond.methodLink "FuneralDebts" (255 : Nat) ({ cls := "java/lang/Math", name := "min", desc := "(II)I" } : Jvm.MethodName)) ∈ lw_all := lw_g (lw_at lw_m3 98 rfl) rfl
theorem q653 : (Jvm.Cond.instanceMethod ({ cls := "FuneralDebts", name := "on", desc := "(II)I" } : Jvm.MethodName)) ∈ lw_all := lw_g (lw_at lw_m3 102 rfl) rfl
theorem q654 : (Jvm.Cond.selects "FuneralDebts" ({ cls := "FuneralDebts", name := "on", desc := "(II)I" } : Jvm.MethodName) ({ cls := "FuneralDebts", name := "on", desc := "(II)I" } : Jvm.MethodName)) ∈ lw_all := lw_g (lw_at lw_m3 103 rfl) rfl
theorem q655 : (Jvm.Cond.code ({ cls := "FuneralDebts", name := "on", desc := "(II)I" } : Jvm.MethodName) prog_1_method_24_code (3 : Nat) (Option.some Jvm.ClassFile.FieldType.int)) ∈ lw_all := lw_g (lw_at lw_m3 104 rfl) rfl
theorem q656 : (Jvm.Cond.methodLink "FuneralDebts" (261 : Nat) ({ cls := "FuneralDebts", name := "isMourner", desc := "(I)Z" } : Jvm.MethodName)) ∈ lw_all := lw_g (lw_at lw_m3 105 rfl) rfl
theorem q657 : (Jvm.Cond.privateMethod ({ cls := "FuneralDebts", name := "isMourner", desc := "(I)Z" } : Jvm.MethodName)) ∈ lw_tbl := lw_at lw_m3 106 rfl
theorem q658 : (Jvm.Cond.instanceMethod ({ cls := "FuneralDebts", name := "isMourner", desc := "(I)Z" } : Jvm.MethodName)) ∈ lw_all := lw_g (lw_at lw_m3 107 rfl) rfl
theorem q659 : (Jvm.Cond.code ({ cls := "FuneralDebts", name := "isMourner", desc := "(I)Z" } : Jvm.MethodName) prog_1_method_7_code (2 : Nat) (Option.some Jvm.ClassFile.FieldType.boolean)) ∈ lw_all := lw_g (lw_at lw_m3 108 rfl) rfl
theorem q660 : (Jvm.Cond.methodLink "FuneralDebts" (264 : Nat) ({ cls := "FuneralDebts", name := "tries", desc := "(I)V" } : Jvm.MethodName)) ∈ lw_all := lw_g (lw_at lw_m3 109 rfl) rfl
theorem q661 : (Jvm.Cond.privateMethod ({ cls := "FuneralDebts", name := "tries", desc := "(I)V" } : Jvm.MethodName)) ∈ lw_tbl := lw_at lw_m3 110 rfl
theorem q662 : (Jvm.Cond.instanceMethod ({ cls := "FuneralDebts", name := "tries", desc := "(I)V" } : Jvm.MethodName)) ∈ lw_all := lw_g (lw_at lw_m3 111 rfl) rfl
theorem q663 : (Jvm.Cond.code ({ cls := "FuneralDebts", name := "tries", desc := "(I)V" } : Jvm.MethodName) prog_1_method_23_code (3 : Nat) (Option.none : Option Jvm.ClassFile.FieldType)) ∈ lw_all := lw_g (lw_at lw_m3 112 rfl) rfl
theorem q664 : (Jvm.Cond.methodLink "FuneralDebts" (258 : Nat) ({ cls := "FuneralDebts$Time", name := "takes", desc := "(LFuneralDebts$Time;)V" } : Jvm.MethodName)) ∈ lw_all := lw_g (lw_at lw_m3 113 rfl) rfl
theorem q672 : (Jvm.Cond.instanceMethod ({ cls := "FuneralDebts", name := "of", desc := "(II)I" } : Jvm.MethodName)) ∈ lw_all := lw_g (lw_at lw_m3 121 rfl) rfl
theorem q673 : (Jvm.Cond.selects "FuneralDebts" ({ cls := "FuneralDebts", name := "of", desc := "(II)I" } : Jvm.MethodName) ({ cls := "FuneralDebts", name := "of", desc := "(II)I" } : Jvm.MethodName)) ∈ lw_all := lw_g (lw_at lw_m3 122 rfl) rfl
theorem q674 : (Jvm.Cond.code ({ cls := "FuneralDebts", name := "of", desc := "(II)I" } : Jvm.MethodName) prog_1_method_28_code (3 : Nat) (Option.some Jvm.ClassFile.FieldType.int)) ∈ lw_all := lw_g (lw_at lw_m3 123 rfl) rfl
theorem q675 : (Jvm.Cond.methodLink "FuneralDebts" (268 : Nat) ({ cls := "FuneralDebts", name := "atYard", desc := "(II)I" } : Jvm.MethodName)) ∈ lw_all := lw_g (lw_at lw_m3 124 rfl) rfl
theorem q676 : (Jvm.Cond.privateMethod ({ cls := "FuneralDebts", name := "atYard", desc := "(II)I" } : Jvm.MethodName)) ∈ lw_tbl := lw_at lw_m3 125 rfl
theorem q677 : (Jvm.Cond.instanceMethod ({ cls := "FuneralDebts", name := "atYard", desc := "(II)I" } : Jvm.MethodName)) ∈ lw_all := lw_g (lw_at lw_m3 126 rfl) rfl
theorem q678 : (Jvm.Cond.code ({ cls := "FuneralDebts", name := "atYard", desc := "(II)I" } : Jvm.MethodName) prog_1_method_27_code (3 : Nat) (Option.some Jvm.ClassFile.FieldType.int)) ∈ lw_all := lw_g (lw_at lw_m3 127 rfl) rfl
theorem q680 : (Jvm.Cond.instanceMethod ({ cls := "FuneralDebts", name := "set", desc := "(III)I" } : Jvm.MethodName)) ∈ lw_all := lw_g (lw_at lw_m3 129 rfl) rfl
theorem q681 : (Jvm.Cond.selects "FuneralDebts" ({ cls := "FuneralDebts", name := "set", desc := "(III)I" } : Jvm.MethodName) ({ cls := "FuneralDebts", name := "set", desc := "(III)I" } : Jvm.MethodName)) ∈ lw_all := lw_g (lw_at lw_m3 130 rfl) rfl
theorem q682 : (Jvm.Cond.code ({ cls := "FuneralDebts", name := "set", desc := "(III)I" } : Jvm.MethodName) prog_1_method_29_code (6 : Nat) (Option.some Jvm.ClassFile.FieldType.int)) ∈ lw_all := lw_g (lw_at lw_m3 131 rfl) rfl
theorem q684 : (Jvm.Cond.instanceMethod ({ cls := "FuneralDebts", name := "away", desc := "(IZ)I" } : Jvm.MethodName)) ∈ lw_all := lw_g (lw_at lw_m3 133 rfl) rfl
theorem q685 : (Jvm.Cond.selects "FuneralDebts" ({ cls := "FuneralDebts", name := "away", desc := "(IZ)I" } : Jvm.MethodName) ({ cls := "FuneralDebts", name := "away", desc := "(IZ)I" } : Jvm.MethodName)) ∈ lw_all := lw_g (lw_at lw_m3 134 rfl) rfl
theorem q686 : (Jvm.Cond.code ({ cls := "FuneralDebts", name := "away", desc := "(IZ)I" } : Jvm.MethodName) prog_1_method_30_code (4 : Nat) (Option.some Jvm.ClassFile.FieldType.int)) ∈ lw_all := lw_g (lw_at lw_m3 135 rfl) rfl
theorem q688 : (Jvm.Cond.instanceMethod ({ cls := "FuneralDebts", name := "debt", desc := "(I)I" } : Jvm.MethodName)) ∈ lw_all := lw_g (lw_at lw_m3 137 rfl) rfl
theorem q689 : (Jvm.Cond.selects "FuneralDebts" ({ cls := "FuneralDebts", name := "debt", desc := "(I)I" } : Jvm.MethodName) ({ cls := "FuneralDebts", name := "debt", desc := "(I)I" } : Jvm.MethodName)) ∈ lw_all := lw_g (lw_at lw_m3 138 rfl) rfl
theorem q690 : (Jvm.Cond.code ({ cls := "FuneralDebts", name := "debt", desc := "(I)I" } : Jvm.MethodName) prog_1_method_31_code (3 : Nat) (Option.some Jvm.ClassFile.FieldType.int)) ∈ lw_all := lw_g (lw_at lw_m3 139 rfl) rfl
theorem q691 : (Jvm.Cond.methodLink "FuneralDebts" (271 : Nat) ({ cls := "FuneralDebts", name := "isDebt", desc := "(I)Z" } : Jvm.MethodName)) ∈ lw_all := lw_g (lw_at lw_m3 140 rfl) rfl
theorem q692 : (Jvm.Cond.static ({ cls := "FuneralDebts", name := "isDebt", desc := "(I)Z" } : Jvm.MethodName)) ∈ lw_all := lw_g (lw_at lw_m3 141 rfl) rfl
theorem q693 : (Jvm.Cond.code ({ cls := "FuneralDebts", name := "isDebt", desc := "(I)Z" } : Jvm.MethodName) prog_1_method_4_code (1 : Nat) (Option.some Jvm.ClassFile.FieldType.boolean)) ∈ lw_all := lw_g (lw_at lw_m3 142 rfl) rfl
theorem q695 : (Jvm.Cond.instanceMethod ({ cls := "FuneralDebts", name := "row", desc := "(III)I" } : Jvm.MethodName)) ∈ lw_all := lw_g (lw_at lw_m3 144 rfl) rfl
theorem q696 : (Jvm.Cond.selects "FuneralDebts" ({ cls := "FuneralDebts", name := "row", desc := "(III)I" } : Jvm.MethodName) ({ cls := "FuneralDebts", name := "row", desc := "(III)I" } : Jvm.MethodName)) ∈ lw_all := lw_g (lw_at lw_m3 145 rfl) rfl
theorem q697 : (Jvm.Cond.code ({ cls := "FuneralDebts", name := "row", desc := "(III)I" } : Jvm.MethodName) prog_1_method_32_code (5 : Nat) (Option.some Jvm.ClassFile.FieldType.int)) ∈ lw_all := lw_g (lw_at lw_m3 146 rfl) rfl
theorem q699 : (Jvm.Cond.instanceMethod ({ cls := "FuneralDebts", name := "feed", desc := "(I)I" } : Jvm.MethodName)) ∈ lw_all := lw_g (lw_at lw_m3 148 rfl) rfl
theorem q700 : (Jvm.Cond.selects "FuneralDebts" ({ cls := "FuneralDebts", name := "feed", desc := "(I)I" } : Jvm.MethodName) ({ cls := "FuneralDebts", name := "feed", desc := "(I)I" } : Jvm.MethodName)) ∈ lw_all := lw_g (lw_at lw_m3 149 rfl) rfl
theorem q701 : (Jvm.Cond.code ({ cls := "FuneralDebts", name := "feed", desc := "(I)I" } : Jvm.MethodName) prog_1_method_33_code (2 : Nat) (Option.some Jvm.ClassFile.FieldType.int)) ∈ lw_all := lw_g (lw_at lw_m3 150 rfl) rfl
theorem q703 : (Jvm.Cond.instanceMethod ({ cls := "FuneralDebts", name := "parish", desc := "()I" } : Jvm.MethodName)) ∈ lw_all := lw_g (lw_at lw_m3 152 rfl) rfl
theorem q704 : (Jvm.Cond.selects "FuneralDebts" ({ cls := "FuneralDebts", name := "parish", desc := "()I" } : Jvm.MethodName) ({ cls := "FuneralDebts", name := "parish", desc := "()I" } : Jvm.MethodName)) ∈ lw_all := lw_g (lw_at lw_m3 153 rfl) rfl
theorem q705 : (Jvm.Cond.codeWith ({ cls := "FuneralDebts", name := "parish", desc := "()I" } : Jvm.MethodName) prog_1_method_34_code (3 : Nat) (Option.some Jvm.ClassFile.FieldType.int) [((22 : Nat), (52 : Nat), (53 : Nat), (289 : Nat))]) ∈ lw_all := lw_g (lw_at lw_m3 154 rfl) rfl
theorem q706 : (Jvm.Cond.classLink "FuneralDebts" (289 : Nat) "FuneralDebts$Off") ∈ lw_all := lw_g (lw_at lw_m3 155 rfl) rfl
theorem q707 : (Jvm.Cond.classLink "FuneralDebts" (280 : Nat) "FuneralDebts$Reader") ∈ lw_all := lw_g (lw_at lw_m3 156 rfl) rfl
theorem q709 : (Jvm.Cond.methodLink "FuneralDebts" (282 : Nat) ({ cls := "FuneralDebts$Reader", name := "<init>", desc := "([BI)V" } : Jvm.MethodName)) ∈ lw_all := lw_g (lw_at lw_m3 158 rfl) rfl
theorem q731 : (Jvm.Cond.methodLink "FuneralDebts" (285 : Nat) ({ cls := "FuneralDebts$Reader", name := "whole", desc := "()LFuneralDebts$Parish;" } : Jvm.MethodName)) ∈ lw_all := lw_g (lw_at lw_m3 180 rfl) rfl
theorem q874 : (Jvm.Cond.fieldLinkNest "FuneralDebts" (291 : Nat) "FuneralDebts$Off" "place" "I" "FuneralDebts") ∈ lw_tbl := lw_at lw_m4 83 rfl
theorem q988 : (Jvm.Cond.selects "FuneralDebts" ({ cls := "java/lang/Object", name := "getClass", desc := "()Ljava/lang/Class;" } : Jvm.MethodName) ({ cls := "java/lang/Object", name := "getClass", desc := "()Ljava/lang/Class;" } : Jvm.MethodName)) ∈ lw_all := lw_g (lw_at lw_m4 197 rfl) rfl
theorem q1041 : (Jvm.Cond.instanceMethod ({ cls := "FuneralDebts", name := "told", desc := "(I)I" } : Jvm.MethodName)) ∈ lw_all := lw_g (lw_at lw_m5 10 rfl) rfl
theorem q1042 : (Jvm.Cond.selects "FuneralDebts" ({ cls := "FuneralDebts", name := "told", desc := "(I)I" } : Jvm.MethodName) ({ cls := "FuneralDebts", name := "told", desc := "(I)I" } : Jvm.MethodName)) ∈ lw_all := lw_g (lw_at lw_m5 11 rfl) rfl
theorem q1043 : (Jvm.Cond.code ({ cls := "FuneralDebts", name := "told", desc := "(I)I" } : Jvm.MethodName) prog_1_method_35_code (2 : Nat) (Option.some Jvm.ClassFile.FieldType.int)) ∈ lw_all := lw_g (lw_at lw_m5 12 rfl) rfl
theorem q1044 : (Jvm.Cond.methodLink "FuneralDebts" (297 : Nat) ({ cls := "FuneralDebts", name := "still", desc := "()I" } : Jvm.MethodName)) ∈ lw_all := lw_g (lw_at lw_m5 13 rfl) rfl
theorem q1045 : (Jvm.Cond.privateMethod ({ cls := "FuneralDebts", name := "still", desc := "()I" } : Jvm.MethodName)) ∈ lw_tbl := lw_at lw_m5 14 rfl
theorem q1046 : (Jvm.Cond.instanceMethod ({ cls := "FuneralDebts", name := "still", desc := "()I" } : Jvm.MethodName)) ∈ lw_all := lw_g (lw_at lw_m5 15 rfl) rfl
theorem q1047 : (Jvm.Cond.code ({ cls := "FuneralDebts", name := "still", desc := "()I" } : Jvm.MethodName) prog_1_method_25_code (2 : Nat) (Option.some Jvm.ClassFile.FieldType.int)) ∈ lw_all := lw_g (lw_at lw_m5 16 rfl) rfl
theorem q1048 : (Jvm.Cond.methodLink "FuneralDebts" (300 : Nat) ({ cls := "FuneralDebts", name := "gains", desc := "()I" } : Jvm.MethodName)) ∈ lw_all := lw_g (lw_at lw_m5 17 rfl) rfl
theorem q1049 : (Jvm.Cond.privateMethod ({ cls := "FuneralDebts", name := "gains", desc := "()I" } : Jvm.MethodName)) ∈ lw_tbl := lw_at lw_m5 18 rfl
theorem q1050 : (Jvm.Cond.instanceMethod ({ cls := "FuneralDebts", name := "gains", desc := "()I" } : Jvm.MethodName)) ∈ lw_all := lw_g (lw_at lw_m5 19 rfl) rfl
theorem q1051 : (Jvm.Cond.code ({ cls := "FuneralDebts", name := "gains", desc := "()I" } : Jvm.MethodName) prog_1_method_26_code (3 : Nat) (Option.some Jvm.ClassFile.FieldType.int)) ∈ lw_all := lw_g (lw_at lw_m5 20 rfl) rfl
theorem q1052 : (Jvm.Cond.methodLink "FuneralDebts" (303 : Nat) ({ cls := "FuneralDebts", name := "owing", desc := "(Z)I" } : Jvm.MethodName)) ∈ lw_all := lw_g (lw_at lw_m5 21 rfl) rfl
theorem q1053 : (Jvm.Cond.privateMethod ({ cls := "FuneralDebts", name := "owing", desc := "(Z)I" } : Jvm.MethodName)) ∈ lw_tbl := lw_at lw_m5 22 rfl
theorem q1054 : (Jvm.Cond.instanceMethod ({ cls := "FuneralDebts", name := "owing", desc := "(Z)I" } : Jvm.MethodName)) ∈ lw_all := lw_g (lw_at lw_m5 23 rfl) rfl
theorem q1055 : (Jvm.Cond.code ({ cls := "FuneralDebts", name := "owing", desc := "(Z)I" } : Jvm.MethodName) prog_1_method_39_code (5 : Nat) (Option.some Jvm.ClassFile.FieldType.int)) ∈ lw_all := lw_g (lw_at lw_m5 24 rfl) rfl
theorem q1056 : (Jvm.Cond.methodLink "FuneralDebts" (316 : Nat) ({ cls := "FuneralDebts", name := "areSo", desc := "()Z" } : Jvm.MethodName)) ∈ lw_all := lw_g (lw_at lw_m5 25 rfl) rfl
theorem q1057 : (Jvm.Cond.privateMethod ({ cls := "FuneralDebts", name := "areSo", desc := "()Z" } : Jvm.MethodName)) ∈ lw_tbl := lw_at lw_m5 26 rfl
theorem q1058 : (Jvm.Cond.instanceMethod ({ cls := "FuneralDebts", name := "areSo", desc := "()Z" } : Jvm.MethodName)) ∈ lw_all := lw_g (lw_at lw_m5 27 rfl) rfl
theorem q1059 : (Jvm.Cond.code ({ cls := "FuneralDebts", name := "areSo", desc := "()Z" } : Jvm.MethodName) prog_1_method_38_code (2 : Nat) (Option.some Jvm.ClassFile.FieldType.boolean)) ∈ lw_all := lw_g (lw_at lw_m5 28 rfl) rfl
theorem q1061 : (Jvm.Cond.instanceMethod ({ cls := "FuneralDebts", name := "kept", desc := "(II)I" } : Jvm.MethodName)) ∈ lw_all := lw_g (lw_at lw_m5 30 rfl) rfl
theorem q1062 : (Jvm.Cond.selects "FuneralDebts" ({ cls := "FuneralDebts", name := "kept", desc := "(II)I" } : Jvm.MethodName) ({ cls := "FuneralDebts", name := "kept", desc := "(II)I" } : Jvm.MethodName)) ∈ lw_all := lw_g (lw_at lw_m5 31 rfl) rfl
theorem q1063 : (Jvm.Cond.code ({ cls := "FuneralDebts", name := "kept", desc := "(II)I" } : Jvm.MethodName) prog_1_method_36_code (6 : Nat) (Option.some Jvm.ClassFile.FieldType.int)) ∈ lw_all := lw_g (lw_at lw_m5 32 rfl) rfl
theorem q1064 : (Jvm.Cond.methodLink "FuneralDebts" (307 : Nat) ({ cls := "java/lang/Integer", name := "bitCount", desc := "(I)I" } : Jvm.MethodName)) ∈ lw_all := lw_g (lw_at lw_m5 33 rfl) rfl
theorem q1071 : (Jvm.Cond.instanceMethod ({ cls := "FuneralDebts", name := "see", desc := "(II)I" } : Jvm.MethodName)) ∈ lw_all := lw_g (lw_at lw_m5 40 rfl) rfl
theorem q1072 : (Jvm.Cond.selects "FuneralDebts" ({ cls := "FuneralDebts", name := "see", desc := "(II)I" } : Jvm.MethodName) ({ cls := "FuneralDebts", name := "see", desc := "(II)I" } : Jvm.MethodName)) ∈ lw_all := lw_g (lw_at lw_m5 41 rfl) rfl
theorem q1073 : (Jvm.Cond.code ({ cls := "FuneralDebts", name := "see", desc := "(II)I" } : Jvm.MethodName) prog_1_method_37_code (3 : Nat) (Option.some Jvm.ClassFile.FieldType.int)) ∈ lw_all := lw_g (lw_at lw_m5 42 rfl) rfl
theorem q1075 : (Jvm.Cond.instanceMethod ({ cls := "FuneralDebts", name := "can", desc := "(II)I" } : Jvm.MethodName)) ∈ lw_all := lw_g (lw_at lw_m5 44 rfl) rfl
theorem q1076 : (Jvm.Cond.selects "FuneralDebts" ({ cls := "FuneralDebts", name := "can", desc := "(II)I" } : Jvm.MethodName) ({ cls := "FuneralDebts", name := "can", desc := "(II)I" } : Jvm.MethodName)) ∈ lw_all := lw_g (lw_at lw_m5 45 rfl) rfl
theorem q1077 : (Jvm.Cond.codeWith ({ cls := "FuneralDebts", name := "can", desc := "(II)I" } : Jvm.MethodName) prog_1_method_40_code (8 : Nat) (Option.some Jvm.ClassFile.FieldType.int) [((41 : Nat), (105 : Nat), (118 : Nat), (0 : Nat)), ((118 : Nat), (120 : Nat), (118 : Nat), (0 : Nat))]) ∈ lw_all := lw_g (lw_at lw_m5 46 rfl) rfl
theorem q1079 : (Jvm.Cond.instanceMethod ({ cls := "FuneralDebts", name := "odds", desc := "(II)J" } : Jvm.MethodName)) ∈ lw_all := lw_g (lw_at lw_m5 48 rfl) rfl
theorem q1080 : (Jvm.Cond.selects "FuneralDebts" ({ cls := "FuneralDebts", name := "odds", desc := "(II)J" } : Jvm.MethodName) ({ cls := "FuneralDebts", name := "odds", desc := "(II)J" } : Jvm.MethodName)) ∈ lw_all := lw_g (lw_at lw_m5 49 rfl) rfl
theorem q1081 : (Jvm.Cond.code ({ cls := "FuneralDebts", name := "odds", desc := "(II)J" } : Jvm.MethodName) prog_1_method_43_code (8 : Nat) (Option.some Jvm.ClassFile.FieldType.long)) ∈ lw_all := lw_g (lw_at lw_m5 50 rfl) rfl
theorem q1082 : (Jvm.Cond.constantLong "FuneralDebts" (324 : Nat) (-9223372036854775808 : Int64)) ∈ lw_all := lw_g (lw_at lw_m5 51 rfl) rfl
theorem q1083 : (Jvm.Cond.methodLink "FuneralDebts" (326 : Nat) ({ cls := "FuneralDebts", name := "lowest", desc := "(JJI)J" } : Jvm.MethodName)) ∈ lw_all := lw_g (lw_at lw_m5 52 rfl) rfl
theorem q1084 : (Jvm.Cond.static ({ cls := "FuneralDebts", name := "lowest", desc := "(JJI)J" } : Jvm.MethodName)) ∈ lw_all := lw_g (lw_at lw_m5 53 rfl) rfl
theorem q1085 : (Jvm.Cond.code ({ cls := "FuneralDebts", name := "lowest", desc := "(JJI)J" } : Jvm.MethodName) prog_1_method_42_code (5 : Nat) (Option.some Jvm.ClassFile.FieldType.long)) ∈ lw_all := lw_g (lw_at lw_m5 54 rfl) rfl
theorem q1086 : (Jvm.Cond.methodLink "FuneralDebts" (320 : Nat) ({ cls := "FuneralDebts", name := "divisor", desc := "(JJ)J" } : Jvm.MethodName)) ∈ lw_all := lw_g (lw_at lw_m5 55 rfl) rfl
theorem q1087 : (Jvm.Cond.static ({ cls := "FuneralDebts", name := "divisor", desc := "(JJ)J" } : Jvm.MethodName)) ∈ lw_all := lw_g (lw_at lw_m5 56 rfl) rfl
theorem q1088 : (Jvm.Cond.code ({ cls := "FuneralDebts", name := "divisor", desc := "(JJ)J" } : Jvm.MethodName) prog_1_method_41_code (8 : Nat) (Option.some Jvm.ClassFile.FieldType.long)) ∈ lw_all := lw_g (lw_at lw_m5 57 rfl) rfl
theorem q1090 : (Jvm.Cond.instanceMethod ({ cls := "FuneralDebts", name := "mean", desc := "(I)J" } : Jvm.MethodName)) ∈ lw_all := lw_g (lw_at lw_m5 59 rfl) rfl
theorem q1091 : (Jvm.Cond.selects "FuneralDebts" ({ cls := "FuneralDebts", name := "mean", desc := "(I)J" } : Jvm.MethodName) ({ cls := "FuneralDebts", name := "mean", desc := "(I)J" } : Jvm.MethodName)) ∈ lw_all := lw_g (lw_at lw_m5 60 rfl) rfl
theorem q1092 : (Jvm.Cond.code ({ cls := "FuneralDebts", name := "mean", desc := "(I)J" } : Jvm.MethodName) prog_1_method_44_code (3 : Nat) (Option.some Jvm.ClassFile.FieldType.long)) ∈ lw_all := lw_g (lw_at lw_m5 61 rfl) rfl
theorem q1094 : (Jvm.Cond.instanceMethod ({ cls := "FuneralDebts", name := "plan", desc := "(II)I" } : Jvm.MethodName)) ∈ lw_all := lw_g (lw_at lw_m5 63 rfl) rfl
theorem q1095 : (Jvm.Cond.selects "FuneralDebts" ({ cls := "FuneralDebts", name := "plan", desc := "(II)I" } : Jvm.MethodName) ({ cls := "FuneralDebts", name := "plan", desc := "(II)I" } : Jvm.MethodName)) ∈ lw_all := lw_g (lw_at lw_m5 64 rfl) rfl
theorem q1096 : (Jvm.Cond.code ({ cls := "FuneralDebts", name := "plan", desc := "(II)I" } : Jvm.MethodName) prog_1_method_45_code (3 : Nat) (Option.some Jvm.ClassFile.FieldType.int)) ∈ lw_all := lw_g (lw_at lw_m5 65 rfl) rfl
theorem q1098 : (Jvm.Cond.instanceMethod ({ cls := "FuneralDebts", name := "ends", desc := "(I)I" } : Jvm.MethodName)) ∈ lw_all := lw_g (lw_at lw_m5 67 rfl) rfl
theorem q1099 : (Jvm.Cond.selects "FuneralDebts" ({ cls := "FuneralDebts", name := "ends", desc := "(I)I" } : Jvm.MethodName) ({ cls := "FuneralDebts", name := "ends", desc := "(I)I" } : Jvm.MethodName)) ∈ lw_all := lw_g (lw_at lw_m5 68 rfl) rfl
theorem q1100 : (Jvm.Cond.code ({ cls := "FuneralDebts", name := "ends", desc := "(I)I" } : Jvm.MethodName) prog_1_method_47_code (3 : Nat) (Option.some Jvm.ClassFile.FieldType.int)) ∈ lw_all := lw_g (lw_at lw_m5 69 rfl) rfl
theorem q1101 : (Jvm.Cond.methodLink "FuneralDebts" (333 : Nat) ({ cls := "FuneralDebts", name := "does", desc := "(II)V" } : Jvm.MethodName)) ∈ lw_all := lw_g (lw_at lw_m5 70 rfl) rfl
theorem q1102 : (Jvm.Cond.privateMethod ({ cls := "FuneralDebts", name := "does", desc := "(II)V" } : Jvm.MethodName)) ∈ lw_tbl := lw_at lw_m5 71 rfl
theorem q1103 : (Jvm.Cond.instanceMethod ({ cls := "FuneralDebts", name := "does", desc := "(II)V" } : Jvm.MethodName)) ∈ lw_all := lw_g (lw_at lw_m5 72 rfl) rfl
theorem q1104 : (Jvm.Cond.code ({ cls := "FuneralDebts", name := "does", desc := "(II)V" } : Jvm.MethodName) prog_1_method_46_code (3 : Nat) (Option.none : Option Jvm.ClassFile.FieldType)) ∈ lw_all := lw_g (lw_at lw_m5 73 rfl) rfl
theorem q1105 : (Jvm.Cond.methodLink "FuneralDebts" (337 : Nat) ({ cls := "FuneralDebts$Time", name := "allSums", desc := "()I" } : Jvm.MethodName)) ∈ lw_all := lw_g (lw_at lw_m5 74 rfl) rfl
theorem q1109 : (Jvm.Cond.methodLink "FuneralDebts" (340 : Nat) ({ cls := "FuneralDebts$Time", name := "allYards", desc := "()I" } : Jvm.MethodName)) ∈ lw_all := lw_g (lw_at lw_m5 78 rfl) rfl
theorem q1114 : (Jvm.Cond.instanceMethod ({ cls := "FuneralDebts", name := "book", desc := "(II)I" } : Jvm.MethodName)) ∈ lw_all := lw_g (lw_at lw_m5 83 rfl) rfl
theorem q1115 : (Jvm.Cond.selects "FuneralDebts" ({ cls := "FuneralDebts", name := "book", desc := "(II)I" } : Jvm.MethodName) ({ cls := "FuneralDebts", name := "book", desc := "(II)I" } : Jvm.MethodName)) ∈ lw_all := lw_g (lw_at lw_m5 84 rfl) rfl
theorem q1116 : (Jvm.Cond.code ({ cls := "FuneralDebts", name := "book", desc := "(II)I" } : Jvm.MethodName) prog_1_method_48_code (3 : Nat) (Option.some Jvm.ClassFile.FieldType.int)) ∈ lw_all := lw_g (lw_at lw_m5 85 rfl) rfl
theorem q1118 : (Jvm.Cond.instanceMethod ({ cls := "FuneralDebts", name := "looked", desc := "()I" } : Jvm.MethodName)) ∈ lw_all := lw_g (lw_at lw_m5 87 rfl) rfl
theorem q1119 : (Jvm.Cond.selects "FuneralDebts" ({ cls := "FuneralDebts", name := "looked", desc := "()I" } : Jvm.MethodName) ({ cls := "FuneralDebts", name := "looked", desc := "()I" } : Jvm.MethodName)) ∈ lw_all := lw_g (lw_at lw_m5 88 rfl) rfl
theorem q1120 : (Jvm.Cond.code ({ cls := "FuneralDebts", name := "looked", desc := "()I" } : Jvm.MethodName) prog_1_method_49_code (2 : Nat) (Option.some Jvm.ClassFile.FieldType.int)) ∈ lw_all := lw_g (lw_at lw_m5 89 rfl) rfl
theorem q1122 : (Jvm.Cond.instanceMethod ({ cls := "FuneralDebts", name := "judge", desc := "(II)I" } : Jvm.MethodName)) ∈ lw_all := lw_g (lw_at lw_m5 91 rfl) rfl
theorem q1123 : (Jvm.Cond.selects "FuneralDebts" ({ cls := "FuneralDebts", name := "judge", desc := "(II)I" } : Jvm.MethodName) ({ cls := "FuneralDebts", name := "judge", desc := "(II)I" } : Jvm.MethodName)) ∈ lw_all := lw_g (lw_at lw_m5 92 rfl) rfl
theorem q1124 : (Jvm.Cond.codeWith ({ cls := "FuneralDebts", name := "judge", desc := "(II)I" } : Jvm.MethodName) prog_1_method_51_code (4 : Nat) (Option.some Jvm.ClassFile.FieldType.int) [((17 : Nat), (34 : Nat), (35 : Nat), (363 : Nat))]) ∈ lw_all := lw_g (lw_at lw_m5 93 rfl) rfl
theorem q1125 : (Jvm.Cond.classLink "FuneralDebts" (363 : Nat) "java/lang/ClassCastException") ∈ lw_all := lw_g (lw_at lw_m5 94 rfl) rfl
theorem q1152 : (Jvm.Cond.methodLink "FuneralDebts" (350 : Nat) ({ cls := "FuneralDebts", name := "isTape", desc := "(I)Z" } : Jvm.MethodName)) ∈ lw_all := lw_g (lw_at lw_m5 121 rfl) rfl
theorem q1153 : (Jvm.Cond.static ({ cls := "FuneralDebts", name := "isTape", desc := "(I)Z" } : Jvm.MethodName)) ∈ lw_all := lw_g (lw_at lw_m5 122 rfl) rfl
theorem q1154 : (Jvm.Cond.code ({ cls := "FuneralDebts", name := "isTape", desc := "(I)Z" } : Jvm.MethodName) prog_1_method_60_code (1 : Nat) (Option.some Jvm.ClassFile.FieldType.boolean)) ∈ lw_all := lw_g (lw_at lw_m5 123 rfl) rfl
theorem q1155 : (Jvm.Cond.classLink "FuneralDebts" (357 : Nat) "[S") ∈ lw_all := lw_g (lw_at lw_m5 124 rfl) rfl
theorem q1156 : (Jvm.Cond.methodLink "FuneralDebts" (359 : Nat) ({ cls := "FuneralDebts", name := "firstOther", desc := "([SI)I" } : Jvm.MethodName)) ∈ lw_all := lw_g (lw_at lw_m5 125 rfl) rfl
theorem q1157 : (Jvm.Cond.privateMethod ({ cls := "FuneralDebts", name := "firstOther", desc := "([SI)I" } : Jvm.MethodName)) ∈ lw_tbl := lw_at lw_m5 126 rfl
theorem q1158 : (Jvm.Cond.instanceMethod ({ cls := "FuneralDebts", name := "firstOther", desc := "([SI)I" } : Jvm.MethodName)) ∈ lw_all := lw_g (lw_at lw_m5 127 rfl) rfl
theorem q1159 : (Jvm.Cond.codeWith ({ cls := "FuneralDebts", name := "firstOther", desc := "([SI)I" } : Jvm.MethodName) prog_1_method_50_code (6 : Nat) (Option.some Jvm.ClassFile.FieldType.int) [((2 : Nat), (71 : Nat), (81 : Nat), (348 : Nat)), ((72 : Nat), (80 : Nat), (81 : Nat), (348 : Nat)), ((2 : Nat), (71 : Nat), (88 : Nat), (289 : Nat)), ((72 : Nat), (80 : Nat), (88 : Nat), (289 : Nat))]) ∈ lw_all := lw_g (lw_at lw_m5 128 rfl) rfl
theorem q1160 : (Jvm.Cond.classLink "FuneralDebts" (348 : Nat) "java/lang/NullPointerException") ∈ lw_all := lw_g (lw_at lw_m5 129 rfl) rfl
theorem q1179 : (Jvm.Cond.methodLink "FuneralDebts" (346 : Nat) ({ cls := "FuneralDebts$Off", name := "<init>", desc := "(I)V" } : Jvm.MethodName)) ∈ lw_all := lw_g (lw_at lw_m5 148 rfl) rfl
theorem q1181 : (Jvm.Cond.instanceMethod ({ cls := "FuneralDebts", name := "image", desc := "()I" } : Jvm.MethodName)) ∈ lw_all := lw_g (lw_at lw_m5 150 rfl) rfl
theorem q1182 : (Jvm.Cond.selects "FuneralDebts" ({ cls := "FuneralDebts", name := "image", desc := "()I" } : Jvm.MethodName) ({ cls := "FuneralDebts", name := "image", desc := "()I" } : Jvm.MethodName)) ∈ lw_all := lw_g (lw_at lw_m5 151 rfl) rfl
theorem q1183 : (Jvm.Cond.code ({ cls := "FuneralDebts", name := "image", desc := "()I" } : Jvm.MethodName) prog_1_method_52_code (1 : Nat) (Option.some Jvm.ClassFile.FieldType.int)) ∈ lw_all := lw_g (lw_at lw_m5 152 rfl) rfl
theorem q1184 : (Jvm.Cond.methodLink "FuneralDebts" (365 : Nat) ({ cls := "java/lang/System", name := "arraycopy", desc := "(Ljava/lang/Object;ILjava/lang/Object;II)V" } : Jvm.MethodName)) ∈ lw_all := lw_g (lw_at lw_m5 153 rfl) rfl
theorem q1186 : (Jvm.Cond.instanceMethod ({ cls := "FuneralDebts", name := "undo", desc := "()I" } : Jvm.MethodName)) ∈ lw_all := lw_g (lw_at lw_m5 155 rfl) rfl
theorem q1187 : (Jvm.Cond.selects "FuneralDebts" ({ cls := "FuneralDebts", name := "undo", desc := "()I" } : Jvm.MethodName) ({ cls := "FuneralDebts", name := "undo", desc := "()I" } : Jvm.MethodName)) ∈ lw_all := lw_g (lw_at lw_m5 156 rfl) rfl
theorem q1188 : (Jvm.Cond.code ({ cls := "FuneralDebts", name := "undo", desc := "()I" } : Jvm.MethodName) prog_1_method_53_code (1 : Nat) (Option.some Jvm.ClassFile.FieldType.int)) ∈ lw_all := lw_g (lw_at lw_m5 157 rfl) rfl
theorem q1190 : (Jvm.Cond.instanceMethod ({ cls := "FuneralDebts", name := "act", desc := "(III)I" } : Jvm.MethodName)) ∈ lw_all := lw_g (lw_at lw_m5 159 rfl) rfl
theorem q1191 : (Jvm.Cond.selects "FuneralDebts" ({ cls := "FuneralDebts", name := "act", desc := "(III)I" } : Jvm.MethodName) ({ cls := "FuneralDebts", name := "act", desc := "(III)I" } : Jvm.MethodName)) ∈ lw_all := lw_g (lw_at lw_m5 160 rfl) rfl
theorem q1192 : (Jvm.Cond.code ({ cls := "FuneralDebts", name := "act", desc := "(III)I" } : Jvm.MethodName) prog_1_method_54_code (5 : Nat) (Option.some Jvm.ClassFile.FieldType.int)) ∈ lw_all := lw_g (lw_at lw_m5 161 rfl) rfl
theorem q1193 : (Jvm.Cond.methodLink "FuneralDebts" (386 : Nat) ({ cls := "FuneralDebts$Mourner", name := "stands", desc := "(I)I" } : Jvm.MethodName)) ∈ lw_all := lw_g (lw_at lw_m5 162 rfl) rfl
theorem q1223 : (Jvm.Cond.methodLink "FuneralDebts" (389 : Nat) ({ cls := "FuneralDebts$Mourner", name := "sighs", desc := "(I)I" } : Jvm.MethodName)) ∈ lw_all := lw_g (lw_at lw_m5 192 rfl) rfl
theorem q1247 : (Jvm.Cond.methodLink "FuneralDebts" (392 : Nat) ({ cls := "FuneralDebts$Mourner", name := "tells", desc := "(I)I" } : Jvm.MethodName)) ∈ lw_all := lw_g (lw_at lw_m5 216 rfl) rfl
theorem q1273 : (Jvm.Cond.instanceMethod ({ cls := "FuneralDebts", name := "trace", desc := "(I)I" } : Jvm.MethodName)) ∈ lw_all := lw_g (lw_at lw_m6 2 rfl) rfl
theorem q1274 : (Jvm.Cond.selects "FuneralDebts" ({ cls := "FuneralDebts", name := "trace", desc := "(I)I" } : Jvm.MethodName) ({ cls := "FuneralDebts", name := "trace", desc := "(I)I" } : Jvm.MethodName)) ∈ lw_all := lw_g (lw_at lw_m6 3 rfl) rfl
theorem q1275 : (Jvm.Cond.code ({ cls := "FuneralDebts", name := "trace", desc := "(I)I" } : Jvm.MethodName) prog_1_method_55_code (2 : Nat) (Option.some Jvm.ClassFile.FieldType.int)) ∈ lw_all := lw_g (lw_at lw_m6 4 rfl) rfl
theorem q1277 : (Jvm.Cond.instanceMethod ({ cls := "FuneralDebts", name := "taken", desc := "(II)I" } : Jvm.MethodName)) ∈ lw_all := lw_g (lw_at lw_m6 6 rfl) rfl
theorem q1278 : (Jvm.Cond.selects "FuneralDebts" ({ cls := "FuneralDebts", name := "taken", desc := "(II)I" } : Jvm.MethodName) ({ cls := "FuneralDebts", name := "taken", desc := "(II)I" } : Jvm.MethodName)) ∈ lw_all := lw_g (lw_at lw_m6 7 rfl) rfl
theorem q1279 : (Jvm.Cond.codeWith ({ cls := "FuneralDebts", name := "taken", desc := "(II)I" } : Jvm.MethodName) prog_1_method_57_code (4 : Nat) (Option.some Jvm.ClassFile.FieldType.int) [((13 : Nat), (38 : Nat), (39 : Nat), (348 : Nat)), ((13 : Nat), (38 : Nat), (43 : Nat), (363 : Nat))]) ∈ lw_all := lw_g (lw_at lw_m6 8 rfl) rfl
theorem q1280 : (Jvm.Cond.methodLink "FuneralDebts" (398 : Nat) ({ cls := "FuneralDebts", name := "takenFor", desc := "(LFuneralDebts$Tells;I)LFuneralDebts$Mourner;" } : Jvm.MethodName)) ∈ lw_all := lw_g (lw_at lw_m6 9 rfl) rfl
theorem q1281 : (Jvm.Cond.static ({ cls := "FuneralDebts", name := "takenFor", desc := "(LFuneralDebts$Tells;I)LFuneralDebts$Mourner;" } : Jvm.MethodName)) ∈ lw_all := lw_g (lw_at lw_m6 10 rfl) rfl
theorem q1282 : (Jvm.Cond.code ({ cls := "FuneralDebts", name := "takenFor", desc := "(LFuneralDebts$Tells;I)LFuneralDebts$Mourner;" } : Jvm.MethodName) prog_1_method_56_code (2 : Nat) (Option.some (Jvm.ClassFile.FieldType.object "FuneralDebts$Mourner"))) ∈ lw_all := lw_g (lw_at lw_m6 11 rfl) rfl
theorem q1284 : (Jvm.Cond.instanceMethod ({ cls := "FuneralDebts", name := "count", desc := "(I)I" } : Jvm.MethodName)) ∈ lw_all := lw_g (lw_at lw_m6 13 rfl) rfl
theorem q1285 : (Jvm.Cond.selects "FuneralDebts" ({ cls := "FuneralDebts", name := "count", desc := "(I)I" } : Jvm.MethodName) ({ cls := "FuneralDebts", name := "count", desc := "(I)I" } : Jvm.MethodName)) ∈ lw_all := lw_g (lw_at lw_m6 14 rfl) rfl
theorem q1286 : (Jvm.Cond.code ({ cls := "FuneralDebts", name := "count", desc := "(I)I" } : Jvm.MethodName) prog_1_method_58_code (2 : Nat) (Option.some Jvm.ClassFile.FieldType.int)) ∈ lw_all := lw_g (lw_at lw_m6 15 rfl) rfl
theorem q1288 : (Jvm.Cond.instanceMethod ({ cls := "FuneralDebts", name := "tape", desc := "(III)I" } : Jvm.MethodName)) ∈ lw_all := lw_g (lw_at lw_m6 17 rfl) rfl
theorem q1289 : (Jvm.Cond.selects "FuneralDebts" ({ cls := "FuneralDebts", name := "tape", desc := "(III)I" } : Jvm.MethodName) ({ cls := "FuneralDebts", name := "tape", desc := "(III)I" } : Jvm.MethodName)) ∈ lw_all := lw_g (lw_at lw_m6 18 rfl) rfl
theorem q1290 : (Jvm.Cond.codeWith ({ cls := "FuneralDebts", name := "tape", desc := "(III)I" } : Jvm.MethodName) prog_1_method_61_code (5 : Nat) (Option.some Jvm.ClassFile.FieldType.int) [((32 : Nat), (56 : Nat), (57 : Nat), (406 : Nat))]) ∈ lw_all := lw_g (lw_at lw_m6 19 rfl) rfl
theorem q1291 : (Jvm.Cond.classLink "FuneralDebts" (406 : Nat) "java/lang/NegativeArraySizeException") ∈ lw_all := lw_g (lw_at lw_m6 20 rfl) rfl
theorem q1305 : (Jvm.Cond.methodLink "FuneralDebts" (402 : Nat) ({ cls := "FuneralDebts", name := "rowOf", desc := "(II)Ljava/lang/Object;" } : Jvm.MethodName)) ∈ lw_all := lw_g (lw_at lw_m6 34 rfl) rfl
theorem q1306 : (Jvm.Cond.static ({ cls := "FuneralDebts", name := "rowOf", desc := "(II)Ljava/lang/Object;" } : Jvm.MethodName)) ∈ lw_all := lw_g (lw_at lw_m6 35 rfl) rfl
theorem q1307 : (Jvm.Cond.code ({ cls := "FuneralDebts", name := "rowOf", desc := "(II)Ljava/lang/Object;" } : Jvm.MethodName) prog_1_method_59_code (2 : Nat) (Option.some (Jvm.ClassFile.FieldType.object "java/lang/Object"))) ∈ lw_all := lw_g (lw_at lw_m6 36 rfl) rfl
theorem q1312 : (Jvm.Cond.instanceMethod ({ cls := "FuneralDebts", name := "item", desc := "(IIJ)I" } : Jvm.MethodName)) ∈ lw_all := lw_g (lw_at lw_m6 41 rfl) rfl
theorem q1313 : (Jvm.Cond.selects "FuneralDebts" ({ cls := "FuneralDebts", name := "item", desc := "(IIJ)I" } : Jvm.MethodName) ({ cls := "FuneralDebts", name := "item", desc := "(IIJ)I" } : Jvm.MethodName)) ∈ lw_all := lw_g (lw_at lw_m6 42 rfl) rfl
theorem q1314 : (Jvm.Cond.codeWith ({ cls := "FuneralDebts", name := "item", desc := "(IIJ)I" } : Jvm.MethodName) prog_1_method_62_code (11 : Nat) (Option.some Jvm.ClassFile.FieldType.int) [((17 : Nat), (23 : Nat), (26 : Nat), (289 : Nat))]) ∈ lw_all := lw_g (lw_at lw_m6 43 rfl) rfl
theorem q1315 : (Jvm.Cond.methodLinkNest "FuneralDebts" (408 : Nat) ({ cls := "FuneralDebts$Tape", name := "has", desc := "(I)V" } : Jvm.MethodName) "FuneralDebts") ∈ lw_tbl := lw_at lw_m6 44 rfl
theorem q1331 : (Jvm.Cond.classLink "FuneralDebts" (411 : Nat) "[B") ∈ lw_all := lw_g (lw_at lw_m6 60 rfl) rfl
theorem q1332 : (Jvm.Cond.classLink "FuneralDebts" (412 : Nat) "[I") ∈ lw_all := lw_g (lw_at lw_m6 61 rfl) rfl
theorem q1333 : (Jvm.Cond.classLink "FuneralDebts" (413 : Nat) "[J") ∈ lw_all := lw_g (lw_at lw_m6 62 rfl) rfl
theorem q1334 : (Jvm.Cond.classLink "FuneralDebts" (415 : Nat) "[Z") ∈ lw_all := lw_g (lw_at lw_m6 63 rfl) rfl
theorem q1336 : (Jvm.Cond.instanceMethod ({ cls := "FuneralDebts", name := "read", desc := "(II)J" } : Jvm.MethodName)) ∈ lw_all := lw_g (lw_at lw_m6 65 rfl) rfl
theorem q1337 : (Jvm.Cond.selects "FuneralDebts" ({ cls := "FuneralDebts", name := "read", desc := "(II)J" } : Jvm.MethodName) ({ cls := "FuneralDebts", name := "read", desc := "(II)J" } : Jvm.MethodName)) ∈ lw_all := lw_g (lw_at lw_m6 66 rfl) rfl
theorem q1338 : (Jvm.Cond.code ({ cls := "FuneralDebts", name := "read", desc := "(II)J" } : Jvm.MethodName) prog_1_method_63_code (6 : Nat) (Option.some Jvm.ClassFile.FieldType.long)) ∈ lw_all := lw_g (lw_at lw_m6 67 rfl) rfl
theorem q1339 : (Jvm.Cond.methodLinkNest "FuneralDebts" (417 : Nat) ({ cls := "FuneralDebts$Tape", name := "size", desc := "()I" } : Jvm.MethodName) "FuneralDebts") ∈ lw_tbl := lw_at lw_m6 68 rfl
theorem q1341 : (Jvm.Cond.instanceMethod ({ cls := "FuneralDebts", name := "shift", desc := "(IIIII)I" } : Jvm.MethodName)) ∈ lw_all := lw_g (lw_at lw_m6 70 rfl) rfl
theorem q1342 : (Jvm.Cond.selects "FuneralDebts" ({ cls := "FuneralDebts", name := "shift", desc := "(IIIII)I" } : Jvm.MethodName) ({ cls := "FuneralDebts", name := "shift", desc := "(IIIII)I" } : Jvm.MethodName)) ∈ lw_all := lw_g (lw_at lw_m6 71 rfl) rfl
theorem q1343 : (Jvm.Cond.codeWith ({ cls := "FuneralDebts", name := "shift", desc := "(IIIII)I" } : Jvm.MethodName) prog_1_method_64_code (7 : Nat) (Option.some Jvm.ClassFile.FieldType.int) [((16 : Nat), (44 : Nat), (45 : Nat), (348 : Nat)), ((16 : Nat), (44 : Nat), (50 : Nat), (420 : Nat)), ((16 : Nat), (44 : Nat), (55 : Nat), (422 : Nat))]) ∈ lw_all := lw_g (lw_at lw_m6 72 rfl) rfl
theorem q1344 : (Jvm.Cond.classLink "FuneralDebts" (420 : Nat) "java/lang/ArrayStoreException") ∈ lw_all := lw_g (lw_at lw_m6 73 rfl) rfl
theorem q1358 : (Jvm.Cond.classLink "FuneralDebts" (422 : Nat) "java/lang/IndexOutOfBoundsException") ∈ lw_all := lw_g (lw_at lw_m6 87 rfl) rfl
theorem q1770 : (Jvm.Cond.castable "FuneralDebts" "java/lang/Object") ∈ lw_tbl := lw_at lw_m8 19 rfl
theorem in_X0 : ∀ w ∈ wsX00, w ∈ lw_all := lw_in wsX00 [300, 302, 304, 306, 308, 310, 312, 314, 316, 318, 320, 322, 324, 326, 328, 330, 332, 334, 336, 338, 340, 342, 344, 346, 348, 350, 352, 354, 356, 358, 360, 362, 364, 366] (by decide +kernel) (by decide +kernel)
