/-! SwapBook -/
set_option maxRecDepth 100000
def RX0 : String := "SwapBook"
def TX0 : u_T := fun k => match k with
  | 0 => ("SwapBook", "trays", "[LSwapBook$Tray;", true)
  | 1 => ("SwapBook", "reader", "LSwapBook$Reader;", true)
  | 2 => ("SwapBook", "had", "[I", true)
  | 3 => ("SwapBook", "order", "[I", true)
  | 4 => ("SwapBook", "book", "LSwapBook$Book;", false)
  | 5 => ("SwapBook", "steps", "[LSwapBook$Step;", false)
  | 6 => ("SwapBook", "stepMany", "I", false)
  | 7 => ("SwapBook", "orderMany", "I", false)
  | 8 => ("SwapBook", "status", "I", false)
  | 9 => ("SwapBook", "faultKind", "I", false)
  | 10 => ("SwapBook", "faultPlace", "I", false)
  | 11 => ("SwapBook", "top", "J", false)
  | 12 => ("SwapBook", "bottom", "J", false)
  | 13 => ("SwapBook", "things", "[I", true)
  | 14 => ("SwapBook", "keys", "[I", true)
  | 15 => ("SwapBook", "others", "[I", true)
  | 16 => ("SwapBook", "thingMany", "I", false)
  | 17 => ("SwapBook", "rest", "[J", true)
  | 18 => ("SwapBook", "come", "[J", true)
  | 19 => ("SwapBook", "stands", "[I", true)
  | 20 => ("SwapBook", "cargo", "[I", true)
  | 21 => ("SwapBook", "cargoTo", "[I", true)
  | 22 => ("SwapBook", "cargoDay", "[I", true)
  | 23 => ("SwapBook", "cargoShip", "[I", true)
  | 24 => ("SwapBook", "cargoMany", "I", false)
  | 25 => ("SwapBook", "drawn", "I", false)
  | 26 => ("SwapBook", "day", "I", false)
  | 27 => ("SwapBook", "missed", "I", false)
  | 28 => ("SwapBook", "came", "I", false)
  | 29 => ("SwapBook", "lost", "I", false)
  | 30 => ("SwapBook", "ships", "I", false)
  | 31 => ("SwapBook", "ranSteps", "I", false)
  | 32 => ("SwapBook", "told", "[I", true)
  | 33 => ("SwapBook", "isTold", "Z", false)
  | 34 => ("SwapBook", "before", "[I", true)
  | 35 => ("SwapBook", "kept", "[LSwapBook$Kept;", true)
  | _ => ("SwapBook", "marks", "I", false)
def tyX0 : Nat → FieldType := fun k => match k with
  | 0 => .array (.object "SwapBook$Tray")
  | 1 => .object "SwapBook$Reader"
  | 2 => .array .int
  | 3 => .array .int
  | 4 => .object "SwapBook$Book"
  | 5 => .array (.object "SwapBook$Step")
  | 6 => .int
  | 7 => .int
  | 8 => .int
  | 9 => .int
  | 10 => .int
  | 11 => .long
  | 12 => .long
  | 13 => .array .int
  | 14 => .array .int
  | 15 => .array .int
  | 16 => .int
  | 17 => .array .long
  | 18 => .array .long
  | 19 => .array .int
  | 20 => .array .int
  | 21 => .array .int
  | 22 => .array .int
  | 23 => .array .int
  | 24 => .int
  | 25 => .int
  | 26 => .int
  | 27 => .int
  | 28 => .int
  | 29 => .int
  | 30 => .int
  | 31 => .int
  | 32 => .array .int
  | 33 => .boolean
  | 34 => .array .int
  | 35 => .array (.object "SwapBook$Kept")
  | _ => .int
abbrev wsX00 : List Cond := u_ws RX0 TX0 37
set_option maxRecDepth 100000 in
theorem nmX0 : ∀ a, a < 37 → ∀ b, b < 37 → a ≠ b → (TX0 a).2.1 ≠ (TX0 b).2.1 := by decide +kernel
set_option maxRecDepth 100000 in
theorem tyX0_ok : ∀ k, k < 37 → parseFieldDescriptor (TX0 k).2.2.1 = some (tyX0 k) := by decide +kernel
abbrev cX0_init : ByteArray := prog_1_method_1_code
def yX0_init : MethodName := ⟨RX0, "<init>", "()V"⟩
def dkwX0_init_8 : List UInt8 := [187, 0, 9, 89, 183, 0, 96, 83, 132, 1, 1, 167, 255, 235, 177]
abbrev dktX0_init_8 : List UInt8 := dkwX0_init_8 ++ []
def dkwX0_init_7 : List UInt8 := [181, 0, 87, 42, 6, 189, 0, 90, 181, 0, 92, 3, 60, 27, 7, 162, 0, 22, 42, 180, 0, 11, 27]
abbrev dktX0_init_7 : List UInt8 := dkwX0_init_7 ++ dktX0_init_8
def dkwX0_init_6 : List UInt8 := [181, 0, 78, 42, 16, 20, 188, 10, 181, 0, 81, 42, 8, 188, 10, 181, 0, 84, 42, 7, 188, 10]
abbrev dktX0_init_6 : List UInt8 := dkwX0_init_6 ++ dktX0_init_7
def dkwX0_init_5 : List UInt8 := [181, 0, 69, 42, 16, 20, 188, 10, 181, 0, 72, 42, 16, 20, 188, 10, 181, 0, 75, 42, 16, 20, 188, 10]
abbrev dktX0_init_5 : List UInt8 := dkwX0_init_5 ++ dktX0_init_6
def dkwX0_init_4 : List UInt8 := [181, 0, 58, 42, 18, 61, 188, 11, 181, 0, 62, 42, 18, 61, 188, 11, 181, 0, 66, 42, 16, 16, 188, 10]
abbrev dktX0_init_4 : List UInt8 := dkwX0_init_4 ++ dktX0_init_5
def dkwX0_init_3 : List UInt8 := [181, 0, 48, 42, 16, 16, 188, 10, 181, 0, 52, 42, 16, 16, 188, 10, 181, 0, 55, 42, 16, 16, 188, 10]
abbrev dktX0_init_3 : List UInt8 := dkwX0_init_3 ++ dktX0_init_4
def dkwX0_init_2 : List UInt8 := [187, 0, 34, 89, 183, 0, 36, 181, 0, 37, 42, 2, 181, 0, 41, 42, 2, 181, 0, 45, 42, 10]
abbrev dktX0_init_2 : List UInt8 := dkwX0_init_2 ++ dktX0_init_3
def dkwX0_init_1 : List UInt8 := [183, 0, 20, 181, 0, 23, 42, 7, 188, 10, 181, 0, 27, 42, 16, 16, 188, 10, 181, 0, 31, 42]
abbrev dktX0_init_1 : List UInt8 := dkwX0_init_1 ++ dktX0_init_2
def dkwX0_init_0 : List UInt8 := [42, 183, 0, 3, 42, 7, 189, 0, 9, 181, 0, 11, 42, 187, 0, 15, 89, 187, 0, 17, 89, 183, 0, 19]
abbrev dktX0_init_0 : List UInt8 := dkwX0_init_0 ++ dktX0_init_1
theorem dksX0_init_0 : cX0_init.data.toList.drop 0 = dktX0_init_0 := by decide +kernel
theorem dksX0_init_1 : cX0_init.data.toList.drop 24 = dktX0_init_1 := dk_seg dksX0_init_0 24 rfl rfl
theorem dksX0_init_2 : cX0_init.data.toList.drop 46 = dktX0_init_2 := dk_seg dksX0_init_1 22 rfl rfl
theorem dksX0_init_3 : cX0_init.data.toList.drop 68 = dktX0_init_3 := dk_seg dksX0_init_2 22 rfl rfl
theorem dksX0_init_4 : cX0_init.data.toList.drop 92 = dktX0_init_4 := dk_seg dksX0_init_3 24 rfl rfl
theorem dksX0_init_5 : cX0_init.data.toList.drop 116 = dktX0_init_5 := dk_seg dksX0_init_4 24 rfl rfl
theorem dksX0_init_6 : cX0_init.data.toList.drop 140 = dktX0_init_6 := dk_seg dksX0_init_5 24 rfl rfl
theorem dksX0_init_7 : cX0_init.data.toList.drop 162 = dktX0_init_7 := dk_seg dksX0_init_6 22 rfl rfl
theorem dksX0_init_8 : cX0_init.data.toList.drop 185 = dktX0_init_8 := dk_seg dksX0_init_7 23 rfl rfl
theorem dX0_init_0 : decode cX0_init 0 = .ok (.aload_n 0, 1) := dk_42 (dk_at dksX0_init_0 0 rfl rfl)
theorem dX0_init_1 : decode cX0_init 1 = .ok (.invokespecial 3, 3) := dk_183 0 3 (dk_at dksX0_init_0 1 rfl rfl)
theorem dX0_init_4 : decode cX0_init 4 = .ok (.aload_n 0, 1) := dk_42 (dk_at dksX0_init_0 4 rfl rfl)
theorem dX0_init_5 : decode cX0_init 5 = .ok (.iconst 4, 1) := dk_7 (dk_at dksX0_init_0 5 rfl rfl)
theorem dX0_init_6 : decode cX0_init 6 = .ok (.anewarray 9, 3) := dk_189 0 9 (dk_at dksX0_init_0 6 rfl rfl)
theorem dX0_init_9 : decode cX0_init 9 = .ok (.putfield 11, 3) := dk_181 0 11 (dk_at dksX0_init_0 9 rfl rfl)
theorem dX0_init_12 : decode cX0_init 12 = .ok (.aload_n 0, 1) := dk_42 (dk_at dksX0_init_0 12 rfl rfl)
theorem dX0_init_13 : decode cX0_init 13 = .ok (.new 15, 3) := dk_187 0 15 (dk_at dksX0_init_0 13 rfl rfl)
theorem dX0_init_16 : decode cX0_init 16 = .ok (.dup, 1) := dk_89 (dk_at dksX0_init_0 16 rfl rfl)
theorem dX0_init_17 : decode cX0_init 17 = .ok (.new 17, 3) := dk_187 0 17 (dk_at dksX0_init_0 17 rfl rfl)
theorem dX0_init_20 : decode cX0_init 20 = .ok (.dup, 1) := dk_89 (dk_at dksX0_init_0 20 rfl rfl)
theorem dX0_init_21 : decode cX0_init 21 = .ok (.invokespecial 19, 3) := dk_183 0 19 (dk_at dksX0_init_0 21 rfl rfl)
theorem dX0_init_24 : decode cX0_init 24 = .ok (.invokespecial 20, 3) := dk_183 0 20 (dk_at dksX0_init_1 0 rfl rfl)
theorem dX0_init_27 : decode cX0_init 27 = .ok (.putfield 23, 3) := dk_181 0 23 (dk_at dksX0_init_1 3 rfl rfl)
theorem dX0_init_30 : decode cX0_init 30 = .ok (.aload_n 0, 1) := dk_42 (dk_at dksX0_init_1 6 rfl rfl)
theorem dX0_init_31 : decode cX0_init 31 = .ok (.iconst 4, 1) := dk_7 (dk_at dksX0_init_1 7 rfl rfl)
theorem dX0_init_32 : decode cX0_init 32 = .ok (.newarray .int, 2) := dk_188_10 (dk_at dksX0_init_1 8 rfl rfl)
theorem dX0_init_34 : decode cX0_init 34 = .ok (.putfield 27, 3) := dk_181 0 27 (dk_at dksX0_init_1 10 rfl rfl)
theorem dX0_init_37 : decode cX0_init 37 = .ok (.aload_n 0, 1) := dk_42 (dk_at dksX0_init_1 13 rfl rfl)
theorem dX0_init_38 : decode cX0_init 38 = .ok (.bipush 16, 2) := dk_16 16 (dk_at dksX0_init_1 14 rfl rfl)
theorem dX0_init_40 : decode cX0_init 40 = .ok (.newarray .int, 2) := dk_188_10 (dk_at dksX0_init_1 16 rfl rfl)
theorem dX0_init_42 : decode cX0_init 42 = .ok (.putfield 31, 3) := dk_181 0 31 (dk_at dksX0_init_1 18 rfl rfl)
theorem dX0_init_45 : decode cX0_init 45 = .ok (.aload_n 0, 1) := dk_42 (dk_at dksX0_init_1 21 rfl rfl)
theorem dX0_init_46 : decode cX0_init 46 = .ok (.new 34, 3) := dk_187 0 34 (dk_at dksX0_init_2 0 rfl rfl)
theorem dX0_init_49 : decode cX0_init 49 = .ok (.dup, 1) := dk_89 (dk_at dksX0_init_2 3 rfl rfl)
theorem dX0_init_50 : decode cX0_init 50 = .ok (.invokespecial 36, 3) := dk_183 0 36 (dk_at dksX0_init_2 4 rfl rfl)
theorem dX0_init_53 : decode cX0_init 53 = .ok (.putfield 37, 3) := dk_181 0 37 (dk_at dksX0_init_2 7 rfl rfl)
theorem dX0_init_56 : decode cX0_init 56 = .ok (.aload_n 0, 1) := dk_42 (dk_at dksX0_init_2 10 rfl rfl)
theorem dX0_init_57 : decode cX0_init 57 = .ok (.iconst (-1), 1) := dk_2 (dk_at dksX0_init_2 11 rfl rfl)
theorem dX0_init_58 : decode cX0_init 58 = .ok (.putfield 41, 3) := dk_181 0 41 (dk_at dksX0_init_2 12 rfl rfl)
theorem dX0_init_61 : decode cX0_init 61 = .ok (.aload_n 0, 1) := dk_42 (dk_at dksX0_init_2 15 rfl rfl)
theorem dX0_init_62 : decode cX0_init 62 = .ok (.iconst (-1), 1) := dk_2 (dk_at dksX0_init_2 16 rfl rfl)
theorem dX0_init_63 : decode cX0_init 63 = .ok (.putfield 45, 3) := dk_181 0 45 (dk_at dksX0_init_2 17 rfl rfl)
theorem dX0_init_66 : decode cX0_init 66 = .ok (.aload_n 0, 1) := dk_42 (dk_at dksX0_init_2 20 rfl rfl)
theorem dX0_init_67 : decode cX0_init 67 = .ok (.lconst 1, 1) := dk_10 (dk_at dksX0_init_2 21 rfl rfl)
theorem dX0_init_68 : decode cX0_init 68 = .ok (.putfield 48, 3) := dk_181 0 48 (dk_at dksX0_init_3 0 rfl rfl)
theorem dX0_init_71 : decode cX0_init 71 = .ok (.aload_n 0, 1) := dk_42 (dk_at dksX0_init_3 3 rfl rfl)
theorem dX0_init_72 : decode cX0_init 72 = .ok (.bipush 16, 2) := dk_16 16 (dk_at dksX0_init_3 4 rfl rfl)
theorem dX0_init_74 : decode cX0_init 74 = .ok (.newarray .int, 2) := dk_188_10 (dk_at dksX0_init_3 6 rfl rfl)
theorem dX0_init_76 : decode cX0_init 76 = .ok (.putfield 52, 3) := dk_181 0 52 (dk_at dksX0_init_3 8 rfl rfl)
theorem dX0_init_79 : decode cX0_init 79 = .ok (.aload_n 0, 1) := dk_42 (dk_at dksX0_init_3 11 rfl rfl)
theorem dX0_init_80 : decode cX0_init 80 = .ok (.bipush 16, 2) := dk_16 16 (dk_at dksX0_init_3 12 rfl rfl)
theorem dX0_init_82 : decode cX0_init 82 = .ok (.newarray .int, 2) := dk_188_10 (dk_at dksX0_init_3 14 rfl rfl)
theorem dX0_init_84 : decode cX0_init 84 = .ok (.putfield 55, 3) := dk_181 0 55 (dk_at dksX0_init_3 16 rfl rfl)
theorem dX0_init_87 : decode cX0_init 87 = .ok (.aload_n 0, 1) := dk_42 (dk_at dksX0_init_3 19 rfl rfl)
theorem dX0_init_88 : decode cX0_init 88 = .ok (.bipush 16, 2) := dk_16 16 (dk_at dksX0_init_3 20 rfl rfl)
theorem dX0_init_90 : decode cX0_init 90 = .ok (.newarray .int, 2) := dk_188_10 (dk_at dksX0_init_3 22 rfl rfl)
theorem dX0_init_92 : decode cX0_init 92 = .ok (.putfield 58, 3) := dk_181 0 58 (dk_at dksX0_init_4 0 rfl rfl)
theorem dX0_init_95 : decode cX0_init 95 = .ok (.aload_n 0, 1) := dk_42 (dk_at dksX0_init_4 3 rfl rfl)
theorem dX0_init_96 : decode cX0_init 96 = .ok (.ldc 61, 2) := dk_18 61 (dk_at dksX0_init_4 4 rfl rfl)
theorem dX0_init_98 : decode cX0_init 98 = .ok (.newarray .long, 2) := dk_188_11 (dk_at dksX0_init_4 6 rfl rfl)
theorem dX0_init_100 : decode cX0_init 100 = .ok (.putfield 62, 3) := dk_181 0 62 (dk_at dksX0_init_4 8 rfl rfl)
theorem dX0_init_103 : decode cX0_init 103 = .ok (.aload_n 0, 1) := dk_42 (dk_at dksX0_init_4 11 rfl rfl)
theorem dX0_init_104 : decode cX0_init 104 = .ok (.ldc 61, 2) := dk_18 61 (dk_at dksX0_init_4 12 rfl rfl)
theorem dX0_init_106 : decode cX0_init 106 = .ok (.newarray .long, 2) := dk_188_11 (dk_at dksX0_init_4 14 rfl rfl)
theorem dX0_init_108 : decode cX0_init 108 = .ok (.putfield 66, 3) := dk_181 0 66 (dk_at dksX0_init_4 16 rfl rfl)
theorem dX0_init_111 : decode cX0_init 111 = .ok (.aload_n 0, 1) := dk_42 (dk_at dksX0_init_4 19 rfl rfl)
theorem dX0_init_112 : decode cX0_init 112 = .ok (.bipush 16, 2) := dk_16 16 (dk_at dksX0_init_4 20 rfl rfl)
theorem dX0_init_114 : decode cX0_init 114 = .ok (.newarray .int, 2) := dk_188_10 (dk_at dksX0_init_4 22 rfl rfl)
theorem dX0_init_116 : decode cX0_init 116 = .ok (.putfield 69, 3) := dk_181 0 69 (dk_at dksX0_init_5 0 rfl rfl)
theorem dX0_init_119 : decode cX0_init 119 = .ok (.aload_n 0, 1) := dk_42 (dk_at dksX0_init_5 3 rfl rfl)
theorem dX0_init_120 : decode cX0_init 120 = .ok (.bipush 20, 2) := dk_16 20 (dk_at dksX0_init_5 4 rfl rfl)
theorem dX0_init_122 : decode cX0_init 122 = .ok (.newarray .int, 2) := dk_188_10 (dk_at dksX0_init_5 6 rfl rfl)
theorem dX0_init_124 : decode cX0_init 124 = .ok (.putfield 72, 3) := dk_181 0 72 (dk_at dksX0_init_5 8 rfl rfl)
theorem dX0_init_127 : decode cX0_init 127 = .ok (.aload_n 0, 1) := dk_42 (dk_at dksX0_init_5 11 rfl rfl)
theorem dX0_init_128 : decode cX0_init 128 = .ok (.bipush 20, 2) := dk_16 20 (dk_at dksX0_init_5 12 rfl rfl)
theorem dX0_init_130 : decode cX0_init 130 = .ok (.newarray .int, 2) := dk_188_10 (dk_at dksX0_init_5 14 rfl rfl)
theorem dX0_init_132 : decode cX0_init 132 = .ok (.putfield 75, 3) := dk_181 0 75 (dk_at dksX0_init_5 16 rfl rfl)
theorem dX0_init_135 : decode cX0_init 135 = .ok (.aload_n 0, 1) := dk_42 (dk_at dksX0_init_5 19 rfl rfl)
theorem dX0_init_136 : decode cX0_init 136 = .ok (.bipush 20, 2) := dk_16 20 (dk_at dksX0_init_5 20 rfl rfl)
theorem dX0_init_138 : decode cX0_init 138 = .ok (.newarray .int, 2) := dk_188_10 (dk_at dksX0_init_5 22 rfl rfl)
theorem dX0_init_140 : decode cX0_init 140 = .ok (.putfield 78, 3) := dk_181 0 78 (dk_at dksX0_init_6 0 rfl rfl)
theorem dX0_init_143 : decode cX0_init 143 = .ok (.aload_n 0, 1) := dk_42 (dk_at dksX0_init_6 3 rfl rfl)
theorem dX0_init_144 : decode cX0_init 144 = .ok (.bipush 20, 2) := dk_16 20 (dk_at dksX0_init_6 4 rfl rfl)
theorem dX0_init_146 : decode cX0_init 146 = .ok (.newarray .int, 2) := dk_188_10 (dk_at dksX0_init_6 6 rfl rfl)
theorem dX0_init_148 : decode cX0_init 148 = .ok (.putfield 81, 3) := dk_181 0 81 (dk_at dksX0_init_6 8 rfl rfl)
theorem dX0_init_151 : decode cX0_init 151 = .ok (.aload_n 0, 1) := dk_42 (dk_at dksX0_init_6 11 rfl rfl)
theorem dX0_init_152 : decode cX0_init 152 = .ok (.iconst 5, 1) := dk_8 (dk_at dksX0_init_6 12 rfl rfl)
theorem dX0_init_153 : decode cX0_init 153 = .ok (.newarray .int, 2) := dk_188_10 (dk_at dksX0_init_6 13 rfl rfl)
theorem dX0_init_155 : decode cX0_init 155 = .ok (.putfield 84, 3) := dk_181 0 84 (dk_at dksX0_init_6 15 rfl rfl)
theorem dX0_init_158 : decode cX0_init 158 = .ok (.aload_n 0, 1) := dk_42 (dk_at dksX0_init_6 18 rfl rfl)
theorem dX0_init_159 : decode cX0_init 159 = .ok (.iconst 4, 1) := dk_7 (dk_at dksX0_init_6 19 rfl rfl)
theorem dX0_init_160 : decode cX0_init 160 = .ok (.newarray .int, 2) := dk_188_10 (dk_at dksX0_init_6 20 rfl rfl)
theorem dX0_init_162 : decode cX0_init 162 = .ok (.putfield 87, 3) := dk_181 0 87 (dk_at dksX0_init_7 0 rfl rfl)
theorem dX0_init_165 : decode cX0_init 165 = .ok (.aload_n 0, 1) := dk_42 (dk_at dksX0_init_7 3 rfl rfl)
theorem dX0_init_166 : decode cX0_init 166 = .ok (.iconst 3, 1) := dk_6 (dk_at dksX0_init_7 4 rfl rfl)
theorem dX0_init_167 : decode cX0_init 167 = .ok (.anewarray 90, 3) := dk_189 0 90 (dk_at dksX0_init_7 5 rfl rfl)
theorem dX0_init_170 : decode cX0_init 170 = .ok (.putfield 92, 3) := dk_181 0 92 (dk_at dksX0_init_7 8 rfl rfl)
theorem dX0_init_173 : decode cX0_init 173 = .ok (.iconst 0, 1) := dk_3 (dk_at dksX0_init_7 11 rfl rfl)
theorem dX0_init_174 : decode cX0_init 174 = .ok (.istore_n 1, 1) := dk_60 (dk_at dksX0_init_7 12 rfl rfl)
theorem dX0_init_175 : decode cX0_init 175 = .ok (.iload_n 1, 1) := dk_27 (dk_at dksX0_init_7 13 rfl rfl)
theorem dX0_init_176 : decode cX0_init 176 = .ok (.iconst 4, 1) := dk_7 (dk_at dksX0_init_7 14 rfl rfl)
theorem dX0_init_177 : decode cX0_init 177 = .ok (.if_icmp .ge 22, 3) := dk_162 0 22 (dk_at dksX0_init_7 15 rfl rfl)
theorem dX0_init_180 : decode cX0_init 180 = .ok (.aload_n 0, 1) := dk_42 (dk_at dksX0_init_7 18 rfl rfl)
theorem dX0_init_181 : decode cX0_init 181 = .ok (.getfield 11, 3) := dk_180 0 11 (dk_at dksX0_init_7 19 rfl rfl)
theorem dX0_init_184 : decode cX0_init 184 = .ok (.iload_n 1, 1) := dk_27 (dk_at dksX0_init_7 22 rfl rfl)
theorem dX0_init_185 : decode cX0_init 185 = .ok (.new 9, 3) := dk_187 0 9 (dk_at dksX0_init_8 0 rfl rfl)
theorem dX0_init_188 : decode cX0_init 188 = .ok (.dup, 1) := dk_89 (dk_at dksX0_init_8 3 rfl rfl)
theorem dX0_init_189 : decode cX0_init 189 = .ok (.invokespecial 96, 3) := dk_183 0 96 (dk_at dksX0_init_8 4 rfl rfl)
theorem dX0_init_192 : decode cX0_init 192 = .ok (.aastore, 1) := dk_83 (dk_at dksX0_init_8 7 rfl rfl)
theorem dX0_init_193 : decode cX0_init 193 = .ok (.iinc 1 1, 3) := dk_132 1 1 (dk_at dksX0_init_8 8 rfl rfl)
theorem dX0_init_196 : decode cX0_init 196 = .ok (.goto (-21), 3) := dk_167 255 235 (dk_at dksX0_init_8 11 rfl rfl)
theorem dX0_init_199 : decode cX0_init 199 = .ok (.return_, 1) := dk_177 (dk_at dksX0_init_8 14 rfl rfl)
abbrev cX0_status : ByteArray := prog_1_method_2_code
def yX0_status : MethodName := ⟨RX0, "status", "()I"⟩
theorem dX0_status_0 : decode cX0_status 0 = .ok (.aload_n 0, 1) := by decide +kernel
theorem dX0_status_1 : decode cX0_status 1 = .ok (.getfield 97, 3) := by decide +kernel
theorem dX0_status_4 : decode cX0_status 4 = .ok (.ireturn, 1) := by decide +kernel
abbrev cX0_top : ByteArray := prog_1_method_3_code
def yX0_top : MethodName := ⟨RX0, "top", "()J"⟩
theorem dX0_top_0 : decode cX0_top 0 = .ok (.aload_n 0, 1) := by decide +kernel
theorem dX0_top_1 : decode cX0_top 1 = .ok (.getfield 100, 3) := by decide +kernel
theorem dX0_top_4 : decode cX0_top 4 = .ok (.lreturn, 1) := by decide +kernel
abbrev cX0_bottom : ByteArray := prog_1_method_4_code
def yX0_bottom : MethodName := ⟨RX0, "bottom", "()J"⟩
theorem dX0_bottom_0 : decode cX0_bottom 0 = .ok (.aload_n 0, 1) := by decide +kernel
theorem dX0_bottom_1 : decode cX0_bottom 1 = .ok (.getfield 48, 3) := by decide +kernel
theorem dX0_bottom_4 : decode cX0_bottom 4 = .ok (.lreturn, 1) := by decide +kernel
abbrev cX0_tray : ByteArray := prog_1_method_10_code
def yX0_tray : MethodName := ⟨RX0, "tray", "(III)Z"⟩
def dkwX0_tray_2 : List UInt8 := [167, 0, 12, 58, 4, 42, 16, 6, 182, 0, 103, 172, 42, 3, 182, 0, 103, 172]
abbrev dktX0_tray_2 : List UInt8 := dkwX0_tray_2 ++ []
def dkwX0_tray_1 : List UInt8 := [16, 60, 164, 0, 9, 42, 8, 182, 0, 103, 172, 42, 180, 0, 11, 27, 50, 28, 29, 182, 0, 110]
abbrev dktX0_tray_1 : List UInt8 := dkwX0_tray_1 ++ dktX0_tray_2
def dkwX0_tray_0 : List UInt8 := [27, 184, 0, 107, 153, 0, 12, 28, 155, 0, 8, 28, 6, 164, 0, 9, 42, 4, 182, 0, 103, 172, 29]
abbrev dktX0_tray_0 : List UInt8 := dkwX0_tray_0 ++ dktX0_tray_1
theorem dksX0_tray_0 : cX0_tray.data.toList.drop 0 = dktX0_tray_0 := by decide +kernel
theorem dksX0_tray_1 : cX0_tray.data.toList.drop 23 = dktX0_tray_1 := dk_seg dksX0_tray_0 23 rfl rfl
theorem dksX0_tray_2 : cX0_tray.data.toList.drop 45 = dktX0_tray_2 := dk_seg dksX0_tray_1 22 rfl rfl
theorem dX0_tray_0 : decode cX0_tray 0 = .ok (.iload_n 1, 1) := dk_27 (dk_at dksX0_tray_0 0 rfl rfl)
theorem dX0_tray_1 : decode cX0_tray 1 = .ok (.invokestatic 107, 3) := dk_184 0 107 (dk_at dksX0_tray_0 1 rfl rfl)
theorem dX0_tray_4 : decode cX0_tray 4 = .ok (.ifCond .eq 12, 3) := dk_153 0 12 (dk_at dksX0_tray_0 4 rfl rfl)
theorem dX0_tray_7 : decode cX0_tray 7 = .ok (.iload_n 2, 1) := dk_28 (dk_at dksX0_tray_0 7 rfl rfl)
theorem dX0_tray_8 : decode cX0_tray 8 = .ok (.ifCond .lt 8, 3) := dk_155 0 8 (dk_at dksX0_tray_0 8 rfl rfl)
theorem dX0_tray_11 : decode cX0_tray 11 = .ok (.iload_n 2, 1) := dk_28 (dk_at dksX0_tray_0 11 rfl rfl)
theorem dX0_tray_12 : decode cX0_tray 12 = .ok (.iconst 3, 1) := dk_6 (dk_at dksX0_tray_0 12 rfl rfl)
theorem dX0_tray_13 : decode cX0_tray 13 = .ok (.if_icmp .le 9, 3) := dk_164 0 9 (dk_at dksX0_tray_0 13 rfl rfl)
theorem dX0_tray_16 : decode cX0_tray 16 = .ok (.aload_n 0, 1) := dk_42 (dk_at dksX0_tray_0 16 rfl rfl)
theorem dX0_tray_17 : decode cX0_tray 17 = .ok (.iconst 1, 1) := dk_4 (dk_at dksX0_tray_0 17 rfl rfl)
theorem dX0_tray_18 : decode cX0_tray 18 = .ok (.invokevirtual 103, 3) := dk_182 0 103 (dk_at dksX0_tray_0 18 rfl rfl)
theorem dX0_tray_21 : decode cX0_tray 21 = .ok (.ireturn, 1) := dk_172 (dk_at dksX0_tray_0 21 rfl rfl)
theorem dX0_tray_22 : decode cX0_tray 22 = .ok (.iload_n 3, 1) := dk_29 (dk_at dksX0_tray_0 22 rfl rfl)
theorem dX0_tray_23 : decode cX0_tray 23 = .ok (.bipush 60, 2) := dk_16 60 (dk_at dksX0_tray_1 0 rfl rfl)
theorem dX0_tray_25 : decode cX0_tray 25 = .ok (.if_icmp .le 9, 3) := dk_164 0 9 (dk_at dksX0_tray_1 2 rfl rfl)
theorem dX0_tray_28 : decode cX0_tray 28 = .ok (.aload_n 0, 1) := dk_42 (dk_at dksX0_tray_1 5 rfl rfl)
theorem dX0_tray_29 : decode cX0_tray 29 = .ok (.iconst 5, 1) := dk_8 (dk_at dksX0_tray_1 6 rfl rfl)
theorem dX0_tray_30 : decode cX0_tray 30 = .ok (.invokevirtual 103, 3) := dk_182 0 103 (dk_at dksX0_tray_1 7 rfl rfl)
theorem dX0_tray_33 : decode cX0_tray 33 = .ok (.ireturn, 1) := dk_172 (dk_at dksX0_tray_1 10 rfl rfl)
theorem dX0_tray_34 : decode cX0_tray 34 = .ok (.aload_n 0, 1) := dk_42 (dk_at dksX0_tray_1 11 rfl rfl)
theorem dX0_tray_35 : decode cX0_tray 35 = .ok (.getfield 11, 3) := dk_180 0 11 (dk_at dksX0_tray_1 12 rfl rfl)
theorem dX0_tray_38 : decode cX0_tray 38 = .ok (.iload_n 1, 1) := dk_27 (dk_at dksX0_tray_1 15 rfl rfl)
theorem dX0_tray_39 : decode cX0_tray 39 = .ok (.aaload, 1) := dk_50 (dk_at dksX0_tray_1 16 rfl rfl)
theorem dX0_tray_40 : decode cX0_tray 40 = .ok (.iload_n 2, 1) := dk_28 (dk_at dksX0_tray_1 17 rfl rfl)
theorem dX0_tray_41 : decode cX0_tray 41 = .ok (.iload_n 3, 1) := dk_29 (dk_at dksX0_tray_1 18 rfl rfl)
theorem dX0_tray_42 : decode cX0_tray 42 = .ok (.invokevirtual 110, 3) := dk_182 0 110 (dk_at dksX0_tray_1 19 rfl rfl)
theorem dX0_tray_45 : decode cX0_tray 45 = .ok (.goto 12, 3) := dk_167 0 12 (dk_at dksX0_tray_2 0 rfl rfl)
theorem dX0_tray_48 : decode cX0_tray 48 = .ok (.astore 4, 2) := dk_58 4 (dk_at dksX0_tray_2 3 rfl rfl)
theorem dX0_tray_50 : decode cX0_tray 50 = .ok (.aload_n 0, 1) := dk_42 (dk_at dksX0_tray_2 5 rfl rfl)
theorem dX0_tray_51 : decode cX0_tray 51 = .ok (.bipush 6, 2) := dk_16 6 (dk_at dksX0_tray_2 6 rfl rfl)
theorem dX0_tray_53 : decode cX0_tray 53 = .ok (.invokevirtual 103, 3) := dk_182 0 103 (dk_at dksX0_tray_2 8 rfl rfl)
theorem dX0_tray_56 : decode cX0_tray 56 = .ok (.ireturn, 1) := dk_172 (dk_at dksX0_tray_2 11 rfl rfl)
theorem dX0_tray_57 : decode cX0_tray 57 = .ok (.aload_n 0, 1) := dk_42 (dk_at dksX0_tray_2 12 rfl rfl)
theorem dX0_tray_58 : decode cX0_tray 58 = .ok (.iconst 0, 1) := dk_3 (dk_at dksX0_tray_2 13 rfl rfl)
theorem dX0_tray_59 : decode cX0_tray 59 = .ok (.invokevirtual 103, 3) := dk_182 0 103 (dk_at dksX0_tray_2 14 rfl rfl)
theorem dX0_tray_62 : decode cX0_tray 62 = .ok (.ireturn, 1) := dk_172 (dk_at dksX0_tray_2 17 rfl rfl)
abbrev cX0_isTray : ByteArray := prog_1_method_9_code
def yX0_isTray : MethodName := ⟨RX0, "isTray", "(I)Z"⟩
def dkwX0_isTray_0 : List UInt8 := [26, 155, 0, 12, 26, 7, 162, 0, 7, 4, 167, 0, 4, 3, 172]
abbrev dktX0_isTray_0 : List UInt8 := dkwX0_isTray_0 ++ []
theorem dksX0_isTray_0 : cX0_isTray.data.toList.drop 0 = dktX0_isTray_0 := by decide +kernel
theorem dX0_isTray_0 : decode cX0_isTray 0 = .ok (.iload_n 0, 1) := dk_26 (dk_at dksX0_isTray_0 0 rfl rfl)
theorem dX0_isTray_1 : decode cX0_isTray 1 = .ok (.ifCond .lt 12, 3) := dk_155 0 12 (dk_at dksX0_isTray_0 1 rfl rfl)
theorem dX0_isTray_4 : decode cX0_isTray 4 = .ok (.iload_n 0, 1) := dk_26 (dk_at dksX0_isTray_0 4 rfl rfl)
theorem dX0_isTray_5 : decode cX0_isTray 5 = .ok (.iconst 4, 1) := dk_7 (dk_at dksX0_isTray_0 5 rfl rfl)
theorem dX0_isTray_6 : decode cX0_isTray 6 = .ok (.if_icmp .ge 7, 3) := dk_162 0 7 (dk_at dksX0_isTray_0 6 rfl rfl)
theorem dX0_isTray_9 : decode cX0_isTray 9 = .ok (.iconst 1, 1) := dk_4 (dk_at dksX0_isTray_0 9 rfl rfl)
theorem dX0_isTray_10 : decode cX0_isTray 10 = .ok (.goto 4, 3) := dk_167 0 4 (dk_at dksX0_isTray_0 10 rfl rfl)
theorem dX0_isTray_13 : decode cX0_isTray 13 = .ok (.iconst 0, 1) := dk_3 (dk_at dksX0_isTray_0 13 rfl rfl)
theorem dX0_isTray_14 : decode cX0_isTray 14 = .ok (.ireturn, 1) := dk_172 (dk_at dksX0_isTray_0 14 rfl rfl)
abbrev cX0_is : ByteArray := prog_1_method_5_code
def yX0_is : MethodName := ⟨RX0, "is", "(I)Z"⟩
def dkwX0_is_0 : List UInt8 := [42, 27, 181, 0, 97, 27, 154, 0, 7, 4, 167, 0, 4, 3, 172]
abbrev dktX0_is_0 : List UInt8 := dkwX0_is_0 ++ []
theorem dksX0_is_0 : cX0_is.data.toList.drop 0 = dktX0_is_0 := by decide +kernel
theorem dX0_is_0 : decode cX0_is 0 = .ok (.aload_n 0, 1) := dk_42 (dk_at dksX0_is_0 0 rfl rfl)
theorem dX0_is_1 : decode cX0_is 1 = .ok (.iload_n 1, 1) := dk_27 (dk_at dksX0_is_0 1 rfl rfl)
theorem dX0_is_2 : decode cX0_is 2 = .ok (.putfield 97, 3) := dk_181 0 97 (dk_at dksX0_is_0 2 rfl rfl)
theorem dX0_is_5 : decode cX0_is 5 = .ok (.iload_n 1, 1) := dk_27 (dk_at dksX0_is_0 5 rfl rfl)
theorem dX0_is_6 : decode cX0_is 6 = .ok (.ifCond .ne 7, 3) := dk_154 0 7 (dk_at dksX0_is_0 6 rfl rfl)
theorem dX0_is_9 : decode cX0_is 9 = .ok (.iconst 1, 1) := dk_4 (dk_at dksX0_is_0 9 rfl rfl)
theorem dX0_is_10 : decode cX0_is 10 = .ok (.goto 4, 3) := dk_167 0 4 (dk_at dksX0_is_0 10 rfl rfl)
theorem dX0_is_13 : decode cX0_is 13 = .ok (.iconst 0, 1) := dk_3 (dk_at dksX0_is_0 13 rfl rfl)
theorem dX0_is_14 : decode cX0_is 14 = .ok (.ireturn, 1) := dk_172 (dk_at dksX0_is_0 14 rfl rfl)
abbrev cX0_write : ByteArray := prog_1_method_11_code
def yX0_write : MethodName := ⟨RX0, "write", "(IIJ)Z"⟩
def dkwX0_write_2 : List UInt8 := [172]
abbrev dktX0_write_2 : List UInt8 := dkwX0_write_2 ++ []
def dkwX0_write_1 : List UInt8 := [167, 0, 19, 58, 5, 42, 6, 182, 0, 103, 172, 58, 5, 42, 7, 182, 0, 103, 172, 42, 3, 182, 0, 103]
abbrev dktX0_write_1 : List UInt8 := dkwX0_write_1 ++ dktX0_write_2
def dkwX0_write_0 : List UInt8 := [27, 184, 0, 107, 154, 0, 9, 42, 4, 182, 0, 103, 172, 42, 180, 0, 11, 27, 50, 28, 33, 182, 0, 116]
abbrev dktX0_write_0 : List UInt8 := dkwX0_write_0 ++ dktX0_write_1
theorem dksX0_write_0 : cX0_write.data.toList.drop 0 = dktX0_write_0 := by decide +kernel
theorem dksX0_write_1 : cX0_write.data.toList.drop 24 = dktX0_write_1 := dk_seg dksX0_write_0 24 rfl rfl
theorem dksX0_write_2 : cX0_write.data.toList.drop 48 = dktX0_write_2 := dk_seg dksX0_write_1 24 rfl rfl
theorem dX0_write_0 : decode cX0_write 0 = .ok (.iload_n 1, 1) := dk_27 (dk_at dksX0_write_0 0 rfl rfl)
theorem dX0_write_1 : decode cX0_write 1 = .ok (.invokestatic 107, 3) := dk_184 0 107 (dk_at dksX0_write_0 1 rfl rfl)
theorem dX0_write_4 : decode cX0_write 4 = .ok (.ifCond .ne 9, 3) := dk_154 0 9 (dk_at dksX0_write_0 4 rfl rfl)
theorem dX0_write_7 : decode cX0_write 7 = .ok (.aload_n 0, 1) := dk_42 (dk_at dksX0_write_0 7 rfl rfl)
theorem dX0_write_8 : decode cX0_write 8 = .ok (.iconst 1, 1) := dk_4 (dk_at dksX0_write_0 8 rfl rfl)
theorem dX0_write_9 : decode cX0_write 9 = .ok (.invokevirtual 103, 3) := dk_182 0 103 (dk_at dksX0_write_0 9 rfl rfl)
theorem dX0_write_12 : decode cX0_write 12 = .ok (.ireturn, 1) := dk_172 (dk_at dksX0_write_0 12 rfl rfl)
theorem dX0_write_13 : decode cX0_write 13 = .ok (.aload_n 0, 1) := dk_42 (dk_at dksX0_write_0 13 rfl rfl)
theorem dX0_write_14 : decode cX0_write 14 = .ok (.getfield 11, 3) := dk_180 0 11 (dk_at dksX0_write_0 14 rfl rfl)
theorem dX0_write_17 : decode cX0_write 17 = .ok (.iload_n 1, 1) := dk_27 (dk_at dksX0_write_0 17 rfl rfl)
theorem dX0_write_18 : decode cX0_write 18 = .ok (.aaload, 1) := dk_50 (dk_at dksX0_write_0 18 rfl rfl)
theorem dX0_write_19 : decode cX0_write 19 = .ok (.iload_n 2, 1) := dk_28 (dk_at dksX0_write_0 19 rfl rfl)
theorem dX0_write_20 : decode cX0_write 20 = .ok (.lload_n 3, 1) := dk_33 (dk_at dksX0_write_0 20 rfl rfl)
theorem dX0_write_21 : decode cX0_write 21 = .ok (.invokevirtual 116, 3) := dk_182 0 116 (dk_at dksX0_write_0 21 rfl rfl)
theorem dX0_write_24 : decode cX0_write 24 = .ok (.goto 19, 3) := dk_167 0 19 (dk_at dksX0_write_1 0 rfl rfl)
theorem dX0_write_27 : decode cX0_write 27 = .ok (.astore 5, 2) := dk_58 5 (dk_at dksX0_write_1 3 rfl rfl)
theorem dX0_write_29 : decode cX0_write 29 = .ok (.aload_n 0, 1) := dk_42 (dk_at dksX0_write_1 5 rfl rfl)
theorem dX0_write_30 : decode cX0_write 30 = .ok (.iconst 3, 1) := dk_6 (dk_at dksX0_write_1 6 rfl rfl)
theorem dX0_write_31 : decode cX0_write 31 = .ok (.invokevirtual 103, 3) := dk_182 0 103 (dk_at dksX0_write_1 7 rfl rfl)
theorem dX0_write_34 : decode cX0_write 34 = .ok (.ireturn, 1) := dk_172 (dk_at dksX0_write_1 10 rfl rfl)
theorem dX0_write_35 : decode cX0_write 35 = .ok (.astore 5, 2) := dk_58 5 (dk_at dksX0_write_1 11 rfl rfl)
theorem dX0_write_37 : decode cX0_write 37 = .ok (.aload_n 0, 1) := dk_42 (dk_at dksX0_write_1 13 rfl rfl)
theorem dX0_write_38 : decode cX0_write 38 = .ok (.iconst 4, 1) := dk_7 (dk_at dksX0_write_1 14 rfl rfl)
theorem dX0_write_39 : decode cX0_write 39 = .ok (.invokevirtual 103, 3) := dk_182 0 103 (dk_at dksX0_write_1 15 rfl rfl)
theorem dX0_write_42 : decode cX0_write 42 = .ok (.ireturn, 1) := dk_172 (dk_at dksX0_write_1 18 rfl rfl)
theorem dX0_write_43 : decode cX0_write 43 = .ok (.aload_n 0, 1) := dk_42 (dk_at dksX0_write_1 19 rfl rfl)
theorem dX0_write_44 : decode cX0_write 44 = .ok (.iconst 0, 1) := dk_3 (dk_at dksX0_write_1 20 rfl rfl)
theorem dX0_write_45 : decode cX0_write 45 = .ok (.invokevirtual 103, 3) := dk_182 0 103 (dk_at dksX0_write_1 21 rfl rfl)
theorem dX0_write_48 : decode cX0_write 48 = .ok (.ireturn, 1) := dk_172 (dk_at dksX0_write_2 0 rfl rfl)
abbrev cX0_read : ByteArray := prog_1_method_12_code
def yX0_read : MethodName := ⟨RX0, "read", "(II)J"⟩
def dkwX0_read_2 : List UInt8 := [173]
abbrev dktX0_read_2 : List UInt8 := dkwX0_read_2 ++ []
def dkwX0_read_1 : List UInt8 := [50, 28, 182, 0, 128, 173, 78, 42, 6, 181, 0, 97, 167, 0, 9, 78, 42, 7, 181, 0, 97, 20, 0, 132]
abbrev dktX0_read_1 : List UInt8 := dkwX0_read_1 ++ dktX0_read_2
def dkwX0_read_0 : List UInt8 := [27, 184, 0, 107, 154, 0, 10, 42, 4, 182, 0, 124, 133, 173, 42, 3, 181, 0, 97, 42, 180, 0, 11, 27]
abbrev dktX0_read_0 : List UInt8 := dkwX0_read_0 ++ dktX0_read_1
theorem dksX0_read_0 : cX0_read.data.toList.drop 0 = dktX0_read_0 := by decide +kernel
theorem dksX0_read_1 : cX0_read.data.toList.drop 24 = dktX0_read_1 := dk_seg dksX0_read_0 24 rfl rfl
theorem dksX0_read_2 : cX0_read.data.toList.drop 48 = dktX0_read_2 := dk_seg dksX0_read_1 24 rfl rfl
theorem dX0_read_0 : decode cX0_read 0 = .ok (.iload_n 1, 1) := dk_27 (dk_at dksX0_read_0 0 rfl rfl)
theorem dX0_read_1 : decode cX0_read 1 = .ok (.invokestatic 107, 3) := dk_184 0 107 (dk_at dksX0_read_0 1 rfl rfl)
theorem dX0_read_4 : decode cX0_read 4 = .ok (.ifCond .ne 10, 3) := dk_154 0 10 (dk_at dksX0_read_0 4 rfl rfl)
theorem dX0_read_7 : decode cX0_read 7 = .ok (.aload_n 0, 1) := dk_42 (dk_at dksX0_read_0 7 rfl rfl)
theorem dX0_read_8 : decode cX0_read 8 = .ok (.iconst 1, 1) := dk_4 (dk_at dksX0_read_0 8 rfl rfl)
theorem dX0_read_9 : decode cX0_read 9 = .ok (.invokevirtual 124, 3) := dk_182 0 124 (dk_at dksX0_read_0 9 rfl rfl)
theorem dX0_read_12 : decode cX0_read 12 = .ok (.i2l, 1) := dk_133 (dk_at dksX0_read_0 12 rfl rfl)
theorem dX0_read_13 : decode cX0_read 13 = .ok (.lreturn, 1) := dk_173 (dk_at dksX0_read_0 13 rfl rfl)
theorem dX0_read_14 : decode cX0_read 14 = .ok (.aload_n 0, 1) := dk_42 (dk_at dksX0_read_0 14 rfl rfl)
theorem dX0_read_15 : decode cX0_read 15 = .ok (.iconst 0, 1) := dk_3 (dk_at dksX0_read_0 15 rfl rfl)
theorem dX0_read_16 : decode cX0_read 16 = .ok (.putfield 97, 3) := dk_181 0 97 (dk_at dksX0_read_0 16 rfl rfl)
theorem dX0_read_19 : decode cX0_read 19 = .ok (.aload_n 0, 1) := dk_42 (dk_at dksX0_read_0 19 rfl rfl)
theorem dX0_read_20 : decode cX0_read 20 = .ok (.getfield 11, 3) := dk_180 0 11 (dk_at dksX0_read_0 20 rfl rfl)
theorem dX0_read_23 : decode cX0_read 23 = .ok (.iload_n 1, 1) := dk_27 (dk_at dksX0_read_0 23 rfl rfl)
theorem dX0_read_24 : decode cX0_read 24 = .ok (.aaload, 1) := dk_50 (dk_at dksX0_read_1 0 rfl rfl)
theorem dX0_read_25 : decode cX0_read 25 = .ok (.iload_n 2, 1) := dk_28 (dk_at dksX0_read_1 1 rfl rfl)
theorem dX0_read_26 : decode cX0_read 26 = .ok (.invokevirtual 128, 3) := dk_182 0 128 (dk_at dksX0_read_1 2 rfl rfl)
theorem dX0_read_29 : decode cX0_read 29 = .ok (.lreturn, 1) := dk_173 (dk_at dksX0_read_1 5 rfl rfl)
theorem dX0_read_30 : decode cX0_read 30 = .ok (.astore_n 3, 1) := dk_78 (dk_at dksX0_read_1 6 rfl rfl)
theorem dX0_read_31 : decode cX0_read 31 = .ok (.aload_n 0, 1) := dk_42 (dk_at dksX0_read_1 7 rfl rfl)
theorem dX0_read_32 : decode cX0_read 32 = .ok (.iconst 3, 1) := dk_6 (dk_at dksX0_read_1 8 rfl rfl)
theorem dX0_read_33 : decode cX0_read 33 = .ok (.putfield 97, 3) := dk_181 0 97 (dk_at dksX0_read_1 9 rfl rfl)
theorem dX0_read_36 : decode cX0_read 36 = .ok (.goto 9, 3) := dk_167 0 9 (dk_at dksX0_read_1 12 rfl rfl)
theorem dX0_read_39 : decode cX0_read 39 = .ok (.astore_n 3, 1) := dk_78 (dk_at dksX0_read_1 15 rfl rfl)
theorem dX0_read_40 : decode cX0_read 40 = .ok (.aload_n 0, 1) := dk_42 (dk_at dksX0_read_1 16 rfl rfl)
theorem dX0_read_41 : decode cX0_read 41 = .ok (.iconst 4, 1) := dk_7 (dk_at dksX0_read_1 17 rfl rfl)
theorem dX0_read_42 : decode cX0_read 42 = .ok (.putfield 97, 3) := dk_181 0 97 (dk_at dksX0_read_1 18 rfl rfl)
theorem dX0_read_45 : decode cX0_read 45 = .ok (.ldc2_w 132, 3) := dk_20 0 132 (dk_at dksX0_read_1 21 rfl rfl)
theorem dX0_read_48 : decode cX0_read 48 = .ok (.lreturn, 1) := dk_173 (dk_at dksX0_read_2 0 rfl rfl)
abbrev cX0_none : ByteArray := prog_1_method_6_code
def yX0_none : MethodName := ⟨RX0, "none", "(I)I"⟩
def dkwX0_none_0 : List UInt8 := [42, 27, 181, 0, 97, 2, 172]
abbrev dktX0_none_0 : List UInt8 := dkwX0_none_0 ++ []
theorem dksX0_none_0 : cX0_none.data.toList.drop 0 = dktX0_none_0 := by decide +kernel
theorem dX0_none_0 : decode cX0_none 0 = .ok (.aload_n 0, 1) := dk_42 (dk_at dksX0_none_0 0 rfl rfl)
theorem dX0_none_1 : decode cX0_none 1 = .ok (.iload_n 1, 1) := dk_27 (dk_at dksX0_none_0 1 rfl rfl)
theorem dX0_none_2 : decode cX0_none 2 = .ok (.putfield 97, 3) := dk_181 0 97 (dk_at dksX0_none_0 2 rfl rfl)
theorem dX0_none_5 : decode cX0_none 5 = .ok (.iconst (-1), 1) := dk_2 (dk_at dksX0_none_0 5 rfl rfl)
theorem dX0_none_6 : decode cX0_none 6 = .ok (.ireturn, 1) := dk_172 (dk_at dksX0_none_0 6 rfl rfl)
abbrev cX0_pour : ByteArray := prog_1_method_13_code
def yX0_pour : MethodName := ⟨RX0, "pour", "(IIIII)Z"⟩
def dkwX0_pour_5 : List UInt8 := [7, 182, 0, 103, 172, 42, 3, 182, 0, 103, 172]
abbrev dktX0_pour_5 : List UInt8 := dkwX0_pour_5 ++ []
def dkwX0_pour_4 : List UInt8 := [167, 0, 29, 58, 8, 42, 6, 182, 0, 103, 172, 58, 8, 42, 21, 5, 156, 0, 8, 16, 6, 167, 0, 4]
abbrev dktX0_pour_4 : List UInt8 := dkwX0_pour_4 ++ dktX0_pour_5
def dkwX0_pour_3 : List UInt8 := [159, 0, 10, 42, 16, 11, 182, 0, 103, 172, 25, 6, 28, 25, 7, 21, 4, 21, 5, 184, 0, 141]
abbrev dktX0_pour_3 : List UInt8 := dkwX0_pour_3 ++ dktX0_pour_4
def dkwX0_pour_2 : List UInt8 := [25, 7, 198, 0, 31, 42, 180, 0, 11, 27, 50, 180, 0, 138, 42, 180, 0, 11, 29, 50, 180, 0, 138]
abbrev dktX0_pour_2 : List UInt8 := dkwX0_pour_2 ++ dktX0_pour_3
def dkwX0_pour_1 : List UInt8 := [27, 50, 180, 0, 134, 58, 6, 42, 180, 0, 11, 29, 50, 180, 0, 134, 58, 7, 25, 6, 198, 0, 36]
abbrev dktX0_pour_1 : List UInt8 := dkwX0_pour_1 ++ dktX0_pour_2
def dkwX0_pour_0 : List UInt8 := [27, 184, 0, 107, 153, 0, 10, 29, 184, 0, 107, 154, 0, 9, 42, 4, 182, 0, 103, 172, 42, 180, 0, 11]
abbrev dktX0_pour_0 : List UInt8 := dkwX0_pour_0 ++ dktX0_pour_1
theorem dksX0_pour_0 : cX0_pour.data.toList.drop 0 = dktX0_pour_0 := by decide +kernel
theorem dksX0_pour_1 : cX0_pour.data.toList.drop 24 = dktX0_pour_1 := dk_seg dksX0_pour_0 24 rfl rfl
theorem dksX0_pour_2 : cX0_pour.data.toList.drop 47 = dktX0_pour_2 := dk_seg dksX0_pour_1 23 rfl rfl
theorem dksX0_pour_3 : cX0_pour.data.toList.drop 70 = dktX0_pour_3 := dk_seg dksX0_pour_2 23 rfl rfl
theorem dksX0_pour_4 : cX0_pour.data.toList.drop 92 = dktX0_pour_4 := dk_seg dksX0_pour_3 22 rfl rfl
theorem dksX0_pour_5 : cX0_pour.data.toList.drop 116 = dktX0_pour_5 := dk_seg dksX0_pour_4 24 rfl rfl
theorem dX0_pour_0 : decode cX0_pour 0 = .ok (.iload_n 1, 1) := dk_27 (dk_at dksX0_pour_0 0 rfl rfl)
theorem dX0_pour_1 : decode cX0_pour 1 = .ok (.invokestatic 107, 3) := dk_184 0 107 (dk_at dksX0_pour_0 1 rfl rfl)
theorem dX0_pour_4 : decode cX0_pour 4 = .ok (.ifCond .eq 10, 3) := dk_153 0 10 (dk_at dksX0_pour_0 4 rfl rfl)
theorem dX0_pour_7 : decode cX0_pour 7 = .ok (.iload_n 3, 1) := dk_29 (dk_at dksX0_pour_0 7 rfl rfl)
theorem dX0_pour_8 : decode cX0_pour 8 = .ok (.invokestatic 107, 3) := dk_184 0 107 (dk_at dksX0_pour_0 8 rfl rfl)
theorem dX0_pour_11 : decode cX0_pour 11 = .ok (.ifCond .ne 9, 3) := dk_154 0 9 (dk_at dksX0_pour_0 11 rfl rfl)
theorem dX0_pour_14 : decode cX0_pour 14 = .ok (.aload_n 0, 1) := dk_42 (dk_at dksX0_pour_0 14 rfl rfl)
theorem dX0_pour_15 : decode cX0_pour 15 = .ok (.iconst 1, 1) := dk_4 (dk_at dksX0_pour_0 15 rfl rfl)
theorem dX0_pour_16 : decode cX0_pour 16 = .ok (.invokevirtual 103, 3) := dk_182 0 103 (dk_at dksX0_pour_0 16 rfl rfl)
theorem dX0_pour_19 : decode cX0_pour 19 = .ok (.ireturn, 1) := dk_172 (dk_at dksX0_pour_0 19 rfl rfl)
theorem dX0_pour_20 : decode cX0_pour 20 = .ok (.aload_n 0, 1) := dk_42 (dk_at dksX0_pour_0 20 rfl rfl)
theorem dX0_pour_21 : decode cX0_pour 21 = .ok (.getfield 11, 3) := dk_180 0 11 (dk_at dksX0_pour_0 21 rfl rfl)
theorem dX0_pour_24 : decode cX0_pour 24 = .ok (.iload_n 1, 1) := dk_27 (dk_at dksX0_pour_1 0 rfl rfl)
theorem dX0_pour_25 : decode cX0_pour 25 = .ok (.aaload, 1) := dk_50 (dk_at dksX0_pour_1 1 rfl rfl)
theorem dX0_pour_26 : decode cX0_pour 26 = .ok (.getfield 134, 3) := dk_180 0 134 (dk_at dksX0_pour_1 2 rfl rfl)
theorem dX0_pour_29 : decode cX0_pour 29 = .ok (.astore 6, 2) := dk_58 6 (dk_at dksX0_pour_1 5 rfl rfl)
theorem dX0_pour_31 : decode cX0_pour 31 = .ok (.aload_n 0, 1) := dk_42 (dk_at dksX0_pour_1 7 rfl rfl)
theorem dX0_pour_32 : decode cX0_pour 32 = .ok (.getfield 11, 3) := dk_180 0 11 (dk_at dksX0_pour_1 8 rfl rfl)
theorem dX0_pour_35 : decode cX0_pour 35 = .ok (.iload_n 3, 1) := dk_29 (dk_at dksX0_pour_1 11 rfl rfl)
theorem dX0_pour_36 : decode cX0_pour 36 = .ok (.aaload, 1) := dk_50 (dk_at dksX0_pour_1 12 rfl rfl)
theorem dX0_pour_37 : decode cX0_pour 37 = .ok (.getfield 134, 3) := dk_180 0 134 (dk_at dksX0_pour_1 13 rfl rfl)
theorem dX0_pour_40 : decode cX0_pour 40 = .ok (.astore 7, 2) := dk_58 7 (dk_at dksX0_pour_1 16 rfl rfl)
theorem dX0_pour_42 : decode cX0_pour 42 = .ok (.aload 6, 2) := dk_25 6 (dk_at dksX0_pour_1 18 rfl rfl)
theorem dX0_pour_44 : decode cX0_pour 44 = .ok (.ifnull 36, 3) := dk_198 0 36 (dk_at dksX0_pour_1 20 rfl rfl)
theorem dX0_pour_47 : decode cX0_pour 47 = .ok (.aload 7, 2) := dk_25 7 (dk_at dksX0_pour_2 0 rfl rfl)
theorem dX0_pour_49 : decode cX0_pour 49 = .ok (.ifnull 31, 3) := dk_198 0 31 (dk_at dksX0_pour_2 2 rfl rfl)
theorem dX0_pour_52 : decode cX0_pour 52 = .ok (.aload_n 0, 1) := dk_42 (dk_at dksX0_pour_2 5 rfl rfl)
theorem dX0_pour_53 : decode cX0_pour 53 = .ok (.getfield 11, 3) := dk_180 0 11 (dk_at dksX0_pour_2 6 rfl rfl)
theorem dX0_pour_56 : decode cX0_pour 56 = .ok (.iload_n 1, 1) := dk_27 (dk_at dksX0_pour_2 9 rfl rfl)
theorem dX0_pour_57 : decode cX0_pour 57 = .ok (.aaload, 1) := dk_50 (dk_at dksX0_pour_2 10 rfl rfl)
theorem dX0_pour_58 : decode cX0_pour 58 = .ok (.getfield 138, 3) := dk_180 0 138 (dk_at dksX0_pour_2 11 rfl rfl)
theorem dX0_pour_61 : decode cX0_pour 61 = .ok (.aload_n 0, 1) := dk_42 (dk_at dksX0_pour_2 14 rfl rfl)
theorem dX0_pour_62 : decode cX0_pour 62 = .ok (.getfield 11, 3) := dk_180 0 11 (dk_at dksX0_pour_2 15 rfl rfl)
theorem dX0_pour_65 : decode cX0_pour 65 = .ok (.iload_n 3, 1) := dk_29 (dk_at dksX0_pour_2 18 rfl rfl)
theorem dX0_pour_66 : decode cX0_pour 66 = .ok (.aaload, 1) := dk_50 (dk_at dksX0_pour_2 19 rfl rfl)
theorem dX0_pour_67 : decode cX0_pour 67 = .ok (.getfield 138, 3) := dk_180 0 138 (dk_at dksX0_pour_2 20 rfl rfl)
theorem dX0_pour_70 : decode cX0_pour 70 = .ok (.if_icmp .eq 10, 3) := dk_159 0 10 (dk_at dksX0_pour_3 0 rfl rfl)
theorem dX0_pour_73 : decode cX0_pour 73 = .ok (.aload_n 0, 1) := dk_42 (dk_at dksX0_pour_3 3 rfl rfl)
theorem dX0_pour_74 : decode cX0_pour 74 = .ok (.bipush 11, 2) := dk_16 11 (dk_at dksX0_pour_3 4 rfl rfl)
theorem dX0_pour_76 : decode cX0_pour 76 = .ok (.invokevirtual 103, 3) := dk_182 0 103 (dk_at dksX0_pour_3 6 rfl rfl)
theorem dX0_pour_79 : decode cX0_pour 79 = .ok (.ireturn, 1) := dk_172 (dk_at dksX0_pour_3 9 rfl rfl)
theorem dX0_pour_80 : decode cX0_pour 80 = .ok (.aload 6, 2) := dk_25 6 (dk_at dksX0_pour_3 10 rfl rfl)
theorem dX0_pour_82 : decode cX0_pour 82 = .ok (.iload_n 2, 1) := dk_28 (dk_at dksX0_pour_3 12 rfl rfl)
theorem dX0_pour_83 : decode cX0_pour 83 = .ok (.aload 7, 2) := dk_25 7 (dk_at dksX0_pour_3 13 rfl rfl)
theorem dX0_pour_85 : decode cX0_pour 85 = .ok (.iload 4, 2) := dk_21 4 (dk_at dksX0_pour_3 15 rfl rfl)
theorem dX0_pour_87 : decode cX0_pour 87 = .ok (.iload 5, 2) := dk_21 5 (dk_at dksX0_pour_3 17 rfl rfl)
theorem dX0_pour_89 : decode cX0_pour 89 = .ok (.invokestatic 141, 3) := dk_184 0 141 (dk_at dksX0_pour_3 19 rfl rfl)
theorem dX0_pour_92 : decode cX0_pour 92 = .ok (.goto 29, 3) := dk_167 0 29 (dk_at dksX0_pour_4 0 rfl rfl)
theorem dX0_pour_95 : decode cX0_pour 95 = .ok (.astore 8, 2) := dk_58 8 (dk_at dksX0_pour_4 3 rfl rfl)
theorem dX0_pour_97 : decode cX0_pour 97 = .ok (.aload_n 0, 1) := dk_42 (dk_at dksX0_pour_4 5 rfl rfl)
theorem dX0_pour_98 : decode cX0_pour 98 = .ok (.iconst 3, 1) := dk_6 (dk_at dksX0_pour_4 6 rfl rfl)
theorem dX0_pour_99 : decode cX0_pour 99 = .ok (.invokevirtual 103, 3) := dk_182 0 103 (dk_at dksX0_pour_4 7 rfl rfl)
theorem dX0_pour_102 : decode cX0_pour 102 = .ok (.ireturn, 1) := dk_172 (dk_at dksX0_pour_4 10 rfl rfl)
theorem dX0_pour_103 : decode cX0_pour 103 = .ok (.astore 8, 2) := dk_58 8 (dk_at dksX0_pour_4 11 rfl rfl)
theorem dX0_pour_105 : decode cX0_pour 105 = .ok (.aload_n 0, 1) := dk_42 (dk_at dksX0_pour_4 13 rfl rfl)
theorem dX0_pour_106 : decode cX0_pour 106 = .ok (.iload 5, 2) := dk_21 5 (dk_at dksX0_pour_4 14 rfl rfl)
theorem dX0_pour_108 : decode cX0_pour 108 = .ok (.ifCond .ge 8, 3) := dk_156 0 8 (dk_at dksX0_pour_4 16 rfl rfl)
theorem dX0_pour_111 : decode cX0_pour 111 = .ok (.bipush 6, 2) := dk_16 6 (dk_at dksX0_pour_4 19 rfl rfl)
theorem dX0_pour_113 : decode cX0_pour 113 = .ok (.goto 4, 3) := dk_167 0 4 (dk_at dksX0_pour_4 21 rfl rfl)
theorem dX0_pour_116 : decode cX0_pour 116 = .ok (.iconst 4, 1) := dk_7 (dk_at dksX0_pour_5 0 rfl rfl)
theorem dX0_pour_117 : decode cX0_pour 117 = .ok (.invokevirtual 103, 3) := dk_182 0 103 (dk_at dksX0_pour_5 1 rfl rfl)
theorem dX0_pour_120 : decode cX0_pour 120 = .ok (.ireturn, 1) := dk_172 (dk_at dksX0_pour_5 4 rfl rfl)
theorem dX0_pour_121 : decode cX0_pour 121 = .ok (.aload_n 0, 1) := dk_42 (dk_at dksX0_pour_5 5 rfl rfl)
theorem dX0_pour_122 : decode cX0_pour 122 = .ok (.iconst 0, 1) := dk_3 (dk_at dksX0_pour_5 6 rfl rfl)
theorem dX0_pour_123 : decode cX0_pour 123 = .ok (.invokevirtual 103, 3) := dk_182 0 103 (dk_at dksX0_pour_5 7 rfl rfl)
theorem dX0_pour_126 : decode cX0_pour 126 = .ok (.ireturn, 1) := dk_172 (dk_at dksX0_pour_5 10 rfl rfl)
abbrev cX0_feed : ByteArray := prog_1_method_18_code
def yX0_feed : MethodName := ⟨RX0, "feed", "(IIIII)I"⟩
def dkwX0_feed_2 : List UInt8 := [180, 0, 23, 180, 0, 159, 172]
abbrev dktX0_feed_2 : List UInt8 := dkwX0_feed_2 ++ []
def dkwX0_feed_1 : List UInt8 := [28, 182, 0, 162, 42, 29, 182, 0, 162, 42, 21, 4, 182, 0, 162, 42, 21, 5, 182, 0, 162, 42]
abbrev dktX0_feed_1 : List UInt8 := dkwX0_feed_1 ++ dktX0_feed_2
def dkwX0_feed_0 : List UInt8 := [42, 180, 0, 23, 180, 0, 159, 16, 20, 96, 17, 3, 132, 164, 0, 5, 2, 172, 42, 27, 182, 0, 162, 42]
abbrev dktX0_feed_0 : List UInt8 := dkwX0_feed_0 ++ dktX0_feed_1
theorem dksX0_feed_0 : cX0_feed.data.toList.drop 0 = dktX0_feed_0 := by decide +kernel
theorem dksX0_feed_1 : cX0_feed.data.toList.drop 24 = dktX0_feed_1 := dk_seg dksX0_feed_0 24 rfl rfl
theorem dksX0_feed_2 : cX0_feed.data.toList.drop 46 = dktX0_feed_2 := dk_seg dksX0_feed_1 22 rfl rfl
theorem dX0_feed_0 : decode cX0_feed 0 = .ok (.aload_n 0, 1) := dk_42 (dk_at dksX0_feed_0 0 rfl rfl)
theorem dX0_feed_1 : decode cX0_feed 1 = .ok (.getfield 23, 3) := dk_180 0 23 (dk_at dksX0_feed_0 1 rfl rfl)
theorem dX0_feed_4 : decode cX0_feed 4 = .ok (.getfield 159, 3) := dk_180 0 159 (dk_at dksX0_feed_0 4 rfl rfl)
theorem dX0_feed_7 : decode cX0_feed 7 = .ok (.bipush 20, 2) := dk_16 20 (dk_at dksX0_feed_0 7 rfl rfl)
theorem dX0_feed_9 : decode cX0_feed 9 = .ok (.iadd, 1) := dk_96 (dk_at dksX0_feed_0 9 rfl rfl)
theorem dX0_feed_10 : decode cX0_feed 10 = .ok (.sipush 900, 3) := dk_17 3 132 (dk_at dksX0_feed_0 10 rfl rfl)
theorem dX0_feed_13 : decode cX0_feed 13 = .ok (.if_icmp .le 5, 3) := dk_164 0 5 (dk_at dksX0_feed_0 13 rfl rfl)
theorem dX0_feed_16 : decode cX0_feed 16 = .ok (.iconst (-1), 1) := dk_2 (dk_at dksX0_feed_0 16 rfl rfl)
theorem dX0_feed_17 : decode cX0_feed 17 = .ok (.ireturn, 1) := dk_172 (dk_at dksX0_feed_0 17 rfl rfl)
theorem dX0_feed_18 : decode cX0_feed 18 = .ok (.aload_n 0, 1) := dk_42 (dk_at dksX0_feed_0 18 rfl rfl)
theorem dX0_feed_19 : decode cX0_feed 19 = .ok (.iload_n 1, 1) := dk_27 (dk_at dksX0_feed_0 19 rfl rfl)
theorem dX0_feed_20 : decode cX0_feed 20 = .ok (.invokevirtual 162, 3) := dk_182 0 162 (dk_at dksX0_feed_0 20 rfl rfl)
theorem dX0_feed_23 : decode cX0_feed 23 = .ok (.aload_n 0, 1) := dk_42 (dk_at dksX0_feed_0 23 rfl rfl)
theorem dX0_feed_24 : decode cX0_feed 24 = .ok (.iload_n 2, 1) := dk_28 (dk_at dksX0_feed_1 0 rfl rfl)
theorem dX0_feed_25 : decode cX0_feed 25 = .ok (.invokevirtual 162, 3) := dk_182 0 162 (dk_at dksX0_feed_1 1 rfl rfl)
theorem dX0_feed_28 : decode cX0_feed 28 = .ok (.aload_n 0, 1) := dk_42 (dk_at dksX0_feed_1 4 rfl rfl)
theorem dX0_feed_29 : decode cX0_feed 29 = .ok (.iload_n 3, 1) := dk_29 (dk_at dksX0_feed_1 5 rfl rfl)
theorem dX0_feed_30 : decode cX0_feed 30 = .ok (.invokevirtual 162, 3) := dk_182 0 162 (dk_at dksX0_feed_1 6 rfl rfl)
theorem dX0_feed_33 : decode cX0_feed 33 = .ok (.aload_n 0, 1) := dk_42 (dk_at dksX0_feed_1 9 rfl rfl)
theorem dX0_feed_34 : decode cX0_feed 34 = .ok (.iload 4, 2) := dk_21 4 (dk_at dksX0_feed_1 10 rfl rfl)
theorem dX0_feed_36 : decode cX0_feed 36 = .ok (.invokevirtual 162, 3) := dk_182 0 162 (dk_at dksX0_feed_1 12 rfl rfl)
theorem dX0_feed_39 : decode cX0_feed 39 = .ok (.aload_n 0, 1) := dk_42 (dk_at dksX0_feed_1 15 rfl rfl)
theorem dX0_feed_40 : decode cX0_feed 40 = .ok (.iload 5, 2) := dk_21 5 (dk_at dksX0_feed_1 16 rfl rfl)
theorem dX0_feed_42 : decode cX0_feed 42 = .ok (.invokevirtual 162, 3) := dk_182 0 162 (dk_at dksX0_feed_1 18 rfl rfl)
theorem dX0_feed_45 : decode cX0_feed 45 = .ok (.aload_n 0, 1) := dk_42 (dk_at dksX0_feed_1 21 rfl rfl)
theorem dX0_feed_46 : decode cX0_feed 46 = .ok (.getfield 23, 3) := dk_180 0 23 (dk_at dksX0_feed_2 0 rfl rfl)
theorem dX0_feed_49 : decode cX0_feed 49 = .ok (.getfield 159, 3) := dk_180 0 159 (dk_at dksX0_feed_2 3 rfl rfl)
theorem dX0_feed_52 : decode cX0_feed 52 = .ok (.ireturn, 1) := dk_172 (dk_at dksX0_feed_2 6 rfl rfl)
abbrev cX0_four : ByteArray := prog_1_method_19_code
def yX0_four : MethodName := ⟨RX0, "four", "(I)V"⟩
def dkwX0_four_1 : List UInt8 := [145, 84, 42, 180, 0, 23, 89, 180, 0, 159, 4, 96, 181, 0, 159, 132, 2, 248, 167, 255, 217, 177]
abbrev dktX0_four_1 : List UInt8 := dkwX0_four_1 ++ []
def dkwX0_four_0 : List UInt8 := [16, 24, 61, 28, 155, 0, 41, 42, 180, 0, 23, 180, 0, 166, 42, 180, 0, 23, 180, 0, 159, 27, 28, 122]
abbrev dktX0_four_0 : List UInt8 := dkwX0_four_0 ++ dktX0_four_1
theorem dksX0_four_0 : cX0_four.data.toList.drop 0 = dktX0_four_0 := by decide +kernel
theorem dksX0_four_1 : cX0_four.data.toList.drop 24 = dktX0_four_1 := dk_seg dksX0_four_0 24 rfl rfl
theorem dX0_four_0 : decode cX0_four 0 = .ok (.bipush 24, 2) := dk_16 24 (dk_at dksX0_four_0 0 rfl rfl)
theorem dX0_four_2 : decode cX0_four 2 = .ok (.istore_n 2, 1) := dk_61 (dk_at dksX0_four_0 2 rfl rfl)
theorem dX0_four_3 : decode cX0_four 3 = .ok (.iload_n 2, 1) := dk_28 (dk_at dksX0_four_0 3 rfl rfl)
theorem dX0_four_4 : decode cX0_four 4 = .ok (.ifCond .lt 41, 3) := dk_155 0 41 (dk_at dksX0_four_0 4 rfl rfl)
theorem dX0_four_7 : decode cX0_four 7 = .ok (.aload_n 0, 1) := dk_42 (dk_at dksX0_four_0 7 rfl rfl)
theorem dX0_four_8 : decode cX0_four 8 = .ok (.getfield 23, 3) := dk_180 0 23 (dk_at dksX0_four_0 8 rfl rfl)
theorem dX0_four_11 : decode cX0_four 11 = .ok (.getfield 166, 3) := dk_180 0 166 (dk_at dksX0_four_0 11 rfl rfl)
theorem dX0_four_14 : decode cX0_four 14 = .ok (.aload_n 0, 1) := dk_42 (dk_at dksX0_four_0 14 rfl rfl)
theorem dX0_four_15 : decode cX0_four 15 = .ok (.getfield 23, 3) := dk_180 0 23 (dk_at dksX0_four_0 15 rfl rfl)
theorem dX0_four_18 : decode cX0_four 18 = .ok (.getfield 159, 3) := dk_180 0 159 (dk_at dksX0_four_0 18 rfl rfl)
theorem dX0_four_21 : decode cX0_four 21 = .ok (.iload_n 1, 1) := dk_27 (dk_at dksX0_four_0 21 rfl rfl)
theorem dX0_four_22 : decode cX0_four 22 = .ok (.iload_n 2, 1) := dk_28 (dk_at dksX0_four_0 22 rfl rfl)
theorem dX0_four_23 : decode cX0_four 23 = .ok (.ishr, 1) := dk_122 (dk_at dksX0_four_0 23 rfl rfl)
theorem dX0_four_24 : decode cX0_four 24 = .ok (.i2b, 1) := dk_145 (dk_at dksX0_four_1 0 rfl rfl)
theorem dX0_four_25 : decode cX0_four 25 = .ok (.bastore, 1) := dk_84 (dk_at dksX0_four_1 1 rfl rfl)
theorem dX0_four_26 : decode cX0_four 26 = .ok (.aload_n 0, 1) := dk_42 (dk_at dksX0_four_1 2 rfl rfl)
theorem dX0_four_27 : decode cX0_four 27 = .ok (.getfield 23, 3) := dk_180 0 23 (dk_at dksX0_four_1 3 rfl rfl)
theorem dX0_four_30 : decode cX0_four 30 = .ok (.dup, 1) := dk_89 (dk_at dksX0_four_1 6 rfl rfl)
theorem dX0_four_31 : decode cX0_four 31 = .ok (.getfield 159, 3) := dk_180 0 159 (dk_at dksX0_four_1 7 rfl rfl)
theorem dX0_four_34 : decode cX0_four 34 = .ok (.iconst 1, 1) := dk_4 (dk_at dksX0_four_1 10 rfl rfl)
theorem dX0_four_35 : decode cX0_four 35 = .ok (.iadd, 1) := dk_96 (dk_at dksX0_four_1 11 rfl rfl)
theorem dX0_four_36 : decode cX0_four 36 = .ok (.putfield 159, 3) := dk_181 0 159 (dk_at dksX0_four_1 12 rfl rfl)
theorem dX0_four_39 : decode cX0_four 39 = .ok (.iinc 2 (-8), 3) := dk_132 2 248 (dk_at dksX0_four_1 15 rfl rfl)
theorem dX0_four_42 : decode cX0_four 42 = .ok (.goto (-39), 3) := dk_167 255 217 (dk_at dksX0_four_1 18 rfl rfl)
theorem dX0_four_45 : decode cX0_four 45 = .ok (.return_, 1) := dk_177 (dk_at dksX0_four_1 21 rfl rfl)
abbrev cX0_book : ByteArray := prog_1_method_22_code
def yX0_book : MethodName := ⟨RX0, "book", "(I)I"⟩
def dkwX0_book_3 : List UInt8 := [181, 0, 194, 42, 42, 180, 0, 37, 180, 0, 149, 182, 0, 197, 172]
abbrev dktX0_book_3 : List UInt8 := dkwX0_book_3 ++ []
def dkwX0_book_2 : List UInt8 := [180, 0, 27, 28, 3, 79, 132, 2, 1, 167, 255, 241, 42, 3, 181, 0, 187, 42, 1, 181, 0, 190, 42, 3]
abbrev dktX0_book_2 : List UInt8 := dkwX0_book_2 ++ dktX0_book_3
def dkwX0_book_1 : List UInt8 := [182, 0, 180, 181, 0, 37, 167, 0, 10, 77, 42, 44, 182, 0, 183, 172, 3, 61, 28, 7, 162, 0, 16, 42]
abbrev dktX0_book_1 : List UInt8 := dkwX0_book_1 ++ dktX0_book_2
def dkwX0_book_0 : List UInt8 := [42, 27, 17, 3, 132, 182, 0, 176, 154, 0, 9, 42, 8, 182, 0, 124, 172, 42, 42, 180, 0, 23, 27]
abbrev dktX0_book_0 : List UInt8 := dkwX0_book_0 ++ dktX0_book_1
theorem dksX0_book_0 : cX0_book.data.toList.drop 0 = dktX0_book_0 := by decide +kernel
theorem dksX0_book_1 : cX0_book.data.toList.drop 23 = dktX0_book_1 := dk_seg dksX0_book_0 23 rfl rfl
theorem dksX0_book_2 : cX0_book.data.toList.drop 47 = dktX0_book_2 := dk_seg dksX0_book_1 24 rfl rfl
theorem dksX0_book_3 : cX0_book.data.toList.drop 71 = dktX0_book_3 := dk_seg dksX0_book_2 24 rfl rfl
theorem dX0_book_0 : decode cX0_book 0 = .ok (.aload_n 0, 1) := dk_42 (dk_at dksX0_book_0 0 rfl rfl)
theorem dX0_book_1 : decode cX0_book 1 = .ok (.iload_n 1, 1) := dk_27 (dk_at dksX0_book_0 1 rfl rfl)
theorem dX0_book_2 : decode cX0_book 2 = .ok (.sipush 900, 3) := dk_17 3 132 (dk_at dksX0_book_0 2 rfl rfl)
theorem dX0_book_5 : decode cX0_book 5 = .ok (.invokevirtual 176, 3) := dk_182 0 176 (dk_at dksX0_book_0 5 rfl rfl)
theorem dX0_book_8 : decode cX0_book 8 = .ok (.ifCond .ne 9, 3) := dk_154 0 9 (dk_at dksX0_book_0 8 rfl rfl)
theorem dX0_book_11 : decode cX0_book 11 = .ok (.aload_n 0, 1) := dk_42 (dk_at dksX0_book_0 11 rfl rfl)
theorem dX0_book_12 : decode cX0_book 12 = .ok (.iconst 5, 1) := dk_8 (dk_at dksX0_book_0 12 rfl rfl)
theorem dX0_book_13 : decode cX0_book 13 = .ok (.invokevirtual 124, 3) := dk_182 0 124 (dk_at dksX0_book_0 13 rfl rfl)
theorem dX0_book_16 : decode cX0_book 16 = .ok (.ireturn, 1) := dk_172 (dk_at dksX0_book_0 16 rfl rfl)
theorem dX0_book_17 : decode cX0_book 17 = .ok (.aload_n 0, 1) := dk_42 (dk_at dksX0_book_0 17 rfl rfl)
theorem dX0_book_18 : decode cX0_book 18 = .ok (.aload_n 0, 1) := dk_42 (dk_at dksX0_book_0 18 rfl rfl)
theorem dX0_book_19 : decode cX0_book 19 = .ok (.getfield 23, 3) := dk_180 0 23 (dk_at dksX0_book_0 19 rfl rfl)
theorem dX0_book_22 : decode cX0_book 22 = .ok (.iload_n 1, 1) := dk_27 (dk_at dksX0_book_0 22 rfl rfl)
theorem dX0_book_23 : decode cX0_book 23 = .ok (.invokevirtual 180, 3) := dk_182 0 180 (dk_at dksX0_book_1 0 rfl rfl)
theorem dX0_book_26 : decode cX0_book 26 = .ok (.putfield 37, 3) := dk_181 0 37 (dk_at dksX0_book_1 3 rfl rfl)
theorem dX0_book_29 : decode cX0_book 29 = .ok (.goto 10, 3) := dk_167 0 10 (dk_at dksX0_book_1 6 rfl rfl)
theorem dX0_book_32 : decode cX0_book 32 = .ok (.astore_n 2, 1) := dk_77 (dk_at dksX0_book_1 9 rfl rfl)
theorem dX0_book_33 : decode cX0_book 33 = .ok (.aload_n 0, 1) := dk_42 (dk_at dksX0_book_1 10 rfl rfl)
theorem dX0_book_34 : decode cX0_book 34 = .ok (.aload_n 2, 1) := dk_44 (dk_at dksX0_book_1 11 rfl rfl)
theorem dX0_book_35 : decode cX0_book 35 = .ok (.invokevirtual 183, 3) := dk_182 0 183 (dk_at dksX0_book_1 12 rfl rfl)
theorem dX0_book_38 : decode cX0_book 38 = .ok (.ireturn, 1) := dk_172 (dk_at dksX0_book_1 15 rfl rfl)
theorem dX0_book_39 : decode cX0_book 39 = .ok (.iconst 0, 1) := dk_3 (dk_at dksX0_book_1 16 rfl rfl)
theorem dX0_book_40 : decode cX0_book 40 = .ok (.istore_n 2, 1) := dk_61 (dk_at dksX0_book_1 17 rfl rfl)
theorem dX0_book_41 : decode cX0_book 41 = .ok (.iload_n 2, 1) := dk_28 (dk_at dksX0_book_1 18 rfl rfl)
theorem dX0_book_42 : decode cX0_book 42 = .ok (.iconst 4, 1) := dk_7 (dk_at dksX0_book_1 19 rfl rfl)
theorem dX0_book_43 : decode cX0_book 43 = .ok (.if_icmp .ge 16, 3) := dk_162 0 16 (dk_at dksX0_book_1 20 rfl rfl)
theorem dX0_book_46 : decode cX0_book 46 = .ok (.aload_n 0, 1) := dk_42 (dk_at dksX0_book_1 23 rfl rfl)
theorem dX0_book_47 : decode cX0_book 47 = .ok (.getfield 27, 3) := dk_180 0 27 (dk_at dksX0_book_2 0 rfl rfl)
theorem dX0_book_50 : decode cX0_book 50 = .ok (.iload_n 2, 1) := dk_28 (dk_at dksX0_book_2 3 rfl rfl)
theorem dX0_book_51 : decode cX0_book 51 = .ok (.iconst 0, 1) := dk_3 (dk_at dksX0_book_2 4 rfl rfl)
theorem dX0_book_52 : decode cX0_book 52 = .ok (.iastore, 1) := dk_79 (dk_at dksX0_book_2 5 rfl rfl)
theorem dX0_book_53 : decode cX0_book 53 = .ok (.iinc 2 1, 3) := dk_132 2 1 (dk_at dksX0_book_2 6 rfl rfl)
theorem dX0_book_56 : decode cX0_book 56 = .ok (.goto (-15), 3) := dk_167 255 241 (dk_at dksX0_book_2 9 rfl rfl)
theorem dX0_book_59 : decode cX0_book 59 = .ok (.aload_n 0, 1) := dk_42 (dk_at dksX0_book_2 12 rfl rfl)
theorem dX0_book_60 : decode cX0_book 60 = .ok (.iconst 0, 1) := dk_3 (dk_at dksX0_book_2 13 rfl rfl)
theorem dX0_book_61 : decode cX0_book 61 = .ok (.putfield 187, 3) := dk_181 0 187 (dk_at dksX0_book_2 14 rfl rfl)
theorem dX0_book_64 : decode cX0_book 64 = .ok (.aload_n 0, 1) := dk_42 (dk_at dksX0_book_2 17 rfl rfl)
theorem dX0_book_65 : decode cX0_book 65 = .ok (.aconst_null, 1) := dk_1 (dk_at dksX0_book_2 18 rfl rfl)
theorem dX0_book_66 : decode cX0_book 66 = .ok (.putfield 190, 3) := dk_181 0 190 (dk_at dksX0_book_2 19 rfl rfl)
theorem dX0_book_69 : decode cX0_book 69 = .ok (.aload_n 0, 1) := dk_42 (dk_at dksX0_book_2 22 rfl rfl)
theorem dX0_book_70 : decode cX0_book 70 = .ok (.iconst 0, 1) := dk_3 (dk_at dksX0_book_2 23 rfl rfl)
theorem dX0_book_71 : decode cX0_book 71 = .ok (.putfield 194, 3) := dk_181 0 194 (dk_at dksX0_book_3 0 rfl rfl)
theorem dX0_book_74 : decode cX0_book 74 = .ok (.aload_n 0, 1) := dk_42 (dk_at dksX0_book_3 3 rfl rfl)
theorem dX0_book_75 : decode cX0_book 75 = .ok (.aload_n 0, 1) := dk_42 (dk_at dksX0_book_3 4 rfl rfl)
theorem dX0_book_76 : decode cX0_book 76 = .ok (.getfield 37, 3) := dk_180 0 37 (dk_at dksX0_book_3 5 rfl rfl)
theorem dX0_book_79 : decode cX0_book 79 = .ok (.getfield 149, 3) := dk_180 0 149 (dk_at dksX0_book_3 8 rfl rfl)
theorem dX0_book_82 : decode cX0_book 82 = .ok (.invokevirtual 197, 3) := dk_182 0 197 (dk_at dksX0_book_3 11 rfl rfl)
theorem dX0_book_85 : decode cX0_book 85 = .ok (.ireturn, 1) := dk_172 (dk_at dksX0_book_3 14 rfl rfl)
abbrev cX0_takes : ByteArray := prog_1_method_20_code
def yX0_takes : MethodName := ⟨RX0, "takes", "(II)Z"⟩
def dkwX0_takes_1 : List UInt8 := [180, 0, 23, 3, 181, 0, 159, 42, 3, 181, 0, 41, 42, 2, 181, 0, 45, 4, 172]
abbrev dktX0_takes_1 : List UInt8 := dkwX0_takes_1 ++ []
def dkwX0_takes_0 : List UInt8 := [27, 155, 0, 19, 27, 42, 180, 0, 23, 180, 0, 159, 163, 0, 8, 27, 28, 164, 0, 5, 3, 172, 42]
abbrev dktX0_takes_0 : List UInt8 := dkwX0_takes_0 ++ dktX0_takes_1
theorem dksX0_takes_0 : cX0_takes.data.toList.drop 0 = dktX0_takes_0 := by decide +kernel
theorem dksX0_takes_1 : cX0_takes.data.toList.drop 23 = dktX0_takes_1 := dk_seg dksX0_takes_0 23 rfl rfl
theorem dX0_takes_0 : decode cX0_takes 0 = .ok (.iload_n 1, 1) := dk_27 (dk_at dksX0_takes_0 0 rfl rfl)
theorem dX0_takes_1 : decode cX0_takes 1 = .ok (.ifCond .lt 19, 3) := dk_155 0 19 (dk_at dksX0_takes_0 1 rfl rfl)
theorem dX0_takes_4 : decode cX0_takes 4 = .ok (.iload_n 1, 1) := dk_27 (dk_at dksX0_takes_0 4 rfl rfl)
theorem dX0_takes_5 : decode cX0_takes 5 = .ok (.aload_n 0, 1) := dk_42 (dk_at dksX0_takes_0 5 rfl rfl)
theorem dX0_takes_6 : decode cX0_takes 6 = .ok (.getfield 23, 3) := dk_180 0 23 (dk_at dksX0_takes_0 6 rfl rfl)
theorem dX0_takes_9 : decode cX0_takes 9 = .ok (.getfield 159, 3) := dk_180 0 159 (dk_at dksX0_takes_0 9 rfl rfl)
theorem dX0_takes_12 : decode cX0_takes 12 = .ok (.if_icmp .gt 8, 3) := dk_163 0 8 (dk_at dksX0_takes_0 12 rfl rfl)
theorem dX0_takes_15 : decode cX0_takes 15 = .ok (.iload_n 1, 1) := dk_27 (dk_at dksX0_takes_0 15 rfl rfl)
theorem dX0_takes_16 : decode cX0_takes 16 = .ok (.iload_n 2, 1) := dk_28 (dk_at dksX0_takes_0 16 rfl rfl)
theorem dX0_takes_17 : decode cX0_takes 17 = .ok (.if_icmp .le 5, 3) := dk_164 0 5 (dk_at dksX0_takes_0 17 rfl rfl)
theorem dX0_takes_20 : decode cX0_takes 20 = .ok (.iconst 0, 1) := dk_3 (dk_at dksX0_takes_0 20 rfl rfl)
theorem dX0_takes_21 : decode cX0_takes 21 = .ok (.ireturn, 1) := dk_172 (dk_at dksX0_takes_0 21 rfl rfl)
theorem dX0_takes_22 : decode cX0_takes 22 = .ok (.aload_n 0, 1) := dk_42 (dk_at dksX0_takes_0 22 rfl rfl)
theorem dX0_takes_23 : decode cX0_takes 23 = .ok (.getfield 23, 3) := dk_180 0 23 (dk_at dksX0_takes_1 0 rfl rfl)
theorem dX0_takes_26 : decode cX0_takes 26 = .ok (.iconst 0, 1) := dk_3 (dk_at dksX0_takes_1 3 rfl rfl)
theorem dX0_takes_27 : decode cX0_takes 27 = .ok (.putfield 159, 3) := dk_181 0 159 (dk_at dksX0_takes_1 4 rfl rfl)
theorem dX0_takes_30 : decode cX0_takes 30 = .ok (.aload_n 0, 1) := dk_42 (dk_at dksX0_takes_1 7 rfl rfl)
theorem dX0_takes_31 : decode cX0_takes 31 = .ok (.iconst 0, 1) := dk_3 (dk_at dksX0_takes_1 8 rfl rfl)
theorem dX0_takes_32 : decode cX0_takes 32 = .ok (.putfield 41, 3) := dk_181 0 41 (dk_at dksX0_takes_1 9 rfl rfl)
theorem dX0_takes_35 : decode cX0_takes 35 = .ok (.aload_n 0, 1) := dk_42 (dk_at dksX0_takes_1 12 rfl rfl)
theorem dX0_takes_36 : decode cX0_takes 36 = .ok (.iconst (-1), 1) := dk_2 (dk_at dksX0_takes_1 13 rfl rfl)
theorem dX0_takes_37 : decode cX0_takes 37 = .ok (.putfield 45, 3) := dk_181 0 45 (dk_at dksX0_takes_1 14 rfl rfl)
theorem dX0_takes_40 : decode cX0_takes 40 = .ok (.iconst 1, 1) := dk_4 (dk_at dksX0_takes_1 17 rfl rfl)
theorem dX0_takes_41 : decode cX0_takes 41 = .ok (.ireturn, 1) := dk_172 (dk_at dksX0_takes_1 18 rfl rfl)
abbrev cX0_refused : ByteArray := prog_1_method_21_code
def yX0_refused : MethodName := ⟨RX0, "refused", "(LSwapBook$Wrong;)I"⟩
def dkwX0_refused_0 : List UInt8 := [42, 43, 180, 0, 170, 181, 0, 41, 42, 43, 180, 0, 173, 181, 0, 45, 42, 16, 10, 182, 0, 124, 172]
abbrev dktX0_refused_0 : List UInt8 := dkwX0_refused_0 ++ []
theorem dksX0_refused_0 : cX0_refused.data.toList.drop 0 = dktX0_refused_0 := by decide +kernel
theorem dX0_refused_0 : decode cX0_refused 0 = .ok (.aload_n 0, 1) := dk_42 (dk_at dksX0_refused_0 0 rfl rfl)
theorem dX0_refused_1 : decode cX0_refused 1 = .ok (.aload_n 1, 1) := dk_43 (dk_at dksX0_refused_0 1 rfl rfl)
theorem dX0_refused_2 : decode cX0_refused 2 = .ok (.getfield 170, 3) := dk_180 0 170 (dk_at dksX0_refused_0 2 rfl rfl)
theorem dX0_refused_5 : decode cX0_refused 5 = .ok (.putfield 41, 3) := dk_181 0 41 (dk_at dksX0_refused_0 5 rfl rfl)
theorem dX0_refused_8 : decode cX0_refused 8 = .ok (.aload_n 0, 1) := dk_42 (dk_at dksX0_refused_0 8 rfl rfl)
theorem dX0_refused_9 : decode cX0_refused 9 = .ok (.aload_n 1, 1) := dk_43 (dk_at dksX0_refused_0 9 rfl rfl)
theorem dX0_refused_10 : decode cX0_refused 10 = .ok (.getfield 173, 3) := dk_180 0 173 (dk_at dksX0_refused_0 10 rfl rfl)
theorem dX0_refused_13 : decode cX0_refused 13 = .ok (.putfield 45, 3) := dk_181 0 45 (dk_at dksX0_refused_0 13 rfl rfl)
theorem dX0_refused_16 : decode cX0_refused 16 = .ok (.aload_n 0, 1) := dk_42 (dk_at dksX0_refused_0 16 rfl rfl)
theorem dX0_refused_17 : decode cX0_refused 17 = .ok (.bipush 10, 2) := dk_16 10 (dk_at dksX0_refused_0 17 rfl rfl)
theorem dX0_refused_19 : decode cX0_refused 19 = .ok (.invokevirtual 124, 3) := dk_182 0 124 (dk_at dksX0_refused_0 19 rfl rfl)
theorem dX0_refused_22 : decode cX0_refused 22 = .ok (.ireturn, 1) := dk_172 (dk_at dksX0_refused_0 22 rfl rfl)
abbrev cX0_gives : ByteArray := prog_1_method_7_code
def yX0_gives : MethodName := ⟨RX0, "gives", "(I)I"⟩
def dkwX0_gives_0 : List UInt8 := [42, 3, 181, 0, 97, 27, 172]
abbrev dktX0_gives_0 : List UInt8 := dkwX0_gives_0 ++ []
theorem dksX0_gives_0 : cX0_gives.data.toList.drop 0 = dktX0_gives_0 := by decide +kernel
theorem dX0_gives_0 : decode cX0_gives 0 = .ok (.aload_n 0, 1) := dk_42 (dk_at dksX0_gives_0 0 rfl rfl)
theorem dX0_gives_1 : decode cX0_gives 1 = .ok (.iconst 0, 1) := dk_3 (dk_at dksX0_gives_0 1 rfl rfl)
theorem dX0_gives_2 : decode cX0_gives 2 = .ok (.putfield 97, 3) := dk_181 0 97 (dk_at dksX0_gives_0 2 rfl rfl)
theorem dX0_gives_5 : decode cX0_gives 5 = .ok (.iload_n 1, 1) := dk_27 (dk_at dksX0_gives_0 5 rfl rfl)
theorem dX0_gives_6 : decode cX0_gives 6 = .ok (.ireturn, 1) := dk_172 (dk_at dksX0_gives_0 6 rfl rfl)
abbrev cX0_log : ByteArray := prog_1_method_23_code
def yX0_log : MethodName := ⟨RX0, "log", "(I)I"⟩
def dkwX0_log_2 : List UInt8 := [180, 0, 204, 181, 0, 194, 42, 42, 180, 0, 23, 180, 0, 205, 182, 0, 197, 172]
abbrev dktX0_log_2 : List UInt8 := dkwX0_log_2 ++ []
def dkwX0_log_1 : List UInt8 := [180, 0, 37, 182, 0, 200, 181, 0, 190, 167, 0, 10, 77, 42, 44, 182, 0, 183, 172, 42, 42, 180, 0, 23]
abbrev dktX0_log_1 : List UInt8 := dkwX0_log_1 ++ dktX0_log_2
def dkwX0_log_0 : List UInt8 := [42, 27, 17, 1, 44, 182, 0, 176, 154, 0, 9, 42, 8, 182, 0, 124, 172, 42, 42, 180, 0, 23, 27, 42]
abbrev dktX0_log_0 : List UInt8 := dkwX0_log_0 ++ dktX0_log_1
theorem dksX0_log_0 : cX0_log.data.toList.drop 0 = dktX0_log_0 := by decide +kernel
theorem dksX0_log_1 : cX0_log.data.toList.drop 24 = dktX0_log_1 := dk_seg dksX0_log_0 24 rfl rfl
theorem dksX0_log_2 : cX0_log.data.toList.drop 48 = dktX0_log_2 := dk_seg dksX0_log_1 24 rfl rfl
theorem dX0_log_0 : decode cX0_log 0 = .ok (.aload_n 0, 1) := dk_42 (dk_at dksX0_log_0 0 rfl rfl)
theorem dX0_log_1 : decode cX0_log 1 = .ok (.iload_n 1, 1) := dk_27 (dk_at dksX0_log_0 1 rfl rfl)
theorem dX0_log_2 : decode cX0_log 2 = .ok (.sipush 300, 3) := dk_17 1 44 (dk_at dksX0_log_0 2 rfl rfl)
theorem dX0_log_5 : decode cX0_log 5 = .ok (.invokevirtual 176, 3) := dk_182 0 176 (dk_at dksX0_log_0 5 rfl rfl)
theorem dX0_log_8 : decode cX0_log 8 = .ok (.ifCond .ne 9, 3) := dk_154 0 9 (dk_at dksX0_log_0 8 rfl rfl)
theorem dX0_log_11 : decode cX0_log 11 = .ok (.aload_n 0, 1) := dk_42 (dk_at dksX0_log_0 11 rfl rfl)
theorem dX0_log_12 : decode cX0_log 12 = .ok (.iconst 5, 1) := dk_8 (dk_at dksX0_log_0 12 rfl rfl)
theorem dX0_log_13 : decode cX0_log 13 = .ok (.invokevirtual 124, 3) := dk_182 0 124 (dk_at dksX0_log_0 13 rfl rfl)
theorem dX0_log_16 : decode cX0_log 16 = .ok (.ireturn, 1) := dk_172 (dk_at dksX0_log_0 16 rfl rfl)
theorem dX0_log_17 : decode cX0_log 17 = .ok (.aload_n 0, 1) := dk_42 (dk_at dksX0_log_0 17 rfl rfl)
theorem dX0_log_18 : decode cX0_log 18 = .ok (.aload_n 0, 1) := dk_42 (dk_at dksX0_log_0 18 rfl rfl)
theorem dX0_log_19 : decode cX0_log 19 = .ok (.getfield 23, 3) := dk_180 0 23 (dk_at dksX0_log_0 19 rfl rfl)
theorem dX0_log_22 : decode cX0_log 22 = .ok (.iload_n 1, 1) := dk_27 (dk_at dksX0_log_0 22 rfl rfl)
theorem dX0_log_23 : decode cX0_log 23 = .ok (.aload_n 0, 1) := dk_42 (dk_at dksX0_log_0 23 rfl rfl)
theorem dX0_log_24 : decode cX0_log 24 = .ok (.getfield 37, 3) := dk_180 0 37 (dk_at dksX0_log_1 0 rfl rfl)
theorem dX0_log_27 : decode cX0_log 27 = .ok (.invokevirtual 200, 3) := dk_182 0 200 (dk_at dksX0_log_1 3 rfl rfl)
theorem dX0_log_30 : decode cX0_log 30 = .ok (.putfield 190, 3) := dk_181 0 190 (dk_at dksX0_log_1 6 rfl rfl)
theorem dX0_log_33 : decode cX0_log 33 = .ok (.goto 10, 3) := dk_167 0 10 (dk_at dksX0_log_1 9 rfl rfl)
theorem dX0_log_36 : decode cX0_log 36 = .ok (.astore_n 2, 1) := dk_77 (dk_at dksX0_log_1 12 rfl rfl)
theorem dX0_log_37 : decode cX0_log 37 = .ok (.aload_n 0, 1) := dk_42 (dk_at dksX0_log_1 13 rfl rfl)
theorem dX0_log_38 : decode cX0_log 38 = .ok (.aload_n 2, 1) := dk_44 (dk_at dksX0_log_1 14 rfl rfl)
theorem dX0_log_39 : decode cX0_log 39 = .ok (.invokevirtual 183, 3) := dk_182 0 183 (dk_at dksX0_log_1 15 rfl rfl)
theorem dX0_log_42 : decode cX0_log 42 = .ok (.ireturn, 1) := dk_172 (dk_at dksX0_log_1 18 rfl rfl)
theorem dX0_log_43 : decode cX0_log 43 = .ok (.aload_n 0, 1) := dk_42 (dk_at dksX0_log_1 19 rfl rfl)
theorem dX0_log_44 : decode cX0_log 44 = .ok (.aload_n 0, 1) := dk_42 (dk_at dksX0_log_1 20 rfl rfl)
theorem dX0_log_45 : decode cX0_log 45 = .ok (.getfield 23, 3) := dk_180 0 23 (dk_at dksX0_log_1 21 rfl rfl)
theorem dX0_log_48 : decode cX0_log 48 = .ok (.getfield 204, 3) := dk_180 0 204 (dk_at dksX0_log_2 0 rfl rfl)
theorem dX0_log_51 : decode cX0_log 51 = .ok (.putfield 194, 3) := dk_181 0 194 (dk_at dksX0_log_2 3 rfl rfl)
theorem dX0_log_54 : decode cX0_log 54 = .ok (.aload_n 0, 1) := dk_42 (dk_at dksX0_log_2 6 rfl rfl)
theorem dX0_log_55 : decode cX0_log 55 = .ok (.aload_n 0, 1) := dk_42 (dk_at dksX0_log_2 7 rfl rfl)
theorem dX0_log_56 : decode cX0_log 56 = .ok (.getfield 23, 3) := dk_180 0 23 (dk_at dksX0_log_2 8 rfl rfl)
theorem dX0_log_59 : decode cX0_log 59 = .ok (.getfield 205, 3) := dk_180 0 205 (dk_at dksX0_log_2 11 rfl rfl)
theorem dX0_log_62 : decode cX0_log 62 = .ok (.invokevirtual 197, 3) := dk_182 0 197 (dk_at dksX0_log_2 14 rfl rfl)
theorem dX0_log_65 : decode cX0_log 65 = .ok (.ireturn, 1) := dk_172 (dk_at dksX0_log_2 17 rfl rfl)
abbrev cX0_fault : ByteArray := prog_1_method_24_code
def yX0_fault : MethodName := ⟨RX0, "fault", "(I)I"⟩
def dkwX0_fault_1 : List UInt8 := [172]
abbrev dktX0_fault_1 : List UInt8 := dkwX0_fault_1 ++ []
def dkwX0_fault_0 : List UInt8 := [27, 154, 0, 10, 42, 180, 0, 41, 167, 0, 16, 27, 4, 160, 0, 10, 42, 180, 0, 45, 167, 0, 4, 2]
abbrev dktX0_fault_0 : List UInt8 := dkwX0_fault_0 ++ dktX0_fault_1
theorem dksX0_fault_0 : cX0_fault.data.toList.drop 0 = dktX0_fault_0 := by decide +kernel
theorem dksX0_fault_1 : cX0_fault.data.toList.drop 24 = dktX0_fault_1 := dk_seg dksX0_fault_0 24 rfl rfl
theorem dX0_fault_0 : decode cX0_fault 0 = .ok (.iload_n 1, 1) := dk_27 (dk_at dksX0_fault_0 0 rfl rfl)
theorem dX0_fault_1 : decode cX0_fault 1 = .ok (.ifCond .ne 10, 3) := dk_154 0 10 (dk_at dksX0_fault_0 1 rfl rfl)
theorem dX0_fault_4 : decode cX0_fault 4 = .ok (.aload_n 0, 1) := dk_42 (dk_at dksX0_fault_0 4 rfl rfl)
theorem dX0_fault_5 : decode cX0_fault 5 = .ok (.getfield 41, 3) := dk_180 0 41 (dk_at dksX0_fault_0 5 rfl rfl)
theorem dX0_fault_8 : decode cX0_fault 8 = .ok (.goto 16, 3) := dk_167 0 16 (dk_at dksX0_fault_0 8 rfl rfl)
theorem dX0_fault_11 : decode cX0_fault 11 = .ok (.iload_n 1, 1) := dk_27 (dk_at dksX0_fault_0 11 rfl rfl)
theorem dX0_fault_12 : decode cX0_fault 12 = .ok (.iconst 1, 1) := dk_4 (dk_at dksX0_fault_0 12 rfl rfl)
theorem dX0_fault_13 : decode cX0_fault 13 = .ok (.if_icmp .ne 10, 3) := dk_160 0 10 (dk_at dksX0_fault_0 13 rfl rfl)
theorem dX0_fault_16 : decode cX0_fault 16 = .ok (.aload_n 0, 1) := dk_42 (dk_at dksX0_fault_0 16 rfl rfl)
theorem dX0_fault_17 : decode cX0_fault 17 = .ok (.getfield 45, 3) := dk_180 0 45 (dk_at dksX0_fault_0 17 rfl rfl)
theorem dX0_fault_20 : decode cX0_fault 20 = .ok (.goto 4, 3) := dk_167 0 4 (dk_at dksX0_fault_0 20 rfl rfl)
theorem dX0_fault_23 : decode cX0_fault 23 = .ok (.iconst (-1), 1) := dk_2 (dk_at dksX0_fault_0 23 rfl rfl)
theorem dX0_fault_24 : decode cX0_fault 24 = .ok (.ireturn, 1) := dk_172 (dk_at dksX0_fault_1 0 rfl rfl)
abbrev cX0_many : ByteArray := prog_1_method_25_code
def yX0_many : MethodName := ⟨RX0, "many", "(I)I"⟩
def dkwX0_many_7 : List UInt8 := [182, 0, 124, 172]
abbrev dktX0_many_7 : List UInt8 := dkwX0_many_7 ++ []
def dkwX0_many_6 : List UInt8 := [180, 0, 216, 184, 0, 219, 96, 61, 132, 3, 1, 167, 255, 224, 42, 28, 5, 108, 182, 0, 197, 172, 42, 8]
abbrev dktX0_many_6 : List UInt8 := dkwX0_many_6 ++ dktX0_many_7
def dkwX0_many_5 : List UInt8 := [172, 3, 62, 29, 42, 180, 0, 37, 180, 0, 149, 162, 0, 27, 28, 42, 180, 0, 37, 180, 0, 208, 29, 50]
abbrev dktX0_many_5 : List UInt8 := dkwX0_many_5 ++ dktX0_many_6
def dkwX0_many_4 : List UInt8 := [182, 0, 212, 154, 0, 7, 4, 167, 0, 4, 3, 96, 61, 132, 3, 1, 167, 255, 219, 42, 28, 182, 0, 197]
abbrev dktX0_many_4 : List UInt8 := dkwX0_many_4 ++ dktX0_many_5
def dkwX0_many_3 : List UInt8 := [3, 62, 29, 42, 180, 0, 37, 180, 0, 149, 162, 0, 32, 28, 42, 180, 0, 37, 180, 0, 208, 29, 50]
abbrev dktX0_many_3 : List UInt8 := dkwX0_many_3 ++ dktX0_many_4
def dkwX0_many_2 : List UInt8 := [42, 42, 180, 0, 37, 180, 0, 149, 182, 0, 197, 172, 42, 42, 180, 0, 37, 180, 0, 152, 182, 0, 197, 172]
abbrev dktX0_many_2 : List UInt8 := dkwX0_many_2 ++ dktX0_many_3
def dkwX0_many_1 : List UInt8 := [170, 0, 0, 0, 146, 0, 0, 0, 0, 0, 0, 0, 3, 0, 0, 0, 29, 0, 0, 0, 41, 0, 0, 0, 53, 0, 0, 0, 101]
abbrev dktX0_many_1 : List UInt8 := dkwX0_many_1 ++ dktX0_many_2
def dkwX0_many_0 : List UInt8 := [3, 61, 27]
abbrev dktX0_many_0 : List UInt8 := dkwX0_many_0 ++ dktX0_many_1
theorem dksX0_many_0 : cX0_many.data.toList.drop 0 = dktX0_many_0 := by decide +kernel
theorem dksX0_many_1 : cX0_many.data.toList.drop 3 = dktX0_many_1 := dk_seg dksX0_many_0 3 rfl rfl
theorem dksX0_many_2 : cX0_many.data.toList.drop 32 = dktX0_many_2 := dk_seg dksX0_many_1 29 rfl rfl
theorem dksX0_many_3 : cX0_many.data.toList.drop 56 = dktX0_many_3 := dk_seg dksX0_many_2 24 rfl rfl
theorem dksX0_many_4 : cX0_many.data.toList.drop 79 = dktX0_many_4 := dk_seg dksX0_many_3 23 rfl rfl
theorem dksX0_many_5 : cX0_many.data.toList.drop 103 = dktX0_many_5 := dk_seg dksX0_many_4 24 rfl rfl
theorem dksX0_many_6 : cX0_many.data.toList.drop 127 = dktX0_many_6 := dk_seg dksX0_many_5 24 rfl rfl
theorem dksX0_many_7 : cX0_many.data.toList.drop 151 = dktX0_many_7 := dk_seg dksX0_many_6 24 rfl rfl
theorem dX0_many_0 : decode cX0_many 0 = .ok (.iconst 0, 1) := dk_3 (dk_at dksX0_many_0 0 rfl rfl)
theorem dX0_many_1 : decode cX0_many 1 = .ok (.istore_n 2, 1) := dk_61 (dk_at dksX0_many_0 1 rfl rfl)
theorem dX0_many_2 : decode cX0_many 2 = .ok (.iload_n 1, 1) := dk_27 (dk_at dksX0_many_0 2 rfl rfl)
theorem dX0_many_3 : decode cX0_many 3 = .ok (.tableswitch 146 0 3 #[29, 41, 53, 101], 29) := by decide +kernel
theorem dX0_many_32 : decode cX0_many 32 = .ok (.aload_n 0, 1) := dk_42 (dk_at dksX0_many_2 0 rfl rfl)
theorem dX0_many_33 : decode cX0_many 33 = .ok (.aload_n 0, 1) := dk_42 (dk_at dksX0_many_2 1 rfl rfl)
theorem dX0_many_34 : decode cX0_many 34 = .ok (.getfield 37, 3) := dk_180 0 37 (dk_at dksX0_many_2 2 rfl rfl)
theorem dX0_many_37 : decode cX0_many 37 = .ok (.getfield 149, 3) := dk_180 0 149 (dk_at dksX0_many_2 5 rfl rfl)
theorem dX0_many_40 : decode cX0_many 40 = .ok (.invokevirtual 197, 3) := dk_182 0 197 (dk_at dksX0_many_2 8 rfl rfl)
theorem dX0_many_43 : decode cX0_many 43 = .ok (.ireturn, 1) := dk_172 (dk_at dksX0_many_2 11 rfl rfl)
theorem dX0_many_44 : decode cX0_many 44 = .ok (.aload_n 0, 1) := dk_42 (dk_at dksX0_many_2 12 rfl rfl)
theorem dX0_many_45 : decode cX0_many 45 = .ok (.aload_n 0, 1) := dk_42 (dk_at dksX0_many_2 13 rfl rfl)
theorem dX0_many_46 : decode cX0_many 46 = .ok (.getfield 37, 3) := dk_180 0 37 (dk_at dksX0_many_2 14 rfl rfl)
theorem dX0_many_49 : decode cX0_many 49 = .ok (.getfield 152, 3) := dk_180 0 152 (dk_at dksX0_many_2 17 rfl rfl)
theorem dX0_many_52 : decode cX0_many 52 = .ok (.invokevirtual 197, 3) := dk_182 0 197 (dk_at dksX0_many_2 20 rfl rfl)
theorem dX0_many_55 : decode cX0_many 55 = .ok (.ireturn, 1) := dk_172 (dk_at dksX0_many_2 23 rfl rfl)
theorem dX0_many_56 : decode cX0_many 56 = .ok (.iconst 0, 1) := dk_3 (dk_at dksX0_many_3 0 rfl rfl)
theorem dX0_many_57 : decode cX0_many 57 = .ok (.istore_n 3, 1) := dk_62 (dk_at dksX0_many_3 1 rfl rfl)
theorem dX0_many_58 : decode cX0_many 58 = .ok (.iload_n 3, 1) := dk_29 (dk_at dksX0_many_3 2 rfl rfl)
theorem dX0_many_59 : decode cX0_many 59 = .ok (.aload_n 0, 1) := dk_42 (dk_at dksX0_many_3 3 rfl rfl)
theorem dX0_many_60 : decode cX0_many 60 = .ok (.getfield 37, 3) := dk_180 0 37 (dk_at dksX0_many_3 4 rfl rfl)
theorem dX0_many_63 : decode cX0_many 63 = .ok (.getfield 149, 3) := dk_180 0 149 (dk_at dksX0_many_3 7 rfl rfl)
theorem dX0_many_66 : decode cX0_many 66 = .ok (.if_icmp .ge 32, 3) := dk_162 0 32 (dk_at dksX0_many_3 10 rfl rfl)
theorem dX0_many_69 : decode cX0_many 69 = .ok (.iload_n 2, 1) := dk_28 (dk_at dksX0_many_3 13 rfl rfl)
theorem dX0_many_70 : decode cX0_many 70 = .ok (.aload_n 0, 1) := dk_42 (dk_at dksX0_many_3 14 rfl rfl)
theorem dX0_many_71 : decode cX0_many 71 = .ok (.getfield 37, 3) := dk_180 0 37 (dk_at dksX0_many_3 15 rfl rfl)
theorem dX0_many_74 : decode cX0_many 74 = .ok (.getfield 208, 3) := dk_180 0 208 (dk_at dksX0_many_3 18 rfl rfl)
theorem dX0_many_77 : decode cX0_many 77 = .ok (.iload_n 3, 1) := dk_29 (dk_at dksX0_many_3 21 rfl rfl)
theorem dX0_many_78 : decode cX0_many 78 = .ok (.aaload, 1) := dk_50 (dk_at dksX0_many_3 22 rfl rfl)
theorem dX0_many_79 : decode cX0_many 79 = .ok (.invokevirtual 212, 3) := dk_182 0 212 (dk_at dksX0_many_4 0 rfl rfl)
theorem dX0_many_82 : decode cX0_many 82 = .ok (.ifCond .ne 7, 3) := dk_154 0 7 (dk_at dksX0_many_4 3 rfl rfl)
theorem dX0_many_85 : decode cX0_many 85 = .ok (.iconst 1, 1) := dk_4 (dk_at dksX0_many_4 6 rfl rfl)
theorem dX0_many_86 : decode cX0_many 86 = .ok (.goto 4, 3) := dk_167 0 4 (dk_at dksX0_many_4 7 rfl rfl)
theorem dX0_many_89 : decode cX0_many 89 = .ok (.iconst 0, 1) := dk_3 (dk_at dksX0_many_4 10 rfl rfl)
theorem dX0_many_90 : decode cX0_many 90 = .ok (.iadd, 1) := dk_96 (dk_at dksX0_many_4 11 rfl rfl)
theorem dX0_many_91 : decode cX0_many 91 = .ok (.istore_n 2, 1) := dk_61 (dk_at dksX0_many_4 12 rfl rfl)
theorem dX0_many_92 : decode cX0_many 92 = .ok (.iinc 3 1, 3) := dk_132 3 1 (dk_at dksX0_many_4 13 rfl rfl)
theorem dX0_many_95 : decode cX0_many 95 = .ok (.goto (-37), 3) := dk_167 255 219 (dk_at dksX0_many_4 16 rfl rfl)
theorem dX0_many_98 : decode cX0_many 98 = .ok (.aload_n 0, 1) := dk_42 (dk_at dksX0_many_4 19 rfl rfl)
theorem dX0_many_99 : decode cX0_many 99 = .ok (.iload_n 2, 1) := dk_28 (dk_at dksX0_many_4 20 rfl rfl)
theorem dX0_many_100 : decode cX0_many 100 = .ok (.invokevirtual 197, 3) := dk_182 0 197 (dk_at dksX0_many_4 21 rfl rfl)
theorem dX0_many_103 : decode cX0_many 103 = .ok (.ireturn, 1) := dk_172 (dk_at dksX0_many_5 0 rfl rfl)
theorem dX0_many_104 : decode cX0_many 104 = .ok (.iconst 0, 1) := dk_3 (dk_at dksX0_many_5 1 rfl rfl)
theorem dX0_many_105 : decode cX0_many 105 = .ok (.istore_n 3, 1) := dk_62 (dk_at dksX0_many_5 2 rfl rfl)
theorem dX0_many_106 : decode cX0_many 106 = .ok (.iload_n 3, 1) := dk_29 (dk_at dksX0_many_5 3 rfl rfl)
theorem dX0_many_107 : decode cX0_many 107 = .ok (.aload_n 0, 1) := dk_42 (dk_at dksX0_many_5 4 rfl rfl)
theorem dX0_many_108 : decode cX0_many 108 = .ok (.getfield 37, 3) := dk_180 0 37 (dk_at dksX0_many_5 5 rfl rfl)
theorem dX0_many_111 : decode cX0_many 111 = .ok (.getfield 149, 3) := dk_180 0 149 (dk_at dksX0_many_5 8 rfl rfl)
theorem dX0_many_114 : decode cX0_many 114 = .ok (.if_icmp .ge 27, 3) := dk_162 0 27 (dk_at dksX0_many_5 11 rfl rfl)
theorem dX0_many_117 : decode cX0_many 117 = .ok (.iload_n 2, 1) := dk_28 (dk_at dksX0_many_5 14 rfl rfl)
theorem dX0_many_118 : decode cX0_many 118 = .ok (.aload_n 0, 1) := dk_42 (dk_at dksX0_many_5 15 rfl rfl)
theorem dX0_many_119 : decode cX0_many 119 = .ok (.getfield 37, 3) := dk_180 0 37 (dk_at dksX0_many_5 16 rfl rfl)
theorem dX0_many_122 : decode cX0_many 122 = .ok (.getfield 208, 3) := dk_180 0 208 (dk_at dksX0_many_5 19 rfl rfl)
theorem dX0_many_125 : decode cX0_many 125 = .ok (.iload_n 3, 1) := dk_29 (dk_at dksX0_many_5 22 rfl rfl)
theorem dX0_many_126 : decode cX0_many 126 = .ok (.aaload, 1) := dk_50 (dk_at dksX0_many_5 23 rfl rfl)
theorem dX0_many_127 : decode cX0_many 127 = .ok (.getfield 216, 3) := dk_180 0 216 (dk_at dksX0_many_6 0 rfl rfl)
theorem dX0_many_130 : decode cX0_many 130 = .ok (.invokestatic 219, 3) := dk_184 0 219 (dk_at dksX0_many_6 3 rfl rfl)
theorem dX0_many_133 : decode cX0_many 133 = .ok (.iadd, 1) := dk_96 (dk_at dksX0_many_6 6 rfl rfl)
theorem dX0_many_134 : decode cX0_many 134 = .ok (.istore_n 2, 1) := dk_61 (dk_at dksX0_many_6 7 rfl rfl)
theorem dX0_many_135 : decode cX0_many 135 = .ok (.iinc 3 1, 3) := dk_132 3 1 (dk_at dksX0_many_6 8 rfl rfl)
theorem dX0_many_138 : decode cX0_many 138 = .ok (.goto (-32), 3) := dk_167 255 224 (dk_at dksX0_many_6 11 rfl rfl)
theorem dX0_many_141 : decode cX0_many 141 = .ok (.aload_n 0, 1) := dk_42 (dk_at dksX0_many_6 14 rfl rfl)
theorem dX0_many_142 : decode cX0_many 142 = .ok (.iload_n 2, 1) := dk_28 (dk_at dksX0_many_6 15 rfl rfl)
theorem dX0_many_143 : decode cX0_many 143 = .ok (.iconst 2, 1) := dk_5 (dk_at dksX0_many_6 16 rfl rfl)
theorem dX0_many_144 : decode cX0_many 144 = .ok (.idiv, 1) := dk_108 (dk_at dksX0_many_6 17 rfl rfl)
theorem dX0_many_145 : decode cX0_many 145 = .ok (.invokevirtual 197, 3) := dk_182 0 197 (dk_at dksX0_many_6 18 rfl rfl)
theorem dX0_many_148 : decode cX0_many 148 = .ok (.ireturn, 1) := dk_172 (dk_at dksX0_many_6 21 rfl rfl)
theorem dX0_many_149 : decode cX0_many 149 = .ok (.aload_n 0, 1) := dk_42 (dk_at dksX0_many_6 22 rfl rfl)
theorem dX0_many_150 : decode cX0_many 150 = .ok (.iconst 5, 1) := dk_8 (dk_at dksX0_many_6 23 rfl rfl)
theorem dX0_many_151 : decode cX0_many 151 = .ok (.invokevirtual 124, 3) := dk_182 0 124 (dk_at dksX0_many_7 0 rfl rfl)
theorem dX0_many_154 : decode cX0_many 154 = .ok (.ireturn, 1) := dk_172 (dk_at dksX0_many_7 3 rfl rfl)
abbrev cX0_change : ByteArray := prog_1_method_26_code
def yX0_change : MethodName := ⟨RX0, "change", "(II)I"⟩
def dkwX0_change_6 : List UInt8 := [182, 0, 124, 172]
abbrev dktX0_change_6 : List UInt8 := dkwX0_change_6 ++ []
def dkwX0_change_5 : List UInt8 := [182, 0, 124, 172, 42, 45, 180, 0, 236, 182, 0, 197, 172, 42, 45, 180, 0, 239, 182, 0, 197, 172, 42, 8]
abbrev dktX0_change_5 : List UInt8 := dkwX0_change_5 ++ dktX0_change_6
def dkwX0_change_4 : List UInt8 := [153, 0, 21, 45, 192, 0, 231, 58, 4, 42, 25, 4, 180, 0, 233, 182, 0, 197, 167, 0, 9, 42, 16, 8]
abbrev dktX0_change_4 : List UInt8 := dkwX0_change_4 ++ dktX0_change_5
def dkwX0_change_3 : List UInt8 := [42, 45, 182, 0, 212, 182, 0, 197, 172, 42, 45, 182, 0, 228, 182, 0, 197, 172, 45, 193, 0, 231]
abbrev dktX0_change_3 : List UInt8 := dkwX0_change_3 ++ dktX0_change_4
def dkwX0_change_2 : List UInt8 := [170, 0, 0, 0, 0, 102, 0, 0, 0, 0, 0, 0, 0, 4, 0, 0, 0, 34, 0, 0, 0, 43, 0, 0, 0, 52, 0, 0, 0, 84, 0, 0, 0, 93]
abbrev dktX0_change_2 : List UInt8 := dkwX0_change_2 ++ dktX0_change_3
def dkwX0_change_1 : List UInt8 := [78, 28]
abbrev dktX0_change_1 : List UInt8 := dkwX0_change_1 ++ dktX0_change_2
def dkwX0_change_0 : List UInt8 := [42, 27, 133, 182, 0, 224, 154, 0, 9, 42, 5, 182, 0, 124, 172, 42, 180, 0, 37, 180, 0, 208, 27, 50]
abbrev dktX0_change_0 : List UInt8 := dkwX0_change_0 ++ dktX0_change_1
theorem dksX0_change_0 : cX0_change.data.toList.drop 0 = dktX0_change_0 := by decide +kernel
theorem dksX0_change_1 : cX0_change.data.toList.drop 24 = dktX0_change_1 := dk_seg dksX0_change_0 24 rfl rfl
theorem dksX0_change_2 : cX0_change.data.toList.drop 26 = dktX0_change_2 := dk_seg dksX0_change_1 2 rfl rfl
theorem dksX0_change_3 : cX0_change.data.toList.drop 60 = dktX0_change_3 := dk_seg dksX0_change_2 34 rfl rfl
theorem dksX0_change_4 : cX0_change.data.toList.drop 82 = dktX0_change_4 := dk_seg dksX0_change_3 22 rfl rfl
theorem dksX0_change_5 : cX0_change.data.toList.drop 106 = dktX0_change_5 := dk_seg dksX0_change_4 24 rfl rfl
theorem dksX0_change_6 : cX0_change.data.toList.drop 130 = dktX0_change_6 := dk_seg dksX0_change_5 24 rfl rfl
theorem dX0_change_0 : decode cX0_change 0 = .ok (.aload_n 0, 1) := dk_42 (dk_at dksX0_change_0 0 rfl rfl)
theorem dX0_change_1 : decode cX0_change 1 = .ok (.iload_n 1, 1) := dk_27 (dk_at dksX0_change_0 1 rfl rfl)
theorem dX0_change_2 : decode cX0_change 2 = .ok (.i2l, 1) := dk_133 (dk_at dksX0_change_0 2 rfl rfl)
theorem dX0_change_3 : decode cX0_change 3 = .ok (.invokevirtual 224, 3) := dk_182 0 224 (dk_at dksX0_change_0 3 rfl rfl)
theorem dX0_change_6 : decode cX0_change 6 = .ok (.ifCond .ne 9, 3) := dk_154 0 9 (dk_at dksX0_change_0 6 rfl rfl)
theorem dX0_change_9 : decode cX0_change 9 = .ok (.aload_n 0, 1) := dk_42 (dk_at dksX0_change_0 9 rfl rfl)
theorem dX0_change_10 : decode cX0_change 10 = .ok (.iconst 2, 1) := dk_5 (dk_at dksX0_change_0 10 rfl rfl)
theorem dX0_change_11 : decode cX0_change 11 = .ok (.invokevirtual 124, 3) := dk_182 0 124 (dk_at dksX0_change_0 11 rfl rfl)
theorem dX0_change_14 : decode cX0_change 14 = .ok (.ireturn, 1) := dk_172 (dk_at dksX0_change_0 14 rfl rfl)
theorem dX0_change_15 : decode cX0_change 15 = .ok (.aload_n 0, 1) := dk_42 (dk_at dksX0_change_0 15 rfl rfl)
theorem dX0_change_16 : decode cX0_change 16 = .ok (.getfield 37, 3) := dk_180 0 37 (dk_at dksX0_change_0 16 rfl rfl)
theorem dX0_change_19 : decode cX0_change 19 = .ok (.getfield 208, 3) := dk_180 0 208 (dk_at dksX0_change_0 19 rfl rfl)
theorem dX0_change_22 : decode cX0_change 22 = .ok (.iload_n 1, 1) := dk_27 (dk_at dksX0_change_0 22 rfl rfl)
theorem dX0_change_23 : decode cX0_change 23 = .ok (.aaload, 1) := dk_50 (dk_at dksX0_change_0 23 rfl rfl)
theorem dX0_change_24 : decode cX0_change 24 = .ok (.astore_n 3, 1) := dk_78 (dk_at dksX0_change_1 0 rfl rfl)
theorem dX0_change_25 : decode cX0_change 25 = .ok (.iload_n 2, 1) := dk_28 (dk_at dksX0_change_1 1 rfl rfl)
theorem dX0_change_26 : decode cX0_change 26 = .ok (.tableswitch 102 0 4 #[34, 43, 52, 84, 93], 34) := by decide +kernel
theorem dX0_change_60 : decode cX0_change 60 = .ok (.aload_n 0, 1) := dk_42 (dk_at dksX0_change_3 0 rfl rfl)
theorem dX0_change_61 : decode cX0_change 61 = .ok (.aload_n 3, 1) := dk_45 (dk_at dksX0_change_3 1 rfl rfl)
theorem dX0_change_62 : decode cX0_change 62 = .ok (.invokevirtual 212, 3) := dk_182 0 212 (dk_at dksX0_change_3 2 rfl rfl)
theorem dX0_change_65 : decode cX0_change 65 = .ok (.invokevirtual 197, 3) := dk_182 0 197 (dk_at dksX0_change_3 5 rfl rfl)
theorem dX0_change_68 : decode cX0_change 68 = .ok (.ireturn, 1) := dk_172 (dk_at dksX0_change_3 8 rfl rfl)
theorem dX0_change_69 : decode cX0_change 69 = .ok (.aload_n 0, 1) := dk_42 (dk_at dksX0_change_3 9 rfl rfl)
theorem dX0_change_70 : decode cX0_change 70 = .ok (.aload_n 3, 1) := dk_45 (dk_at dksX0_change_3 10 rfl rfl)
theorem dX0_change_71 : decode cX0_change 71 = .ok (.invokevirtual 228, 3) := dk_182 0 228 (dk_at dksX0_change_3 11 rfl rfl)
theorem dX0_change_74 : decode cX0_change 74 = .ok (.invokevirtual 197, 3) := dk_182 0 197 (dk_at dksX0_change_3 14 rfl rfl)
theorem dX0_change_77 : decode cX0_change 77 = .ok (.ireturn, 1) := dk_172 (dk_at dksX0_change_3 17 rfl rfl)
theorem dX0_change_78 : decode cX0_change 78 = .ok (.aload_n 3, 1) := dk_45 (dk_at dksX0_change_3 18 rfl rfl)
theorem dX0_change_79 : decode cX0_change 79 = .ok (.instanceof 231, 3) := dk_193 0 231 (dk_at dksX0_change_3 19 rfl rfl)
theorem dX0_change_82 : decode cX0_change 82 = .ok (.ifCond .eq 21, 3) := dk_153 0 21 (dk_at dksX0_change_4 0 rfl rfl)
theorem dX0_change_85 : decode cX0_change 85 = .ok (.aload_n 3, 1) := dk_45 (dk_at dksX0_change_4 3 rfl rfl)
theorem dX0_change_86 : decode cX0_change 86 = .ok (.checkcast 231, 3) := dk_192 0 231 (dk_at dksX0_change_4 4 rfl rfl)
theorem dX0_change_89 : decode cX0_change 89 = .ok (.astore 4, 2) := dk_58 4 (dk_at dksX0_change_4 7 rfl rfl)
theorem dX0_change_91 : decode cX0_change 91 = .ok (.aload_n 0, 1) := dk_42 (dk_at dksX0_change_4 9 rfl rfl)
theorem dX0_change_92 : decode cX0_change 92 = .ok (.aload 4, 2) := dk_25 4 (dk_at dksX0_change_4 10 rfl rfl)
theorem dX0_change_94 : decode cX0_change 94 = .ok (.getfield 233, 3) := dk_180 0 233 (dk_at dksX0_change_4 12 rfl rfl)
theorem dX0_change_97 : decode cX0_change 97 = .ok (.invokevirtual 197, 3) := dk_182 0 197 (dk_at dksX0_change_4 15 rfl rfl)
theorem dX0_change_100 : decode cX0_change 100 = .ok (.goto 9, 3) := dk_167 0 9 (dk_at dksX0_change_4 18 rfl rfl)
theorem dX0_change_103 : decode cX0_change 103 = .ok (.aload_n 0, 1) := dk_42 (dk_at dksX0_change_4 21 rfl rfl)
theorem dX0_change_104 : decode cX0_change 104 = .ok (.bipush 8, 2) := dk_16 8 (dk_at dksX0_change_4 22 rfl rfl)
theorem dX0_change_106 : decode cX0_change 106 = .ok (.invokevirtual 124, 3) := dk_182 0 124 (dk_at dksX0_change_5 0 rfl rfl)
theorem dX0_change_109 : decode cX0_change 109 = .ok (.ireturn, 1) := dk_172 (dk_at dksX0_change_5 3 rfl rfl)
theorem dX0_change_110 : decode cX0_change 110 = .ok (.aload_n 0, 1) := dk_42 (dk_at dksX0_change_5 4 rfl rfl)
theorem dX0_change_111 : decode cX0_change 111 = .ok (.aload_n 3, 1) := dk_45 (dk_at dksX0_change_5 5 rfl rfl)
theorem dX0_change_112 : decode cX0_change 112 = .ok (.getfield 236, 3) := dk_180 0 236 (dk_at dksX0_change_5 6 rfl rfl)
theorem dX0_change_115 : decode cX0_change 115 = .ok (.invokevirtual 197, 3) := dk_182 0 197 (dk_at dksX0_change_5 9 rfl rfl)
theorem dX0_change_118 : decode cX0_change 118 = .ok (.ireturn, 1) := dk_172 (dk_at dksX0_change_5 12 rfl rfl)
theorem dX0_change_119 : decode cX0_change 119 = .ok (.aload_n 0, 1) := dk_42 (dk_at dksX0_change_5 13 rfl rfl)
theorem dX0_change_120 : decode cX0_change 120 = .ok (.aload_n 3, 1) := dk_45 (dk_at dksX0_change_5 14 rfl rfl)
theorem dX0_change_121 : decode cX0_change 121 = .ok (.getfield 239, 3) := dk_180 0 239 (dk_at dksX0_change_5 15 rfl rfl)
theorem dX0_change_124 : decode cX0_change 124 = .ok (.invokevirtual 197, 3) := dk_182 0 197 (dk_at dksX0_change_5 18 rfl rfl)
theorem dX0_change_127 : decode cX0_change 127 = .ok (.ireturn, 1) := dk_172 (dk_at dksX0_change_5 21 rfl rfl)
theorem dX0_change_128 : decode cX0_change 128 = .ok (.aload_n 0, 1) := dk_42 (dk_at dksX0_change_5 22 rfl rfl)
theorem dX0_change_129 : decode cX0_change 129 = .ok (.iconst 5, 1) := dk_8 (dk_at dksX0_change_5 23 rfl rfl)
theorem dX0_change_130 : decode cX0_change 130 = .ok (.invokevirtual 124, 3) := dk_182 0 124 (dk_at dksX0_change_6 0 rfl rfl)
theorem dX0_change_133 : decode cX0_change 133 = .ok (.ireturn, 1) := dk_172 (dk_at dksX0_change_6 3 rfl rfl)
abbrev cX0_isChange : ByteArray := prog_1_method_15_code
def yX0_isChange : MethodName := ⟨RX0, "isChange", "(J)Z"⟩
def dkwX0_isChange_1 : List UInt8 := [172]
abbrev dktX0_isChange_1 : List UInt8 := dkwX0_isChange_1 ++ []
def dkwX0_isChange_0 : List UInt8 := [31, 9, 148, 155, 0, 20, 31, 42, 180, 0, 37, 180, 0, 149, 133, 148, 156, 0, 7, 4, 167, 0, 4, 3]
abbrev dktX0_isChange_0 : List UInt8 := dkwX0_isChange_0 ++ dktX0_isChange_1
theorem dksX0_isChange_0 : cX0_isChange.data.toList.drop 0 = dktX0_isChange_0 := by decide +kernel
theorem dksX0_isChange_1 : cX0_isChange.data.toList.drop 24 = dktX0_isChange_1 := dk_seg dksX0_isChange_0 24 rfl rfl
theorem dX0_isChange_0 : decode cX0_isChange 0 = .ok (.lload_n 1, 1) := dk_31 (dk_at dksX0_isChange_0 0 rfl rfl)
theorem dX0_isChange_1 : decode cX0_isChange 1 = .ok (.lconst 0, 1) := dk_9 (dk_at dksX0_isChange_0 1 rfl rfl)
theorem dX0_isChange_2 : decode cX0_isChange 2 = .ok (.lcmp, 1) := dk_148 (dk_at dksX0_isChange_0 2 rfl rfl)
theorem dX0_isChange_3 : decode cX0_isChange 3 = .ok (.ifCond .lt 20, 3) := dk_155 0 20 (dk_at dksX0_isChange_0 3 rfl rfl)
theorem dX0_isChange_6 : decode cX0_isChange 6 = .ok (.lload_n 1, 1) := dk_31 (dk_at dksX0_isChange_0 6 rfl rfl)
theorem dX0_isChange_7 : decode cX0_isChange 7 = .ok (.aload_n 0, 1) := dk_42 (dk_at dksX0_isChange_0 7 rfl rfl)
theorem dX0_isChange_8 : decode cX0_isChange 8 = .ok (.getfield 37, 3) := dk_180 0 37 (dk_at dksX0_isChange_0 8 rfl rfl)
theorem dX0_isChange_11 : decode cX0_isChange 11 = .ok (.getfield 149, 3) := dk_180 0 149 (dk_at dksX0_isChange_0 11 rfl rfl)
theorem dX0_isChange_14 : decode cX0_isChange 14 = .ok (.i2l, 1) := dk_133 (dk_at dksX0_isChange_0 14 rfl rfl)
theorem dX0_isChange_15 : decode cX0_isChange 15 = .ok (.lcmp, 1) := dk_148 (dk_at dksX0_isChange_0 15 rfl rfl)
theorem dX0_isChange_16 : decode cX0_isChange 16 = .ok (.ifCond .ge 7, 3) := dk_156 0 7 (dk_at dksX0_isChange_0 16 rfl rfl)
theorem dX0_isChange_19 : decode cX0_isChange 19 = .ok (.iconst 1, 1) := dk_4 (dk_at dksX0_isChange_0 19 rfl rfl)
theorem dX0_isChange_20 : decode cX0_isChange 20 = .ok (.goto 4, 3) := dk_167 0 4 (dk_at dksX0_isChange_0 20 rfl rfl)
theorem dX0_isChange_23 : decode cX0_isChange 23 = .ok (.iconst 0, 1) := dk_3 (dk_at dksX0_isChange_0 23 rfl rfl)
theorem dX0_isChange_24 : decode cX0_isChange 24 = .ok (.ireturn, 1) := dk_172 (dk_at dksX0_isChange_1 0 rfl rfl)
abbrev cX0_hangs : ByteArray := prog_1_method_28_code
def yX0_hangs : MethodName := ⟨RX0, "hangs", "(II)I"⟩
def dkwX0_hangs_3 : List UInt8 := [182, 0, 197, 172]
abbrev dktX0_hangs_3 : List UInt8 := dkwX0_hangs_3 ++ []
def dkwX0_hangs_2 : List UInt8 := [180, 0, 245, 167, 0, 20, 28, 4, 160, 0, 10, 45, 180, 0, 242, 167, 0, 8, 42, 27, 182, 0, 248]
abbrev dktX0_hangs_2 : List UInt8 := dkwX0_hangs_2 ++ dktX0_hangs_3
def dkwX0_hangs_1 : List UInt8 := [78, 28, 155, 0, 8, 28, 5, 164, 0, 11, 42, 8, 182, 0, 124, 167, 0, 35, 42, 28, 154, 0, 10, 45]
abbrev dktX0_hangs_1 : List UInt8 := dkwX0_hangs_1 ++ dktX0_hangs_2
def dkwX0_hangs_0 : List UInt8 := [42, 27, 133, 182, 0, 224, 154, 0, 9, 42, 5, 182, 0, 124, 172, 42, 180, 0, 37, 180, 0, 208, 27, 50]
abbrev dktX0_hangs_0 : List UInt8 := dkwX0_hangs_0 ++ dktX0_hangs_1
theorem dksX0_hangs_0 : cX0_hangs.data.toList.drop 0 = dktX0_hangs_0 := by decide +kernel
theorem dksX0_hangs_1 : cX0_hangs.data.toList.drop 24 = dktX0_hangs_1 := dk_seg dksX0_hangs_0 24 rfl rfl
theorem dksX0_hangs_2 : cX0_hangs.data.toList.drop 48 = dktX0_hangs_2 := dk_seg dksX0_hangs_1 24 rfl rfl
theorem dksX0_hangs_3 : cX0_hangs.data.toList.drop 71 = dktX0_hangs_3 := dk_seg dksX0_hangs_2 23 rfl rfl
theorem dX0_hangs_0 : decode cX0_hangs 0 = .ok (.aload_n 0, 1) := dk_42 (dk_at dksX0_hangs_0 0 rfl rfl)
theorem dX0_hangs_1 : decode cX0_hangs 1 = .ok (.iload_n 1, 1) := dk_27 (dk_at dksX0_hangs_0 1 rfl rfl)
theorem dX0_hangs_2 : decode cX0_hangs 2 = .ok (.i2l, 1) := dk_133 (dk_at dksX0_hangs_0 2 rfl rfl)
theorem dX0_hangs_3 : decode cX0_hangs 3 = .ok (.invokevirtual 224, 3) := dk_182 0 224 (dk_at dksX0_hangs_0 3 rfl rfl)
theorem dX0_hangs_6 : decode cX0_hangs 6 = .ok (.ifCond .ne 9, 3) := dk_154 0 9 (dk_at dksX0_hangs_0 6 rfl rfl)
theorem dX0_hangs_9 : decode cX0_hangs 9 = .ok (.aload_n 0, 1) := dk_42 (dk_at dksX0_hangs_0 9 rfl rfl)
theorem dX0_hangs_10 : decode cX0_hangs 10 = .ok (.iconst 2, 1) := dk_5 (dk_at dksX0_hangs_0 10 rfl rfl)
theorem dX0_hangs_11 : decode cX0_hangs 11 = .ok (.invokevirtual 124, 3) := dk_182 0 124 (dk_at dksX0_hangs_0 11 rfl rfl)
theorem dX0_hangs_14 : decode cX0_hangs 14 = .ok (.ireturn, 1) := dk_172 (dk_at dksX0_hangs_0 14 rfl rfl)
theorem dX0_hangs_15 : decode cX0_hangs 15 = .ok (.aload_n 0, 1) := dk_42 (dk_at dksX0_hangs_0 15 rfl rfl)
theorem dX0_hangs_16 : decode cX0_hangs 16 = .ok (.getfield 37, 3) := dk_180 0 37 (dk_at dksX0_hangs_0 16 rfl rfl)
theorem dX0_hangs_19 : decode cX0_hangs 19 = .ok (.getfield 208, 3) := dk_180 0 208 (dk_at dksX0_hangs_0 19 rfl rfl)
theorem dX0_hangs_22 : decode cX0_hangs 22 = .ok (.iload_n 1, 1) := dk_27 (dk_at dksX0_hangs_0 22 rfl rfl)
theorem dX0_hangs_23 : decode cX0_hangs 23 = .ok (.aaload, 1) := dk_50 (dk_at dksX0_hangs_0 23 rfl rfl)
theorem dX0_hangs_24 : decode cX0_hangs 24 = .ok (.astore_n 3, 1) := dk_78 (dk_at dksX0_hangs_1 0 rfl rfl)
theorem dX0_hangs_25 : decode cX0_hangs 25 = .ok (.iload_n 2, 1) := dk_28 (dk_at dksX0_hangs_1 1 rfl rfl)
theorem dX0_hangs_26 : decode cX0_hangs 26 = .ok (.ifCond .lt 8, 3) := dk_155 0 8 (dk_at dksX0_hangs_1 2 rfl rfl)
theorem dX0_hangs_29 : decode cX0_hangs 29 = .ok (.iload_n 2, 1) := dk_28 (dk_at dksX0_hangs_1 5 rfl rfl)
theorem dX0_hangs_30 : decode cX0_hangs 30 = .ok (.iconst 2, 1) := dk_5 (dk_at dksX0_hangs_1 6 rfl rfl)
theorem dX0_hangs_31 : decode cX0_hangs 31 = .ok (.if_icmp .le 11, 3) := dk_164 0 11 (dk_at dksX0_hangs_1 7 rfl rfl)
theorem dX0_hangs_34 : decode cX0_hangs 34 = .ok (.aload_n 0, 1) := dk_42 (dk_at dksX0_hangs_1 10 rfl rfl)
theorem dX0_hangs_35 : decode cX0_hangs 35 = .ok (.iconst 5, 1) := dk_8 (dk_at dksX0_hangs_1 11 rfl rfl)
theorem dX0_hangs_36 : decode cX0_hangs 36 = .ok (.invokevirtual 124, 3) := dk_182 0 124 (dk_at dksX0_hangs_1 12 rfl rfl)
theorem dX0_hangs_39 : decode cX0_hangs 39 = .ok (.goto 35, 3) := dk_167 0 35 (dk_at dksX0_hangs_1 15 rfl rfl)
theorem dX0_hangs_42 : decode cX0_hangs 42 = .ok (.aload_n 0, 1) := dk_42 (dk_at dksX0_hangs_1 18 rfl rfl)
theorem dX0_hangs_43 : decode cX0_hangs 43 = .ok (.iload_n 2, 1) := dk_28 (dk_at dksX0_hangs_1 19 rfl rfl)
theorem dX0_hangs_44 : decode cX0_hangs 44 = .ok (.ifCond .ne 10, 3) := dk_154 0 10 (dk_at dksX0_hangs_1 20 rfl rfl)
theorem dX0_hangs_47 : decode cX0_hangs 47 = .ok (.aload_n 3, 1) := dk_45 (dk_at dksX0_hangs_1 23 rfl rfl)
theorem dX0_hangs_48 : decode cX0_hangs 48 = .ok (.getfield 245, 3) := dk_180 0 245 (dk_at dksX0_hangs_2 0 rfl rfl)
theorem dX0_hangs_51 : decode cX0_hangs 51 = .ok (.goto 20, 3) := dk_167 0 20 (dk_at dksX0_hangs_2 3 rfl rfl)
theorem dX0_hangs_54 : decode cX0_hangs 54 = .ok (.iload_n 2, 1) := dk_28 (dk_at dksX0_hangs_2 6 rfl rfl)
theorem dX0_hangs_55 : decode cX0_hangs 55 = .ok (.iconst 1, 1) := dk_4 (dk_at dksX0_hangs_2 7 rfl rfl)
theorem dX0_hangs_56 : decode cX0_hangs 56 = .ok (.if_icmp .ne 10, 3) := dk_160 0 10 (dk_at dksX0_hangs_2 8 rfl rfl)
theorem dX0_hangs_59 : decode cX0_hangs 59 = .ok (.aload_n 3, 1) := dk_45 (dk_at dksX0_hangs_2 11 rfl rfl)
theorem dX0_hangs_60 : decode cX0_hangs 60 = .ok (.getfield 242, 3) := dk_180 0 242 (dk_at dksX0_hangs_2 12 rfl rfl)
theorem dX0_hangs_63 : decode cX0_hangs 63 = .ok (.goto 8, 3) := dk_167 0 8 (dk_at dksX0_hangs_2 15 rfl rfl)
theorem dX0_hangs_66 : decode cX0_hangs 66 = .ok (.aload_n 0, 1) := dk_42 (dk_at dksX0_hangs_2 18 rfl rfl)
theorem dX0_hangs_67 : decode cX0_hangs 67 = .ok (.iload_n 1, 1) := dk_27 (dk_at dksX0_hangs_2 19 rfl rfl)
theorem dX0_hangs_68 : decode cX0_hangs 68 = .ok (.invokevirtual 248, 3) := dk_182 0 248 (dk_at dksX0_hangs_2 20 rfl rfl)
theorem dX0_hangs_71 : decode cX0_hangs 71 = .ok (.invokevirtual 197, 3) := dk_182 0 197 (dk_at dksX0_hangs_3 0 rfl rfl)
theorem dX0_hangs_74 : decode cX0_hangs 74 = .ok (.ireturn, 1) := dk_172 (dk_at dksX0_hangs_3 3 rfl rfl)
abbrev cX0_hung : ByteArray := prog_1_method_27_code
def yX0_hung : MethodName := ⟨RX0, "hung", "(I)I"⟩
def dkwX0_hung_2 : List UInt8 := [172]
abbrev dktX0_hung_2 : List UInt8 := dkwX0_hung_2 ++ []
def dkwX0_hung_1 : List UInt8 := [180, 0, 242, 27, 122, 4, 126, 4, 160, 0, 9, 28, 4, 29, 120, 128, 61, 132, 3, 1, 167, 255, 216, 28]
abbrev dktX0_hung_1 : List UInt8 := dkwX0_hung_1 ++ dktX0_hung_2
def dkwX0_hung_0 : List UInt8 := [3, 61, 3, 62, 29, 42, 180, 0, 37, 180, 0, 149, 162, 0, 35, 42, 180, 0, 37, 180, 0, 208, 29, 50]
abbrev dktX0_hung_0 : List UInt8 := dkwX0_hung_0 ++ dktX0_hung_1
theorem dksX0_hung_0 : cX0_hung.data.toList.drop 0 = dktX0_hung_0 := by decide +kernel
theorem dksX0_hung_1 : cX0_hung.data.toList.drop 24 = dktX0_hung_1 := dk_seg dksX0_hung_0 24 rfl rfl
theorem dksX0_hung_2 : cX0_hung.data.toList.drop 48 = dktX0_hung_2 := dk_seg dksX0_hung_1 24 rfl rfl
theorem dX0_hung_0 : decode cX0_hung 0 = .ok (.iconst 0, 1) := dk_3 (dk_at dksX0_hung_0 0 rfl rfl)
theorem dX0_hung_1 : decode cX0_hung 1 = .ok (.istore_n 2, 1) := dk_61 (dk_at dksX0_hung_0 1 rfl rfl)
theorem dX0_hung_2 : decode cX0_hung 2 = .ok (.iconst 0, 1) := dk_3 (dk_at dksX0_hung_0 2 rfl rfl)
theorem dX0_hung_3 : decode cX0_hung 3 = .ok (.istore_n 3, 1) := dk_62 (dk_at dksX0_hung_0 3 rfl rfl)
theorem dX0_hung_4 : decode cX0_hung 4 = .ok (.iload_n 3, 1) := dk_29 (dk_at dksX0_hung_0 4 rfl rfl)
theorem dX0_hung_5 : decode cX0_hung 5 = .ok (.aload_n 0, 1) := dk_42 (dk_at dksX0_hung_0 5 rfl rfl)
theorem dX0_hung_6 : decode cX0_hung 6 = .ok (.getfield 37, 3) := dk_180 0 37 (dk_at dksX0_hung_0 6 rfl rfl)
theorem dX0_hung_9 : decode cX0_hung 9 = .ok (.getfield 149, 3) := dk_180 0 149 (dk_at dksX0_hung_0 9 rfl rfl)
theorem dX0_hung_12 : decode cX0_hung 12 = .ok (.if_icmp .ge 35, 3) := dk_162 0 35 (dk_at dksX0_hung_0 12 rfl rfl)
theorem dX0_hung_15 : decode cX0_hung 15 = .ok (.aload_n 0, 1) := dk_42 (dk_at dksX0_hung_0 15 rfl rfl)
theorem dX0_hung_16 : decode cX0_hung 16 = .ok (.getfield 37, 3) := dk_180 0 37 (dk_at dksX0_hung_0 16 rfl rfl)
theorem dX0_hung_19 : decode cX0_hung 19 = .ok (.getfield 208, 3) := dk_180 0 208 (dk_at dksX0_hung_0 19 rfl rfl)
theorem dX0_hung_22 : decode cX0_hung 22 = .ok (.iload_n 3, 1) := dk_29 (dk_at dksX0_hung_0 22 rfl rfl)
theorem dX0_hung_23 : decode cX0_hung 23 = .ok (.aaload, 1) := dk_50 (dk_at dksX0_hung_0 23 rfl rfl)
theorem dX0_hung_24 : decode cX0_hung 24 = .ok (.getfield 242, 3) := dk_180 0 242 (dk_at dksX0_hung_1 0 rfl rfl)
theorem dX0_hung_27 : decode cX0_hung 27 = .ok (.iload_n 1, 1) := dk_27 (dk_at dksX0_hung_1 3 rfl rfl)
theorem dX0_hung_28 : decode cX0_hung 28 = .ok (.ishr, 1) := dk_122 (dk_at dksX0_hung_1 4 rfl rfl)
theorem dX0_hung_29 : decode cX0_hung 29 = .ok (.iconst 1, 1) := dk_4 (dk_at dksX0_hung_1 5 rfl rfl)
theorem dX0_hung_30 : decode cX0_hung 30 = .ok (.iand, 1) := dk_126 (dk_at dksX0_hung_1 6 rfl rfl)
theorem dX0_hung_31 : decode cX0_hung 31 = .ok (.iconst 1, 1) := dk_4 (dk_at dksX0_hung_1 7 rfl rfl)
theorem dX0_hung_32 : decode cX0_hung 32 = .ok (.if_icmp .ne 9, 3) := dk_160 0 9 (dk_at dksX0_hung_1 8 rfl rfl)
theorem dX0_hung_35 : decode cX0_hung 35 = .ok (.iload_n 2, 1) := dk_28 (dk_at dksX0_hung_1 11 rfl rfl)
theorem dX0_hung_36 : decode cX0_hung 36 = .ok (.iconst 1, 1) := dk_4 (dk_at dksX0_hung_1 12 rfl rfl)
theorem dX0_hung_37 : decode cX0_hung 37 = .ok (.iload_n 3, 1) := dk_29 (dk_at dksX0_hung_1 13 rfl rfl)
theorem dX0_hung_38 : decode cX0_hung 38 = .ok (.ishl, 1) := dk_120 (dk_at dksX0_hung_1 14 rfl rfl)
theorem dX0_hung_39 : decode cX0_hung 39 = .ok (.ior, 1) := dk_128 (dk_at dksX0_hung_1 15 rfl rfl)
theorem dX0_hung_40 : decode cX0_hung 40 = .ok (.istore_n 2, 1) := dk_61 (dk_at dksX0_hung_1 16 rfl rfl)
theorem dX0_hung_41 : decode cX0_hung 41 = .ok (.iinc 3 1, 3) := dk_132 3 1 (dk_at dksX0_hung_1 17 rfl rfl)
theorem dX0_hung_44 : decode cX0_hung 44 = .ok (.goto (-40), 3) := dk_167 255 216 (dk_at dksX0_hung_1 20 rfl rfl)
theorem dX0_hung_47 : decode cX0_hung 47 = .ok (.iload_n 2, 1) := dk_28 (dk_at dksX0_hung_1 23 rfl rfl)
theorem dX0_hung_48 : decode cX0_hung 48 = .ok (.ireturn, 1) := dk_172 (dk_at dksX0_hung_2 0 rfl rfl)
abbrev cX0_holds : ByteArray := prog_1_method_29_code
def yX0_holds : MethodName := ⟨RX0, "holds", "(I)I"⟩
def dkwX0_holds_1 : List UInt8 := [3, 182, 0, 197, 167, 0, 8, 42, 5, 182, 0, 124, 172]
abbrev dktX0_holds_1 : List UInt8 := dkwX0_holds_1 ++ []
def dkwX0_holds_0 : List UInt8 := [42, 27, 182, 0, 251, 153, 0, 26, 42, 42, 180, 0, 37, 27, 182, 0, 254, 153, 0, 7, 4, 167, 0, 4]
abbrev dktX0_holds_0 : List UInt8 := dkwX0_holds_0 ++ dktX0_holds_1
theorem dksX0_holds_0 : cX0_holds.data.toList.drop 0 = dktX0_holds_0 := by decide +kernel
theorem dksX0_holds_1 : cX0_holds.data.toList.drop 24 = dktX0_holds_1 := dk_seg dksX0_holds_0 24 rfl rfl
theorem dX0_holds_0 : decode cX0_holds 0 = .ok (.aload_n 0, 1) := dk_42 (dk_at dksX0_holds_0 0 rfl rfl)
theorem dX0_holds_1 : decode cX0_holds 1 = .ok (.iload_n 1, 1) := dk_27 (dk_at dksX0_holds_0 1 rfl rfl)
theorem dX0_holds_2 : decode cX0_holds 2 = .ok (.invokevirtual 251, 3) := dk_182 0 251 (dk_at dksX0_holds_0 2 rfl rfl)
theorem dX0_holds_5 : decode cX0_holds 5 = .ok (.ifCond .eq 26, 3) := dk_153 0 26 (dk_at dksX0_holds_0 5 rfl rfl)
theorem dX0_holds_8 : decode cX0_holds 8 = .ok (.aload_n 0, 1) := dk_42 (dk_at dksX0_holds_0 8 rfl rfl)
theorem dX0_holds_9 : decode cX0_holds 9 = .ok (.aload_n 0, 1) := dk_42 (dk_at dksX0_holds_0 9 rfl rfl)
theorem dX0_holds_10 : decode cX0_holds 10 = .ok (.getfield 37, 3) := dk_180 0 37 (dk_at dksX0_holds_0 10 rfl rfl)
theorem dX0_holds_13 : decode cX0_holds 13 = .ok (.iload_n 1, 1) := dk_27 (dk_at dksX0_holds_0 13 rfl rfl)
theorem dX0_holds_14 : decode cX0_holds 14 = .ok (.invokevirtual 254, 3) := dk_182 0 254 (dk_at dksX0_holds_0 14 rfl rfl)
theorem dX0_holds_17 : decode cX0_holds 17 = .ok (.ifCond .eq 7, 3) := dk_153 0 7 (dk_at dksX0_holds_0 17 rfl rfl)
theorem dX0_holds_20 : decode cX0_holds 20 = .ok (.iconst 1, 1) := dk_4 (dk_at dksX0_holds_0 20 rfl rfl)
theorem dX0_holds_21 : decode cX0_holds 21 = .ok (.goto 4, 3) := dk_167 0 4 (dk_at dksX0_holds_0 21 rfl rfl)
theorem dX0_holds_24 : decode cX0_holds 24 = .ok (.iconst 0, 1) := dk_3 (dk_at dksX0_holds_1 0 rfl rfl)
theorem dX0_holds_25 : decode cX0_holds 25 = .ok (.invokevirtual 197, 3) := dk_182 0 197 (dk_at dksX0_holds_1 1 rfl rfl)
theorem dX0_holds_28 : decode cX0_holds 28 = .ok (.goto 8, 3) := dk_167 0 8 (dk_at dksX0_holds_1 4 rfl rfl)
theorem dX0_holds_31 : decode cX0_holds 31 = .ok (.aload_n 0, 1) := dk_42 (dk_at dksX0_holds_1 7 rfl rfl)
theorem dX0_holds_32 : decode cX0_holds 32 = .ok (.iconst 2, 1) := dk_5 (dk_at dksX0_holds_1 8 rfl rfl)
theorem dX0_holds_33 : decode cX0_holds 33 = .ok (.invokevirtual 124, 3) := dk_182 0 124 (dk_at dksX0_holds_1 9 rfl rfl)
theorem dX0_holds_36 : decode cX0_holds 36 = .ok (.ireturn, 1) := dk_172 (dk_at dksX0_holds_1 12 rfl rfl)
abbrev cX0_isSet : ByteArray := prog_1_method_17_code
def yX0_isSet : MethodName := ⟨RX0, "isSet", "(I)Z"⟩
def dkwX0_isSet_0 : List UInt8 := [27, 155, 0, 18, 27, 42, 180, 0, 37, 182, 0, 155, 163, 0, 7, 4, 167, 0, 4, 3, 172]
abbrev dktX0_isSet_0 : List UInt8 := dkwX0_isSet_0 ++ []
theorem dksX0_isSet_0 : cX0_isSet.data.toList.drop 0 = dktX0_isSet_0 := by decide +kernel
theorem dX0_isSet_0 : decode cX0_isSet 0 = .ok (.iload_n 1, 1) := dk_27 (dk_at dksX0_isSet_0 0 rfl rfl)
theorem dX0_isSet_1 : decode cX0_isSet 1 = .ok (.ifCond .lt 18, 3) := dk_155 0 18 (dk_at dksX0_isSet_0 1 rfl rfl)
theorem dX0_isSet_4 : decode cX0_isSet 4 = .ok (.iload_n 1, 1) := dk_27 (dk_at dksX0_isSet_0 4 rfl rfl)
theorem dX0_isSet_5 : decode cX0_isSet 5 = .ok (.aload_n 0, 1) := dk_42 (dk_at dksX0_isSet_0 5 rfl rfl)
theorem dX0_isSet_6 : decode cX0_isSet 6 = .ok (.getfield 37, 3) := dk_180 0 37 (dk_at dksX0_isSet_0 6 rfl rfl)
theorem dX0_isSet_9 : decode cX0_isSet 9 = .ok (.invokevirtual 155, 3) := dk_182 0 155 (dk_at dksX0_isSet_0 9 rfl rfl)
theorem dX0_isSet_12 : decode cX0_isSet 12 = .ok (.if_icmp .gt 7, 3) := dk_163 0 7 (dk_at dksX0_isSet_0 12 rfl rfl)
theorem dX0_isSet_15 : decode cX0_isSet 15 = .ok (.iconst 1, 1) := dk_4 (dk_at dksX0_isSet_0 15 rfl rfl)
theorem dX0_isSet_16 : decode cX0_isSet 16 = .ok (.goto 4, 3) := dk_167 0 4 (dk_at dksX0_isSet_0 16 rfl rfl)
theorem dX0_isSet_19 : decode cX0_isSet 19 = .ok (.iconst 0, 1) := dk_3 (dk_at dksX0_isSet_0 19 rfl rfl)
theorem dX0_isSet_20 : decode cX0_isSet 20 = .ok (.ireturn, 1) := dk_172 (dk_at dksX0_isSet_0 20 rfl rfl)
abbrev cX0_lacks : ByteArray := prog_1_method_30_code
def yX0_lacks : MethodName := ⟨RX0, "lacks", "(I)I"⟩
def dkwX0_lacks_2 : List UInt8 := [50, 180, 0, 242, 128, 61, 132, 3, 1, 167, 255, 218, 42, 28, 27, 2, 130, 126, 182, 0, 197, 172]
abbrev dktX0_lacks_2 : List UInt8 := dkwX0_lacks_2 ++ []
def dkwX0_lacks_1 : List UInt8 := [180, 0, 149, 162, 0, 33, 27, 29, 122, 4, 126, 4, 160, 0, 18, 28, 42, 180, 0, 37, 180, 0, 208, 29]
abbrev dktX0_lacks_1 : List UInt8 := dkwX0_lacks_1 ++ dktX0_lacks_2
def dkwX0_lacks_0 : List UInt8 := [42, 27, 182, 0, 251, 154, 0, 9, 42, 5, 182, 0, 124, 172, 3, 61, 3, 62, 29, 42, 180, 0, 37]
abbrev dktX0_lacks_0 : List UInt8 := dkwX0_lacks_0 ++ dktX0_lacks_1
theorem dksX0_lacks_0 : cX0_lacks.data.toList.drop 0 = dktX0_lacks_0 := by decide +kernel
theorem dksX0_lacks_1 : cX0_lacks.data.toList.drop 23 = dktX0_lacks_1 := dk_seg dksX0_lacks_0 23 rfl rfl
theorem dksX0_lacks_2 : cX0_lacks.data.toList.drop 47 = dktX0_lacks_2 := dk_seg dksX0_lacks_1 24 rfl rfl
theorem dX0_lacks_0 : decode cX0_lacks 0 = .ok (.aload_n 0, 1) := dk_42 (dk_at dksX0_lacks_0 0 rfl rfl)
theorem dX0_lacks_1 : decode cX0_lacks 1 = .ok (.iload_n 1, 1) := dk_27 (dk_at dksX0_lacks_0 1 rfl rfl)
theorem dX0_lacks_2 : decode cX0_lacks 2 = .ok (.invokevirtual 251, 3) := dk_182 0 251 (dk_at dksX0_lacks_0 2 rfl rfl)
theorem dX0_lacks_5 : decode cX0_lacks 5 = .ok (.ifCond .ne 9, 3) := dk_154 0 9 (dk_at dksX0_lacks_0 5 rfl rfl)
theorem dX0_lacks_8 : decode cX0_lacks 8 = .ok (.aload_n 0, 1) := dk_42 (dk_at dksX0_lacks_0 8 rfl rfl)
theorem dX0_lacks_9 : decode cX0_lacks 9 = .ok (.iconst 2, 1) := dk_5 (dk_at dksX0_lacks_0 9 rfl rfl)
theorem dX0_lacks_10 : decode cX0_lacks 10 = .ok (.invokevirtual 124, 3) := dk_182 0 124 (dk_at dksX0_lacks_0 10 rfl rfl)
theorem dX0_lacks_13 : decode cX0_lacks 13 = .ok (.ireturn, 1) := dk_172 (dk_at dksX0_lacks_0 13 rfl rfl)
theorem dX0_lacks_14 : decode cX0_lacks 14 = .ok (.iconst 0, 1) := dk_3 (dk_at dksX0_lacks_0 14 rfl rfl)
theorem dX0_lacks_15 : decode cX0_lacks 15 = .ok (.istore_n 2, 1) := dk_61 (dk_at dksX0_lacks_0 15 rfl rfl)
theorem dX0_lacks_16 : decode cX0_lacks 16 = .ok (.iconst 0, 1) := dk_3 (dk_at dksX0_lacks_0 16 rfl rfl)
theorem dX0_lacks_17 : decode cX0_lacks 17 = .ok (.istore_n 3, 1) := dk_62 (dk_at dksX0_lacks_0 17 rfl rfl)
theorem dX0_lacks_18 : decode cX0_lacks 18 = .ok (.iload_n 3, 1) := dk_29 (dk_at dksX0_lacks_0 18 rfl rfl)
theorem dX0_lacks_19 : decode cX0_lacks 19 = .ok (.aload_n 0, 1) := dk_42 (dk_at dksX0_lacks_0 19 rfl rfl)
theorem dX0_lacks_20 : decode cX0_lacks 20 = .ok (.getfield 37, 3) := dk_180 0 37 (dk_at dksX0_lacks_0 20 rfl rfl)
theorem dX0_lacks_23 : decode cX0_lacks 23 = .ok (.getfield 149, 3) := dk_180 0 149 (dk_at dksX0_lacks_1 0 rfl rfl)
theorem dX0_lacks_26 : decode cX0_lacks 26 = .ok (.if_icmp .ge 33, 3) := dk_162 0 33 (dk_at dksX0_lacks_1 3 rfl rfl)
theorem dX0_lacks_29 : decode cX0_lacks 29 = .ok (.iload_n 1, 1) := dk_27 (dk_at dksX0_lacks_1 6 rfl rfl)
theorem dX0_lacks_30 : decode cX0_lacks 30 = .ok (.iload_n 3, 1) := dk_29 (dk_at dksX0_lacks_1 7 rfl rfl)
theorem dX0_lacks_31 : decode cX0_lacks 31 = .ok (.ishr, 1) := dk_122 (dk_at dksX0_lacks_1 8 rfl rfl)
theorem dX0_lacks_32 : decode cX0_lacks 32 = .ok (.iconst 1, 1) := dk_4 (dk_at dksX0_lacks_1 9 rfl rfl)
theorem dX0_lacks_33 : decode cX0_lacks 33 = .ok (.iand, 1) := dk_126 (dk_at dksX0_lacks_1 10 rfl rfl)
theorem dX0_lacks_34 : decode cX0_lacks 34 = .ok (.iconst 1, 1) := dk_4 (dk_at dksX0_lacks_1 11 rfl rfl)
theorem dX0_lacks_35 : decode cX0_lacks 35 = .ok (.if_icmp .ne 18, 3) := dk_160 0 18 (dk_at dksX0_lacks_1 12 rfl rfl)
theorem dX0_lacks_38 : decode cX0_lacks 38 = .ok (.iload_n 2, 1) := dk_28 (dk_at dksX0_lacks_1 15 rfl rfl)
theorem dX0_lacks_39 : decode cX0_lacks 39 = .ok (.aload_n 0, 1) := dk_42 (dk_at dksX0_lacks_1 16 rfl rfl)
theorem dX0_lacks_40 : decode cX0_lacks 40 = .ok (.getfield 37, 3) := dk_180 0 37 (dk_at dksX0_lacks_1 17 rfl rfl)
theorem dX0_lacks_43 : decode cX0_lacks 43 = .ok (.getfield 208, 3) := dk_180 0 208 (dk_at dksX0_lacks_1 20 rfl rfl)
theorem dX0_lacks_46 : decode cX0_lacks 46 = .ok (.iload_n 3, 1) := dk_29 (dk_at dksX0_lacks_1 23 rfl rfl)
theorem dX0_lacks_47 : decode cX0_lacks 47 = .ok (.aaload, 1) := dk_50 (dk_at dksX0_lacks_2 0 rfl rfl)
theorem dX0_lacks_48 : decode cX0_lacks 48 = .ok (.getfield 242, 3) := dk_180 0 242 (dk_at dksX0_lacks_2 1 rfl rfl)
theorem dX0_lacks_51 : decode cX0_lacks 51 = .ok (.ior, 1) := dk_128 (dk_at dksX0_lacks_2 4 rfl rfl)
theorem dX0_lacks_52 : decode cX0_lacks 52 = .ok (.istore_n 2, 1) := dk_61 (dk_at dksX0_lacks_2 5 rfl rfl)
theorem dX0_lacks_53 : decode cX0_lacks 53 = .ok (.iinc 3 1, 3) := dk_132 3 1 (dk_at dksX0_lacks_2 6 rfl rfl)
theorem dX0_lacks_56 : decode cX0_lacks 56 = .ok (.goto (-38), 3) := dk_167 255 218 (dk_at dksX0_lacks_2 9 rfl rfl)
theorem dX0_lacks_59 : decode cX0_lacks 59 = .ok (.aload_n 0, 1) := dk_42 (dk_at dksX0_lacks_2 12 rfl rfl)
theorem dX0_lacks_60 : decode cX0_lacks 60 = .ok (.iload_n 2, 1) := dk_28 (dk_at dksX0_lacks_2 13 rfl rfl)
theorem dX0_lacks_61 : decode cX0_lacks 61 = .ok (.iload_n 1, 1) := dk_27 (dk_at dksX0_lacks_2 14 rfl rfl)
theorem dX0_lacks_62 : decode cX0_lacks 62 = .ok (.iconst (-1), 1) := dk_2 (dk_at dksX0_lacks_2 15 rfl rfl)
theorem dX0_lacks_63 : decode cX0_lacks 63 = .ok (.ixor, 1) := dk_130 (dk_at dksX0_lacks_2 16 rfl rfl)
theorem dX0_lacks_64 : decode cX0_lacks 64 = .ok (.iand, 1) := dk_126 (dk_at dksX0_lacks_2 17 rfl rfl)
theorem dX0_lacks_65 : decode cX0_lacks 65 = .ok (.invokevirtual 197, 3) := dk_182 0 197 (dk_at dksX0_lacks_2 18 rfl rfl)
theorem dX0_lacks_68 : decode cX0_lacks 68 = .ok (.ireturn, 1) := dk_172 (dk_at dksX0_lacks_2 21 rfl rfl)
abbrev cX0_out : ByteArray := prog_1_method_32_code
def yX0_out : MethodName := ⟨RX0, "out", "(II)I"⟩
def dkwX0_out_1 : List UInt8 := [182, 0, 197, 167, 0, 8, 42, 5, 182, 0, 124, 172]
abbrev dktX0_out_1 : List UInt8 := dkwX0_out_1 ++ []
def dkwX0_out_0 : List UInt8 := [42, 27, 182, 0, 251, 153, 0, 25, 42, 28, 133, 182, 0, 224, 153, 0, 16, 42, 42, 27, 28, 182, 1, 1]
abbrev dktX0_out_0 : List UInt8 := dkwX0_out_0 ++ dktX0_out_1
theorem dksX0_out_0 : cX0_out.data.toList.drop 0 = dktX0_out_0 := by decide +kernel
theorem dksX0_out_1 : cX0_out.data.toList.drop 24 = dktX0_out_1 := dk_seg dksX0_out_0 24 rfl rfl
theorem dX0_out_0 : decode cX0_out 0 = .ok (.aload_n 0, 1) := dk_42 (dk_at dksX0_out_0 0 rfl rfl)
theorem dX0_out_1 : decode cX0_out 1 = .ok (.iload_n 1, 1) := dk_27 (dk_at dksX0_out_0 1 rfl rfl)
theorem dX0_out_2 : decode cX0_out 2 = .ok (.invokevirtual 251, 3) := dk_182 0 251 (dk_at dksX0_out_0 2 rfl rfl)
theorem dX0_out_5 : decode cX0_out 5 = .ok (.ifCond .eq 25, 3) := dk_153 0 25 (dk_at dksX0_out_0 5 rfl rfl)
theorem dX0_out_8 : decode cX0_out 8 = .ok (.aload_n 0, 1) := dk_42 (dk_at dksX0_out_0 8 rfl rfl)
theorem dX0_out_9 : decode cX0_out 9 = .ok (.iload_n 2, 1) := dk_28 (dk_at dksX0_out_0 9 rfl rfl)
theorem dX0_out_10 : decode cX0_out 10 = .ok (.i2l, 1) := dk_133 (dk_at dksX0_out_0 10 rfl rfl)
theorem dX0_out_11 : decode cX0_out 11 = .ok (.invokevirtual 224, 3) := dk_182 0 224 (dk_at dksX0_out_0 11 rfl rfl)
theorem dX0_out_14 : decode cX0_out 14 = .ok (.ifCond .eq 16, 3) := dk_153 0 16 (dk_at dksX0_out_0 14 rfl rfl)
theorem dX0_out_17 : decode cX0_out 17 = .ok (.aload_n 0, 1) := dk_42 (dk_at dksX0_out_0 17 rfl rfl)
theorem dX0_out_18 : decode cX0_out 18 = .ok (.aload_n 0, 1) := dk_42 (dk_at dksX0_out_0 18 rfl rfl)
theorem dX0_out_19 : decode cX0_out 19 = .ok (.iload_n 1, 1) := dk_27 (dk_at dksX0_out_0 19 rfl rfl)
theorem dX0_out_20 : decode cX0_out 20 = .ok (.iload_n 2, 1) := dk_28 (dk_at dksX0_out_0 20 rfl rfl)
theorem dX0_out_21 : decode cX0_out 21 = .ok (.invokevirtual 257, 3) := dk_182 1 1 (dk_at dksX0_out_0 21 rfl rfl)
theorem dX0_out_24 : decode cX0_out 24 = .ok (.invokevirtual 197, 3) := dk_182 0 197 (dk_at dksX0_out_1 0 rfl rfl)
theorem dX0_out_27 : decode cX0_out 27 = .ok (.goto 8, 3) := dk_167 0 8 (dk_at dksX0_out_1 3 rfl rfl)
theorem dX0_out_30 : decode cX0_out 30 = .ok (.aload_n 0, 1) := dk_42 (dk_at dksX0_out_1 6 rfl rfl)
theorem dX0_out_31 : decode cX0_out 31 = .ok (.iconst 2, 1) := dk_5 (dk_at dksX0_out_1 7 rfl rfl)
theorem dX0_out_32 : decode cX0_out 32 = .ok (.invokevirtual 124, 3) := dk_182 0 124 (dk_at dksX0_out_1 8 rfl rfl)
theorem dX0_out_35 : decode cX0_out 35 = .ok (.ireturn, 1) := dk_172 (dk_at dksX0_out_1 11 rfl rfl)
abbrev cX0_without : ByteArray := prog_1_method_31_code
def yX0_without : MethodName := ⟨RX0, "without", "(II)I"⟩
def dkwX0_without_0 : List UInt8 := [27, 4, 28, 120, 42, 28, 182, 0, 248, 128, 2, 130, 126, 172]
abbrev dktX0_without_0 : List UInt8 := dkwX0_without_0 ++ []
theorem dksX0_without_0 : cX0_without.data.toList.drop 0 = dktX0_without_0 := by decide +kernel
theorem dX0_without_0 : decode cX0_without 0 = .ok (.iload_n 1, 1) := dk_27 (dk_at dksX0_without_0 0 rfl rfl)
theorem dX0_without_1 : decode cX0_without 1 = .ok (.iconst 1, 1) := dk_4 (dk_at dksX0_without_0 1 rfl rfl)
theorem dX0_without_2 : decode cX0_without 2 = .ok (.iload_n 2, 1) := dk_28 (dk_at dksX0_without_0 2 rfl rfl)
theorem dX0_without_3 : decode cX0_without 3 = .ok (.ishl, 1) := dk_120 (dk_at dksX0_without_0 3 rfl rfl)
theorem dX0_without_4 : decode cX0_without 4 = .ok (.aload_n 0, 1) := dk_42 (dk_at dksX0_without_0 4 rfl rfl)
theorem dX0_without_5 : decode cX0_without 5 = .ok (.iload_n 2, 1) := dk_28 (dk_at dksX0_without_0 5 rfl rfl)
theorem dX0_without_6 : decode cX0_without 6 = .ok (.invokevirtual 248, 3) := dk_182 0 248 (dk_at dksX0_without_0 6 rfl rfl)
theorem dX0_without_9 : decode cX0_without 9 = .ok (.ior, 1) := dk_128 (dk_at dksX0_without_0 9 rfl rfl)
theorem dX0_without_10 : decode cX0_without 10 = .ok (.iconst (-1), 1) := dk_2 (dk_at dksX0_without_0 10 rfl rfl)
theorem dX0_without_11 : decode cX0_without 11 = .ok (.ixor, 1) := dk_130 (dk_at dksX0_without_0 11 rfl rfl)
theorem dX0_without_12 : decode cX0_without 12 = .ok (.iand, 1) := dk_126 (dk_at dksX0_without_0 12 rfl rfl)
theorem dX0_without_13 : decode cX0_without 13 = .ok (.ireturn, 1) := dk_172 (dk_at dksX0_without_0 13 rfl rfl)
abbrev cX0_pick : ByteArray := prog_1_method_33_code
def yX0_pick : MethodName := ⟨RX0, "pick", "(II)I"⟩
def dkwX0_pick_1 : List UInt8 := [180, 0, 37, 180, 0, 208, 28, 50, 180, 0, 242, 128, 182, 0, 197, 167, 0, 8, 42, 5, 182, 0, 124, 172]
abbrev dktX0_pick_1 : List UInt8 := dkwX0_pick_1 ++ []
def dkwX0_pick_0 : List UInt8 := [42, 27, 182, 0, 251, 153, 0, 37, 42, 28, 133, 182, 0, 224, 153, 0, 28, 42, 27, 4, 28, 120, 128, 42]
abbrev dktX0_pick_0 : List UInt8 := dkwX0_pick_0 ++ dktX0_pick_1
theorem dksX0_pick_0 : cX0_pick.data.toList.drop 0 = dktX0_pick_0 := by decide +kernel
theorem dksX0_pick_1 : cX0_pick.data.toList.drop 24 = dktX0_pick_1 := dk_seg dksX0_pick_0 24 rfl rfl
theorem dX0_pick_0 : decode cX0_pick 0 = .ok (.aload_n 0, 1) := dk_42 (dk_at dksX0_pick_0 0 rfl rfl)
theorem dX0_pick_1 : decode cX0_pick 1 = .ok (.iload_n 1, 1) := dk_27 (dk_at dksX0_pick_0 1 rfl rfl)
theorem dX0_pick_2 : decode cX0_pick 2 = .ok (.invokevirtual 251, 3) := dk_182 0 251 (dk_at dksX0_pick_0 2 rfl rfl)
theorem dX0_pick_5 : decode cX0_pick 5 = .ok (.ifCond .eq 37, 3) := dk_153 0 37 (dk_at dksX0_pick_0 5 rfl rfl)
theorem dX0_pick_8 : decode cX0_pick 8 = .ok (.aload_n 0, 1) := dk_42 (dk_at dksX0_pick_0 8 rfl rfl)
theorem dX0_pick_9 : decode cX0_pick 9 = .ok (.iload_n 2, 1) := dk_28 (dk_at dksX0_pick_0 9 rfl rfl)
theorem dX0_pick_10 : decode cX0_pick 10 = .ok (.i2l, 1) := dk_133 (dk_at dksX0_pick_0 10 rfl rfl)
theorem dX0_pick_11 : decode cX0_pick 11 = .ok (.invokevirtual 224, 3) := dk_182 0 224 (dk_at dksX0_pick_0 11 rfl rfl)
theorem dX0_pick_14 : decode cX0_pick 14 = .ok (.ifCond .eq 28, 3) := dk_153 0 28 (dk_at dksX0_pick_0 14 rfl rfl)
theorem dX0_pick_17 : decode cX0_pick 17 = .ok (.aload_n 0, 1) := dk_42 (dk_at dksX0_pick_0 17 rfl rfl)
theorem dX0_pick_18 : decode cX0_pick 18 = .ok (.iload_n 1, 1) := dk_27 (dk_at dksX0_pick_0 18 rfl rfl)
theorem dX0_pick_19 : decode cX0_pick 19 = .ok (.iconst 1, 1) := dk_4 (dk_at dksX0_pick_0 19 rfl rfl)
theorem dX0_pick_20 : decode cX0_pick 20 = .ok (.iload_n 2, 1) := dk_28 (dk_at dksX0_pick_0 20 rfl rfl)
theorem dX0_pick_21 : decode cX0_pick 21 = .ok (.ishl, 1) := dk_120 (dk_at dksX0_pick_0 21 rfl rfl)
theorem dX0_pick_22 : decode cX0_pick 22 = .ok (.ior, 1) := dk_128 (dk_at dksX0_pick_0 22 rfl rfl)
theorem dX0_pick_23 : decode cX0_pick 23 = .ok (.aload_n 0, 1) := dk_42 (dk_at dksX0_pick_0 23 rfl rfl)
theorem dX0_pick_24 : decode cX0_pick 24 = .ok (.getfield 37, 3) := dk_180 0 37 (dk_at dksX0_pick_1 0 rfl rfl)
theorem dX0_pick_27 : decode cX0_pick 27 = .ok (.getfield 208, 3) := dk_180 0 208 (dk_at dksX0_pick_1 3 rfl rfl)
theorem dX0_pick_30 : decode cX0_pick 30 = .ok (.iload_n 2, 1) := dk_28 (dk_at dksX0_pick_1 6 rfl rfl)
theorem dX0_pick_31 : decode cX0_pick 31 = .ok (.aaload, 1) := dk_50 (dk_at dksX0_pick_1 7 rfl rfl)
theorem dX0_pick_32 : decode cX0_pick 32 = .ok (.getfield 242, 3) := dk_180 0 242 (dk_at dksX0_pick_1 8 rfl rfl)
theorem dX0_pick_35 : decode cX0_pick 35 = .ok (.ior, 1) := dk_128 (dk_at dksX0_pick_1 11 rfl rfl)
theorem dX0_pick_36 : decode cX0_pick 36 = .ok (.invokevirtual 197, 3) := dk_182 0 197 (dk_at dksX0_pick_1 12 rfl rfl)
theorem dX0_pick_39 : decode cX0_pick 39 = .ok (.goto 8, 3) := dk_167 0 8 (dk_at dksX0_pick_1 15 rfl rfl)
theorem dX0_pick_42 : decode cX0_pick 42 = .ok (.aload_n 0, 1) := dk_42 (dk_at dksX0_pick_1 18 rfl rfl)
theorem dX0_pick_43 : decode cX0_pick 43 = .ok (.iconst 2, 1) := dk_5 (dk_at dksX0_pick_1 19 rfl rfl)
theorem dX0_pick_44 : decode cX0_pick 44 = .ok (.invokevirtual 124, 3) := dk_182 0 124 (dk_at dksX0_pick_1 20 rfl rfl)
theorem dX0_pick_47 : decode cX0_pick 47 = .ok (.ireturn, 1) := dk_172 (dk_at dksX0_pick_1 23 rfl rfl)
abbrev cX0_heaviest : ByteArray := prog_1_method_34_code
def yX0_heaviest : MethodName := ⟨RX0, "heaviest", "()I"⟩
def dkwX0_heaviest_2 : List UInt8 := [167, 255, 218, 27, 2, 160, 0, 12, 42, 16, 8, 182, 0, 124, 167, 0, 8, 42, 27, 182, 0, 197, 172]
abbrev dktX0_heaviest_2 : List UInt8 := dkwX0_heaviest_2 ++ []
def dkwX0_heaviest_1 : List UInt8 := [184, 0, 219, 54, 4, 21, 4, 28, 163, 0, 6, 167, 0, 8, 21, 4, 61, 29, 60, 132, 3, 1]
abbrev dktX0_heaviest_1 : List UInt8 := dkwX0_heaviest_1 ++ dktX0_heaviest_2
def dkwX0_heaviest_0 : List UInt8 := [2, 60, 2, 61, 3, 62, 29, 42, 180, 0, 37, 180, 0, 149, 162, 0, 33, 42, 29, 182, 0, 248]
abbrev dktX0_heaviest_0 : List UInt8 := dkwX0_heaviest_0 ++ dktX0_heaviest_1
theorem dksX0_heaviest_0 : cX0_heaviest.data.toList.drop 0 = dktX0_heaviest_0 := by decide +kernel
theorem dksX0_heaviest_1 : cX0_heaviest.data.toList.drop 22 = dktX0_heaviest_1 := dk_seg dksX0_heaviest_0 22 rfl rfl
theorem dksX0_heaviest_2 : cX0_heaviest.data.toList.drop 44 = dktX0_heaviest_2 := dk_seg dksX0_heaviest_1 22 rfl rfl
theorem dX0_heaviest_0 : decode cX0_heaviest 0 = .ok (.iconst (-1), 1) := dk_2 (dk_at dksX0_heaviest_0 0 rfl rfl)
theorem dX0_heaviest_1 : decode cX0_heaviest 1 = .ok (.istore_n 1, 1) := dk_60 (dk_at dksX0_heaviest_0 1 rfl rfl)
theorem dX0_heaviest_2 : decode cX0_heaviest 2 = .ok (.iconst (-1), 1) := dk_2 (dk_at dksX0_heaviest_0 2 rfl rfl)
theorem dX0_heaviest_3 : decode cX0_heaviest 3 = .ok (.istore_n 2, 1) := dk_61 (dk_at dksX0_heaviest_0 3 rfl rfl)
theorem dX0_heaviest_4 : decode cX0_heaviest 4 = .ok (.iconst 0, 1) := dk_3 (dk_at dksX0_heaviest_0 4 rfl rfl)
theorem dX0_heaviest_5 : decode cX0_heaviest 5 = .ok (.istore_n 3, 1) := dk_62 (dk_at dksX0_heaviest_0 5 rfl rfl)
theorem dX0_heaviest_6 : decode cX0_heaviest 6 = .ok (.iload_n 3, 1) := dk_29 (dk_at dksX0_heaviest_0 6 rfl rfl)
theorem dX0_heaviest_7 : decode cX0_heaviest 7 = .ok (.aload_n 0, 1) := dk_42 (dk_at dksX0_heaviest_0 7 rfl rfl)
theorem dX0_heaviest_8 : decode cX0_heaviest 8 = .ok (.getfield 37, 3) := dk_180 0 37 (dk_at dksX0_heaviest_0 8 rfl rfl)
theorem dX0_heaviest_11 : decode cX0_heaviest 11 = .ok (.getfield 149, 3) := dk_180 0 149 (dk_at dksX0_heaviest_0 11 rfl rfl)
theorem dX0_heaviest_14 : decode cX0_heaviest 14 = .ok (.if_icmp .ge 33, 3) := dk_162 0 33 (dk_at dksX0_heaviest_0 14 rfl rfl)
theorem dX0_heaviest_17 : decode cX0_heaviest 17 = .ok (.aload_n 0, 1) := dk_42 (dk_at dksX0_heaviest_0 17 rfl rfl)
theorem dX0_heaviest_18 : decode cX0_heaviest 18 = .ok (.iload_n 3, 1) := dk_29 (dk_at dksX0_heaviest_0 18 rfl rfl)
theorem dX0_heaviest_19 : decode cX0_heaviest 19 = .ok (.invokevirtual 248, 3) := dk_182 0 248 (dk_at dksX0_heaviest_0 19 rfl rfl)
theorem dX0_heaviest_22 : decode cX0_heaviest 22 = .ok (.invokestatic 219, 3) := dk_184 0 219 (dk_at dksX0_heaviest_1 0 rfl rfl)
theorem dX0_heaviest_25 : decode cX0_heaviest 25 = .ok (.istore 4, 2) := dk_54 4 (dk_at dksX0_heaviest_1 3 rfl rfl)
theorem dX0_heaviest_27 : decode cX0_heaviest 27 = .ok (.iload 4, 2) := dk_21 4 (dk_at dksX0_heaviest_1 5 rfl rfl)
theorem dX0_heaviest_29 : decode cX0_heaviest 29 = .ok (.iload_n 2, 1) := dk_28 (dk_at dksX0_heaviest_1 7 rfl rfl)
theorem dX0_heaviest_30 : decode cX0_heaviest 30 = .ok (.if_icmp .gt 6, 3) := dk_163 0 6 (dk_at dksX0_heaviest_1 8 rfl rfl)
theorem dX0_heaviest_33 : decode cX0_heaviest 33 = .ok (.goto 8, 3) := dk_167 0 8 (dk_at dksX0_heaviest_1 11 rfl rfl)
theorem dX0_heaviest_36 : decode cX0_heaviest 36 = .ok (.iload 4, 2) := dk_21 4 (dk_at dksX0_heaviest_1 14 rfl rfl)
theorem dX0_heaviest_38 : decode cX0_heaviest 38 = .ok (.istore_n 2, 1) := dk_61 (dk_at dksX0_heaviest_1 16 rfl rfl)
theorem dX0_heaviest_39 : decode cX0_heaviest 39 = .ok (.iload_n 3, 1) := dk_29 (dk_at dksX0_heaviest_1 17 rfl rfl)
theorem dX0_heaviest_40 : decode cX0_heaviest 40 = .ok (.istore_n 1, 1) := dk_60 (dk_at dksX0_heaviest_1 18 rfl rfl)
theorem dX0_heaviest_41 : decode cX0_heaviest 41 = .ok (.iinc 3 1, 3) := dk_132 3 1 (dk_at dksX0_heaviest_1 19 rfl rfl)
theorem dX0_heaviest_44 : decode cX0_heaviest 44 = .ok (.goto (-38), 3) := dk_167 255 218 (dk_at dksX0_heaviest_2 0 rfl rfl)
theorem dX0_heaviest_47 : decode cX0_heaviest 47 = .ok (.iload_n 1, 1) := dk_27 (dk_at dksX0_heaviest_2 3 rfl rfl)
theorem dX0_heaviest_48 : decode cX0_heaviest 48 = .ok (.iconst (-1), 1) := dk_2 (dk_at dksX0_heaviest_2 4 rfl rfl)
theorem dX0_heaviest_49 : decode cX0_heaviest 49 = .ok (.if_icmp .ne 12, 3) := dk_160 0 12 (dk_at dksX0_heaviest_2 5 rfl rfl)
theorem dX0_heaviest_52 : decode cX0_heaviest 52 = .ok (.aload_n 0, 1) := dk_42 (dk_at dksX0_heaviest_2 8 rfl rfl)
theorem dX0_heaviest_53 : decode cX0_heaviest 53 = .ok (.bipush 8, 2) := dk_16 8 (dk_at dksX0_heaviest_2 9 rfl rfl)
theorem dX0_heaviest_55 : decode cX0_heaviest 55 = .ok (.invokevirtual 124, 3) := dk_182 0 124 (dk_at dksX0_heaviest_2 11 rfl rfl)
theorem dX0_heaviest_58 : decode cX0_heaviest 58 = .ok (.goto 8, 3) := dk_167 0 8 (dk_at dksX0_heaviest_2 14 rfl rfl)
theorem dX0_heaviest_61 : decode cX0_heaviest 61 = .ok (.aload_n 0, 1) := dk_42 (dk_at dksX0_heaviest_2 17 rfl rfl)
theorem dX0_heaviest_62 : decode cX0_heaviest 62 = .ok (.iload_n 1, 1) := dk_27 (dk_at dksX0_heaviest_2 18 rfl rfl)
theorem dX0_heaviest_63 : decode cX0_heaviest 63 = .ok (.invokevirtual 197, 3) := dk_182 0 197 (dk_at dksX0_heaviest_2 19 rfl rfl)
theorem dX0_heaviest_66 : decode cX0_heaviest 66 = .ok (.ireturn, 1) := dk_172 (dk_at dksX0_heaviest_2 22 rfl rfl)
abbrev cX0_alone : ByteArray := prog_1_method_35_code
def yX0_alone : MethodName := ⟨RX0, "alone", "()I"⟩
def dkwX0_alone_2 : List UInt8 := [167, 255, 213, 42, 27, 182, 0, 197, 172]
abbrev dktX0_alone_2 : List UInt8 := dkwX0_alone_2 ++ []
def dkwX0_alone_1 : List UInt8 := [182, 0, 212, 154, 0, 17, 42, 28, 182, 0, 248, 154, 0, 9, 27, 4, 28, 120, 128, 60, 132, 2, 1]
abbrev dktX0_alone_1 : List UInt8 := dkwX0_alone_1 ++ dktX0_alone_2
def dkwX0_alone_0 : List UInt8 := [3, 60, 3, 61, 28, 42, 180, 0, 37, 180, 0, 149, 162, 0, 38, 42, 180, 0, 37, 180, 0, 208, 28, 50]
abbrev dktX0_alone_0 : List UInt8 := dkwX0_alone_0 ++ dktX0_alone_1
theorem dksX0_alone_0 : cX0_alone.data.toList.drop 0 = dktX0_alone_0 := by decide +kernel
theorem dksX0_alone_1 : cX0_alone.data.toList.drop 24 = dktX0_alone_1 := dk_seg dksX0_alone_0 24 rfl rfl
theorem dksX0_alone_2 : cX0_alone.data.toList.drop 47 = dktX0_alone_2 := dk_seg dksX0_alone_1 23 rfl rfl
theorem dX0_alone_0 : decode cX0_alone 0 = .ok (.iconst 0, 1) := dk_3 (dk_at dksX0_alone_0 0 rfl rfl)
theorem dX0_alone_1 : decode cX0_alone 1 = .ok (.istore_n 1, 1) := dk_60 (dk_at dksX0_alone_0 1 rfl rfl)
theorem dX0_alone_2 : decode cX0_alone 2 = .ok (.iconst 0, 1) := dk_3 (dk_at dksX0_alone_0 2 rfl rfl)
theorem dX0_alone_3 : decode cX0_alone 3 = .ok (.istore_n 2, 1) := dk_61 (dk_at dksX0_alone_0 3 rfl rfl)
theorem dX0_alone_4 : decode cX0_alone 4 = .ok (.iload_n 2, 1) := dk_28 (dk_at dksX0_alone_0 4 rfl rfl)
theorem dX0_alone_5 : decode cX0_alone 5 = .ok (.aload_n 0, 1) := dk_42 (dk_at dksX0_alone_0 5 rfl rfl)
theorem dX0_alone_6 : decode cX0_alone 6 = .ok (.getfield 37, 3) := dk_180 0 37 (dk_at dksX0_alone_0 6 rfl rfl)
theorem dX0_alone_9 : decode cX0_alone 9 = .ok (.getfield 149, 3) := dk_180 0 149 (dk_at dksX0_alone_0 9 rfl rfl)
theorem dX0_alone_12 : decode cX0_alone 12 = .ok (.if_icmp .ge 38, 3) := dk_162 0 38 (dk_at dksX0_alone_0 12 rfl rfl)
theorem dX0_alone_15 : decode cX0_alone 15 = .ok (.aload_n 0, 1) := dk_42 (dk_at dksX0_alone_0 15 rfl rfl)
theorem dX0_alone_16 : decode cX0_alone 16 = .ok (.getfield 37, 3) := dk_180 0 37 (dk_at dksX0_alone_0 16 rfl rfl)
theorem dX0_alone_19 : decode cX0_alone 19 = .ok (.getfield 208, 3) := dk_180 0 208 (dk_at dksX0_alone_0 19 rfl rfl)
theorem dX0_alone_22 : decode cX0_alone 22 = .ok (.iload_n 2, 1) := dk_28 (dk_at dksX0_alone_0 22 rfl rfl)
theorem dX0_alone_23 : decode cX0_alone 23 = .ok (.aaload, 1) := dk_50 (dk_at dksX0_alone_0 23 rfl rfl)
theorem dX0_alone_24 : decode cX0_alone 24 = .ok (.invokevirtual 212, 3) := dk_182 0 212 (dk_at dksX0_alone_1 0 rfl rfl)
theorem dX0_alone_27 : decode cX0_alone 27 = .ok (.ifCond .ne 17, 3) := dk_154 0 17 (dk_at dksX0_alone_1 3 rfl rfl)
theorem dX0_alone_30 : decode cX0_alone 30 = .ok (.aload_n 0, 1) := dk_42 (dk_at dksX0_alone_1 6 rfl rfl)
theorem dX0_alone_31 : decode cX0_alone 31 = .ok (.iload_n 2, 1) := dk_28 (dk_at dksX0_alone_1 7 rfl rfl)
theorem dX0_alone_32 : decode cX0_alone 32 = .ok (.invokevirtual 248, 3) := dk_182 0 248 (dk_at dksX0_alone_1 8 rfl rfl)
theorem dX0_alone_35 : decode cX0_alone 35 = .ok (.ifCond .ne 9, 3) := dk_154 0 9 (dk_at dksX0_alone_1 11 rfl rfl)
theorem dX0_alone_38 : decode cX0_alone 38 = .ok (.iload_n 1, 1) := dk_27 (dk_at dksX0_alone_1 14 rfl rfl)
theorem dX0_alone_39 : decode cX0_alone 39 = .ok (.iconst 1, 1) := dk_4 (dk_at dksX0_alone_1 15 rfl rfl)
theorem dX0_alone_40 : decode cX0_alone 40 = .ok (.iload_n 2, 1) := dk_28 (dk_at dksX0_alone_1 16 rfl rfl)
theorem dX0_alone_41 : decode cX0_alone 41 = .ok (.ishl, 1) := dk_120 (dk_at dksX0_alone_1 17 rfl rfl)
theorem dX0_alone_42 : decode cX0_alone 42 = .ok (.ior, 1) := dk_128 (dk_at dksX0_alone_1 18 rfl rfl)
theorem dX0_alone_43 : decode cX0_alone 43 = .ok (.istore_n 1, 1) := dk_60 (dk_at dksX0_alone_1 19 rfl rfl)
theorem dX0_alone_44 : decode cX0_alone 44 = .ok (.iinc 2 1, 3) := dk_132 2 1 (dk_at dksX0_alone_1 20 rfl rfl)
theorem dX0_alone_47 : decode cX0_alone 47 = .ok (.goto (-43), 3) := dk_167 255 213 (dk_at dksX0_alone_2 0 rfl rfl)
theorem dX0_alone_50 : decode cX0_alone 50 = .ok (.aload_n 0, 1) := dk_42 (dk_at dksX0_alone_2 3 rfl rfl)
theorem dX0_alone_51 : decode cX0_alone 51 = .ok (.iload_n 1, 1) := dk_27 (dk_at dksX0_alone_2 4 rfl rfl)
theorem dX0_alone_52 : decode cX0_alone 52 = .ok (.invokevirtual 197, 3) := dk_182 0 197 (dk_at dksX0_alone_2 5 rfl rfl)
theorem dX0_alone_55 : decode cX0_alone 55 = .ok (.ireturn, 1) := dk_172 (dk_at dksX0_alone_2 8 rfl rfl)
abbrev cX0_size : ByteArray := prog_1_method_39_code
def yX0_size : MethodName := ⟨RX0, "size", "(I)I"⟩
def dkwX0_size_1 : List UInt8 := [180, 1, 5, 182, 0, 197, 172]
abbrev dktX0_size_1 : List UInt8 := dkwX0_size_1 ++ []
def dkwX0_size_0 : List UInt8 := [42, 27, 182, 1, 14, 61, 28, 158, 0, 9, 42, 28, 182, 0, 124, 172, 42, 27, 182, 1, 17, 42, 42]
abbrev dktX0_size_0 : List UInt8 := dkwX0_size_0 ++ dktX0_size_1
theorem dksX0_size_0 : cX0_size.data.toList.drop 0 = dktX0_size_0 := by decide +kernel
theorem dksX0_size_1 : cX0_size.data.toList.drop 23 = dktX0_size_1 := dk_seg dksX0_size_0 23 rfl rfl
theorem dX0_size_0 : decode cX0_size 0 = .ok (.aload_n 0, 1) := dk_42 (dk_at dksX0_size_0 0 rfl rfl)
theorem dX0_size_1 : decode cX0_size 1 = .ok (.iload_n 1, 1) := dk_27 (dk_at dksX0_size_0 1 rfl rfl)
theorem dX0_size_2 : decode cX0_size 2 = .ok (.invokevirtual 270, 3) := dk_182 1 14 (dk_at dksX0_size_0 2 rfl rfl)
theorem dX0_size_5 : decode cX0_size 5 = .ok (.istore_n 2, 1) := dk_61 (dk_at dksX0_size_0 5 rfl rfl)
theorem dX0_size_6 : decode cX0_size 6 = .ok (.iload_n 2, 1) := dk_28 (dk_at dksX0_size_0 6 rfl rfl)
theorem dX0_size_7 : decode cX0_size 7 = .ok (.ifCond .le 9, 3) := dk_158 0 9 (dk_at dksX0_size_0 7 rfl rfl)
theorem dX0_size_10 : decode cX0_size 10 = .ok (.aload_n 0, 1) := dk_42 (dk_at dksX0_size_0 10 rfl rfl)
theorem dX0_size_11 : decode cX0_size 11 = .ok (.iload_n 2, 1) := dk_28 (dk_at dksX0_size_0 11 rfl rfl)
theorem dX0_size_12 : decode cX0_size 12 = .ok (.invokevirtual 124, 3) := dk_182 0 124 (dk_at dksX0_size_0 12 rfl rfl)
theorem dX0_size_15 : decode cX0_size 15 = .ok (.ireturn, 1) := dk_172 (dk_at dksX0_size_0 15 rfl rfl)
theorem dX0_size_16 : decode cX0_size 16 = .ok (.aload_n 0, 1) := dk_42 (dk_at dksX0_size_0 16 rfl rfl)
theorem dX0_size_17 : decode cX0_size 17 = .ok (.iload_n 1, 1) := dk_27 (dk_at dksX0_size_0 17 rfl rfl)
theorem dX0_size_18 : decode cX0_size 18 = .ok (.invokevirtual 273, 3) := dk_182 1 17 (dk_at dksX0_size_0 18 rfl rfl)
theorem dX0_size_21 : decode cX0_size 21 = .ok (.aload_n 0, 1) := dk_42 (dk_at dksX0_size_0 21 rfl rfl)
theorem dX0_size_22 : decode cX0_size 22 = .ok (.aload_n 0, 1) := dk_42 (dk_at dksX0_size_0 22 rfl rfl)
theorem dX0_size_23 : decode cX0_size 23 = .ok (.getfield 261, 3) := dk_180 1 5 (dk_at dksX0_size_1 0 rfl rfl)
theorem dX0_size_26 : decode cX0_size 26 = .ok (.invokevirtual 197, 3) := dk_182 0 197 (dk_at dksX0_size_1 3 rfl rfl)
theorem dX0_size_29 : decode cX0_size 29 = .ok (.ireturn, 1) := dk_172 (dk_at dksX0_size_1 6 rfl rfl)
abbrev cX0_wrongSet : ByteArray := prog_1_method_38_code
def yX0_wrongSet : MethodName := ⟨RX0, "wrongSet", "(I)I"⟩
def dkwX0_wrongSet_1 : List UInt8 := [167, 0, 5, 16, 9, 172]
abbrev dktX0_wrongSet_1 : List UInt8 := dkwX0_wrongSet_1 ++ []
def dkwX0_wrongSet_0 : List UInt8 := [42, 27, 182, 0, 251, 154, 0, 7, 5, 167, 0, 20, 42, 180, 0, 37, 27, 182, 0, 254, 153, 0, 7, 3]
abbrev dktX0_wrongSet_0 : List UInt8 := dkwX0_wrongSet_0 ++ dktX0_wrongSet_1
theorem dksX0_wrongSet_0 : cX0_wrongSet.data.toList.drop 0 = dktX0_wrongSet_0 := by decide +kernel
theorem dksX0_wrongSet_1 : cX0_wrongSet.data.toList.drop 24 = dktX0_wrongSet_1 := dk_seg dksX0_wrongSet_0 24 rfl rfl
theorem dX0_wrongSet_0 : decode cX0_wrongSet 0 = .ok (.aload_n 0, 1) := dk_42 (dk_at dksX0_wrongSet_0 0 rfl rfl)
theorem dX0_wrongSet_1 : decode cX0_wrongSet 1 = .ok (.iload_n 1, 1) := dk_27 (dk_at dksX0_wrongSet_0 1 rfl rfl)
theorem dX0_wrongSet_2 : decode cX0_wrongSet 2 = .ok (.invokevirtual 251, 3) := dk_182 0 251 (dk_at dksX0_wrongSet_0 2 rfl rfl)
theorem dX0_wrongSet_5 : decode cX0_wrongSet 5 = .ok (.ifCond .ne 7, 3) := dk_154 0 7 (dk_at dksX0_wrongSet_0 5 rfl rfl)
theorem dX0_wrongSet_8 : decode cX0_wrongSet 8 = .ok (.iconst 2, 1) := dk_5 (dk_at dksX0_wrongSet_0 8 rfl rfl)
theorem dX0_wrongSet_9 : decode cX0_wrongSet 9 = .ok (.goto 20, 3) := dk_167 0 20 (dk_at dksX0_wrongSet_0 9 rfl rfl)
theorem dX0_wrongSet_12 : decode cX0_wrongSet 12 = .ok (.aload_n 0, 1) := dk_42 (dk_at dksX0_wrongSet_0 12 rfl rfl)
theorem dX0_wrongSet_13 : decode cX0_wrongSet 13 = .ok (.getfield 37, 3) := dk_180 0 37 (dk_at dksX0_wrongSet_0 13 rfl rfl)
theorem dX0_wrongSet_16 : decode cX0_wrongSet 16 = .ok (.iload_n 1, 1) := dk_27 (dk_at dksX0_wrongSet_0 16 rfl rfl)
theorem dX0_wrongSet_17 : decode cX0_wrongSet 17 = .ok (.invokevirtual 254, 3) := dk_182 0 254 (dk_at dksX0_wrongSet_0 17 rfl rfl)
theorem dX0_wrongSet_20 : decode cX0_wrongSet 20 = .ok (.ifCond .eq 7, 3) := dk_153 0 7 (dk_at dksX0_wrongSet_0 20 rfl rfl)
theorem dX0_wrongSet_23 : decode cX0_wrongSet 23 = .ok (.iconst 0, 1) := dk_3 (dk_at dksX0_wrongSet_0 23 rfl rfl)
theorem dX0_wrongSet_24 : decode cX0_wrongSet 24 = .ok (.goto 5, 3) := dk_167 0 5 (dk_at dksX0_wrongSet_1 0 rfl rfl)
theorem dX0_wrongSet_27 : decode cX0_wrongSet 27 = .ok (.bipush 9, 2) := dk_16 9 (dk_at dksX0_wrongSet_1 3 rfl rfl)
theorem dX0_wrongSet_29 : decode cX0_wrongSet 29 = .ok (.ireturn, 1) := dk_172 (dk_at dksX0_wrongSet_1 5 rfl rfl)
abbrev cX0_lists : ByteArray := prog_1_method_36_code
def yX0_lists : MethodName := ⟨RX0, "lists", "(I)V"⟩
def dkwX0_lists_6 : List UInt8 := [28, 79, 42, 89, 180, 1, 5, 4, 96, 181, 1, 5, 132, 2, 1, 167, 255, 105, 177]
abbrev dktX0_lists_6 : List UInt8 := dkwX0_lists_6 ++ []
def dkwX0_lists_5 : List UInt8 := [4, 100, 46, 79, 132, 4, 255, 167, 255, 203, 42, 180, 0, 55, 21, 4, 29, 79, 42, 180, 0, 52, 21, 4]
abbrev dktX0_lists_5 : List UInt8 := dkwX0_lists_5 ++ dktX0_lists_6
def dkwX0_lists_4 : List UInt8 := [21, 4, 42, 180, 0, 55, 21, 4, 4, 100, 46, 79, 42, 180, 0, 52, 21, 4, 42, 180, 0, 52, 21, 4]
abbrev dktX0_lists_4 : List UInt8 := dkwX0_lists_4 ++ dktX0_lists_5
def dkwX0_lists_3 : List UInt8 := [54, 4, 21, 4, 158, 0, 54, 42, 180, 0, 55, 21, 4, 4, 100, 46, 29, 164, 0, 41, 42, 180, 0, 55]
abbrev dktX0_lists_3 : List UInt8 := dkwX0_lists_3 ++ dktX0_lists_4
def dkwX0_lists_2 : List UInt8 := [182, 1, 8, 153, 0, 6, 167, 0, 102, 42, 180, 0, 37, 27, 28, 6, 182, 1, 11, 62, 42, 180, 1, 5]
abbrev dktX0_lists_2 : List UInt8 := dkwX0_lists_2 ++ dktX0_lists_3
def dkwX0_lists_1 : List UInt8 := [153, 0, 132, 42, 180, 0, 37, 180, 0, 208, 28, 50, 182, 0, 212, 154, 0, 117, 42, 180, 0, 37, 27, 28]
abbrev dktX0_lists_1 : List UInt8 := dkwX0_lists_1 ++ dktX0_lists_2
def dkwX0_lists_0 : List UInt8 := [42, 3, 181, 1, 5, 3, 61, 28, 42, 180, 0, 37, 180, 0, 149, 162, 0, 146, 27, 28, 122, 4, 126]
abbrev dktX0_lists_0 : List UInt8 := dkwX0_lists_0 ++ dktX0_lists_1
theorem dksX0_lists_0 : cX0_lists.data.toList.drop 0 = dktX0_lists_0 := by decide +kernel
theorem dksX0_lists_1 : cX0_lists.data.toList.drop 23 = dktX0_lists_1 := dk_seg dksX0_lists_0 23 rfl rfl
theorem dksX0_lists_2 : cX0_lists.data.toList.drop 47 = dktX0_lists_2 := dk_seg dksX0_lists_1 24 rfl rfl
theorem dksX0_lists_3 : cX0_lists.data.toList.drop 71 = dktX0_lists_3 := dk_seg dksX0_lists_2 24 rfl rfl
theorem dksX0_lists_4 : cX0_lists.data.toList.drop 95 = dktX0_lists_4 := dk_seg dksX0_lists_3 24 rfl rfl
theorem dksX0_lists_5 : cX0_lists.data.toList.drop 119 = dktX0_lists_5 := dk_seg dksX0_lists_4 24 rfl rfl
theorem dksX0_lists_6 : cX0_lists.data.toList.drop 143 = dktX0_lists_6 := dk_seg dksX0_lists_5 24 rfl rfl
theorem dX0_lists_0 : decode cX0_lists 0 = .ok (.aload_n 0, 1) := dk_42 (dk_at dksX0_lists_0 0 rfl rfl)
theorem dX0_lists_1 : decode cX0_lists 1 = .ok (.iconst 0, 1) := dk_3 (dk_at dksX0_lists_0 1 rfl rfl)
theorem dX0_lists_2 : decode cX0_lists 2 = .ok (.putfield 261, 3) := dk_181 1 5 (dk_at dksX0_lists_0 2 rfl rfl)
theorem dX0_lists_5 : decode cX0_lists 5 = .ok (.iconst 0, 1) := dk_3 (dk_at dksX0_lists_0 5 rfl rfl)
theorem dX0_lists_6 : decode cX0_lists 6 = .ok (.istore_n 2, 1) := dk_61 (dk_at dksX0_lists_0 6 rfl rfl)
theorem dX0_lists_7 : decode cX0_lists 7 = .ok (.iload_n 2, 1) := dk_28 (dk_at dksX0_lists_0 7 rfl rfl)
theorem dX0_lists_8 : decode cX0_lists 8 = .ok (.aload_n 0, 1) := dk_42 (dk_at dksX0_lists_0 8 rfl rfl)
theorem dX0_lists_9 : decode cX0_lists 9 = .ok (.getfield 37, 3) := dk_180 0 37 (dk_at dksX0_lists_0 9 rfl rfl)
theorem dX0_lists_12 : decode cX0_lists 12 = .ok (.getfield 149, 3) := dk_180 0 149 (dk_at dksX0_lists_0 12 rfl rfl)
theorem dX0_lists_15 : decode cX0_lists 15 = .ok (.if_icmp .ge 146, 3) := dk_162 0 146 (dk_at dksX0_lists_0 15 rfl rfl)
theorem dX0_lists_18 : decode cX0_lists 18 = .ok (.iload_n 1, 1) := dk_27 (dk_at dksX0_lists_0 18 rfl rfl)
theorem dX0_lists_19 : decode cX0_lists 19 = .ok (.iload_n 2, 1) := dk_28 (dk_at dksX0_lists_0 19 rfl rfl)
theorem dX0_lists_20 : decode cX0_lists 20 = .ok (.ishr, 1) := dk_122 (dk_at dksX0_lists_0 20 rfl rfl)
theorem dX0_lists_21 : decode cX0_lists 21 = .ok (.iconst 1, 1) := dk_4 (dk_at dksX0_lists_0 21 rfl rfl)
theorem dX0_lists_22 : decode cX0_lists 22 = .ok (.iand, 1) := dk_126 (dk_at dksX0_lists_0 22 rfl rfl)
theorem dX0_lists_23 : decode cX0_lists 23 = .ok (.ifCond .eq 132, 3) := dk_153 0 132 (dk_at dksX0_lists_1 0 rfl rfl)
theorem dX0_lists_26 : decode cX0_lists 26 = .ok (.aload_n 0, 1) := dk_42 (dk_at dksX0_lists_1 3 rfl rfl)
theorem dX0_lists_27 : decode cX0_lists 27 = .ok (.getfield 37, 3) := dk_180 0 37 (dk_at dksX0_lists_1 4 rfl rfl)
theorem dX0_lists_30 : decode cX0_lists 30 = .ok (.getfield 208, 3) := dk_180 0 208 (dk_at dksX0_lists_1 7 rfl rfl)
theorem dX0_lists_33 : decode cX0_lists 33 = .ok (.iload_n 2, 1) := dk_28 (dk_at dksX0_lists_1 10 rfl rfl)
theorem dX0_lists_34 : decode cX0_lists 34 = .ok (.aaload, 1) := dk_50 (dk_at dksX0_lists_1 11 rfl rfl)
theorem dX0_lists_35 : decode cX0_lists 35 = .ok (.invokevirtual 212, 3) := dk_182 0 212 (dk_at dksX0_lists_1 12 rfl rfl)
theorem dX0_lists_38 : decode cX0_lists 38 = .ok (.ifCond .ne 117, 3) := dk_154 0 117 (dk_at dksX0_lists_1 15 rfl rfl)
theorem dX0_lists_41 : decode cX0_lists 41 = .ok (.aload_n 0, 1) := dk_42 (dk_at dksX0_lists_1 18 rfl rfl)
theorem dX0_lists_42 : decode cX0_lists 42 = .ok (.getfield 37, 3) := dk_180 0 37 (dk_at dksX0_lists_1 19 rfl rfl)
theorem dX0_lists_45 : decode cX0_lists 45 = .ok (.iload_n 1, 1) := dk_27 (dk_at dksX0_lists_1 22 rfl rfl)
theorem dX0_lists_46 : decode cX0_lists 46 = .ok (.iload_n 2, 1) := dk_28 (dk_at dksX0_lists_1 23 rfl rfl)
theorem dX0_lists_47 : decode cX0_lists 47 = .ok (.invokevirtual 264, 3) := dk_182 1 8 (dk_at dksX0_lists_2 0 rfl rfl)
theorem dX0_lists_50 : decode cX0_lists 50 = .ok (.ifCond .eq 6, 3) := dk_153 0 6 (dk_at dksX0_lists_2 3 rfl rfl)
theorem dX0_lists_53 : decode cX0_lists 53 = .ok (.goto 102, 3) := dk_167 0 102 (dk_at dksX0_lists_2 6 rfl rfl)
theorem dX0_lists_56 : decode cX0_lists 56 = .ok (.aload_n 0, 1) := dk_42 (dk_at dksX0_lists_2 9 rfl rfl)
theorem dX0_lists_57 : decode cX0_lists 57 = .ok (.getfield 37, 3) := dk_180 0 37 (dk_at dksX0_lists_2 10 rfl rfl)
theorem dX0_lists_60 : decode cX0_lists 60 = .ok (.iload_n 1, 1) := dk_27 (dk_at dksX0_lists_2 13 rfl rfl)
theorem dX0_lists_61 : decode cX0_lists 61 = .ok (.iload_n 2, 1) := dk_28 (dk_at dksX0_lists_2 14 rfl rfl)
theorem dX0_lists_62 : decode cX0_lists 62 = .ok (.iconst 3, 1) := dk_6 (dk_at dksX0_lists_2 15 rfl rfl)
theorem dX0_lists_63 : decode cX0_lists 63 = .ok (.invokevirtual 267, 3) := dk_182 1 11 (dk_at dksX0_lists_2 16 rfl rfl)
theorem dX0_lists_66 : decode cX0_lists 66 = .ok (.istore_n 3, 1) := dk_62 (dk_at dksX0_lists_2 19 rfl rfl)
theorem dX0_lists_67 : decode cX0_lists 67 = .ok (.aload_n 0, 1) := dk_42 (dk_at dksX0_lists_2 20 rfl rfl)
theorem dX0_lists_68 : decode cX0_lists 68 = .ok (.getfield 261, 3) := dk_180 1 5 (dk_at dksX0_lists_2 21 rfl rfl)
theorem dX0_lists_71 : decode cX0_lists 71 = .ok (.istore 4, 2) := dk_54 4 (dk_at dksX0_lists_3 0 rfl rfl)
theorem dX0_lists_73 : decode cX0_lists 73 = .ok (.iload 4, 2) := dk_21 4 (dk_at dksX0_lists_3 2 rfl rfl)
theorem dX0_lists_75 : decode cX0_lists 75 = .ok (.ifCond .le 54, 3) := dk_158 0 54 (dk_at dksX0_lists_3 4 rfl rfl)
theorem dX0_lists_78 : decode cX0_lists 78 = .ok (.aload_n 0, 1) := dk_42 (dk_at dksX0_lists_3 7 rfl rfl)
theorem dX0_lists_79 : decode cX0_lists 79 = .ok (.getfield 55, 3) := dk_180 0 55 (dk_at dksX0_lists_3 8 rfl rfl)
theorem dX0_lists_82 : decode cX0_lists 82 = .ok (.iload 4, 2) := dk_21 4 (dk_at dksX0_lists_3 11 rfl rfl)
theorem dX0_lists_84 : decode cX0_lists 84 = .ok (.iconst 1, 1) := dk_4 (dk_at dksX0_lists_3 13 rfl rfl)
theorem dX0_lists_85 : decode cX0_lists 85 = .ok (.isub, 1) := dk_100 (dk_at dksX0_lists_3 14 rfl rfl)
theorem dX0_lists_86 : decode cX0_lists 86 = .ok (.iaload, 1) := dk_46 (dk_at dksX0_lists_3 15 rfl rfl)
theorem dX0_lists_87 : decode cX0_lists 87 = .ok (.iload_n 3, 1) := dk_29 (dk_at dksX0_lists_3 16 rfl rfl)
theorem dX0_lists_88 : decode cX0_lists 88 = .ok (.if_icmp .le 41, 3) := dk_164 0 41 (dk_at dksX0_lists_3 17 rfl rfl)
theorem dX0_lists_91 : decode cX0_lists 91 = .ok (.aload_n 0, 1) := dk_42 (dk_at dksX0_lists_3 20 rfl rfl)
theorem dX0_lists_92 : decode cX0_lists 92 = .ok (.getfield 55, 3) := dk_180 0 55 (dk_at dksX0_lists_3 21 rfl rfl)
theorem dX0_lists_95 : decode cX0_lists 95 = .ok (.iload 4, 2) := dk_21 4 (dk_at dksX0_lists_4 0 rfl rfl)
theorem dX0_lists_97 : decode cX0_lists 97 = .ok (.aload_n 0, 1) := dk_42 (dk_at dksX0_lists_4 2 rfl rfl)
theorem dX0_lists_98 : decode cX0_lists 98 = .ok (.getfield 55, 3) := dk_180 0 55 (dk_at dksX0_lists_4 3 rfl rfl)
theorem dX0_lists_101 : decode cX0_lists 101 = .ok (.iload 4, 2) := dk_21 4 (dk_at dksX0_lists_4 6 rfl rfl)
theorem dX0_lists_103 : decode cX0_lists 103 = .ok (.iconst 1, 1) := dk_4 (dk_at dksX0_lists_4 8 rfl rfl)
theorem dX0_lists_104 : decode cX0_lists 104 = .ok (.isub, 1) := dk_100 (dk_at dksX0_lists_4 9 rfl rfl)
theorem dX0_lists_105 : decode cX0_lists 105 = .ok (.iaload, 1) := dk_46 (dk_at dksX0_lists_4 10 rfl rfl)
theorem dX0_lists_106 : decode cX0_lists 106 = .ok (.iastore, 1) := dk_79 (dk_at dksX0_lists_4 11 rfl rfl)
theorem dX0_lists_107 : decode cX0_lists 107 = .ok (.aload_n 0, 1) := dk_42 (dk_at dksX0_lists_4 12 rfl rfl)
theorem dX0_lists_108 : decode cX0_lists 108 = .ok (.getfield 52, 3) := dk_180 0 52 (dk_at dksX0_lists_4 13 rfl rfl)
theorem dX0_lists_111 : decode cX0_lists 111 = .ok (.iload 4, 2) := dk_21 4 (dk_at dksX0_lists_4 16 rfl rfl)
theorem dX0_lists_113 : decode cX0_lists 113 = .ok (.aload_n 0, 1) := dk_42 (dk_at dksX0_lists_4 18 rfl rfl)
theorem dX0_lists_114 : decode cX0_lists 114 = .ok (.getfield 52, 3) := dk_180 0 52 (dk_at dksX0_lists_4 19 rfl rfl)
theorem dX0_lists_117 : decode cX0_lists 117 = .ok (.iload 4, 2) := dk_21 4 (dk_at dksX0_lists_4 22 rfl rfl)
theorem dX0_lists_119 : decode cX0_lists 119 = .ok (.iconst 1, 1) := dk_4 (dk_at dksX0_lists_5 0 rfl rfl)
theorem dX0_lists_120 : decode cX0_lists 120 = .ok (.isub, 1) := dk_100 (dk_at dksX0_lists_5 1 rfl rfl)
theorem dX0_lists_121 : decode cX0_lists 121 = .ok (.iaload, 1) := dk_46 (dk_at dksX0_lists_5 2 rfl rfl)
theorem dX0_lists_122 : decode cX0_lists 122 = .ok (.iastore, 1) := dk_79 (dk_at dksX0_lists_5 3 rfl rfl)
theorem dX0_lists_123 : decode cX0_lists 123 = .ok (.iinc 4 (-1), 3) := dk_132 4 255 (dk_at dksX0_lists_5 4 rfl rfl)
theorem dX0_lists_126 : decode cX0_lists 126 = .ok (.goto (-53), 3) := dk_167 255 203 (dk_at dksX0_lists_5 7 rfl rfl)
theorem dX0_lists_129 : decode cX0_lists 129 = .ok (.aload_n 0, 1) := dk_42 (dk_at dksX0_lists_5 10 rfl rfl)
theorem dX0_lists_130 : decode cX0_lists 130 = .ok (.getfield 55, 3) := dk_180 0 55 (dk_at dksX0_lists_5 11 rfl rfl)
theorem dX0_lists_133 : decode cX0_lists 133 = .ok (.iload 4, 2) := dk_21 4 (dk_at dksX0_lists_5 14 rfl rfl)
theorem dX0_lists_135 : decode cX0_lists 135 = .ok (.iload_n 3, 1) := dk_29 (dk_at dksX0_lists_5 16 rfl rfl)
theorem dX0_lists_136 : decode cX0_lists 136 = .ok (.iastore, 1) := dk_79 (dk_at dksX0_lists_5 17 rfl rfl)
theorem dX0_lists_137 : decode cX0_lists 137 = .ok (.aload_n 0, 1) := dk_42 (dk_at dksX0_lists_5 18 rfl rfl)
theorem dX0_lists_138 : decode cX0_lists 138 = .ok (.getfield 52, 3) := dk_180 0 52 (dk_at dksX0_lists_5 19 rfl rfl)
theorem dX0_lists_141 : decode cX0_lists 141 = .ok (.iload 4, 2) := dk_21 4 (dk_at dksX0_lists_5 22 rfl rfl)
theorem dX0_lists_143 : decode cX0_lists 143 = .ok (.iload_n 2, 1) := dk_28 (dk_at dksX0_lists_6 0 rfl rfl)
theorem dX0_lists_144 : decode cX0_lists 144 = .ok (.iastore, 1) := dk_79 (dk_at dksX0_lists_6 1 rfl rfl)
theorem dX0_lists_145 : decode cX0_lists 145 = .ok (.aload_n 0, 1) := dk_42 (dk_at dksX0_lists_6 2 rfl rfl)
theorem dX0_lists_146 : decode cX0_lists 146 = .ok (.dup, 1) := dk_89 (dk_at dksX0_lists_6 3 rfl rfl)
theorem dX0_lists_147 : decode cX0_lists 147 = .ok (.getfield 261, 3) := dk_180 1 5 (dk_at dksX0_lists_6 4 rfl rfl)
theorem dX0_lists_150 : decode cX0_lists 150 = .ok (.iconst 1, 1) := dk_4 (dk_at dksX0_lists_6 7 rfl rfl)
theorem dX0_lists_151 : decode cX0_lists 151 = .ok (.iadd, 1) := dk_96 (dk_at dksX0_lists_6 8 rfl rfl)
theorem dX0_lists_152 : decode cX0_lists 152 = .ok (.putfield 261, 3) := dk_181 1 5 (dk_at dksX0_lists_6 9 rfl rfl)
theorem dX0_lists_155 : decode cX0_lists 155 = .ok (.iinc 2 1, 3) := dk_132 2 1 (dk_at dksX0_lists_6 12 rfl rfl)
theorem dX0_lists_158 : decode cX0_lists 158 = .ok (.goto (-151), 3) := dk_167 255 105 (dk_at dksX0_lists_6 15 rfl rfl)
theorem dX0_lists_161 : decode cX0_lists 161 = .ok (.return_, 1) := dk_177 (dk_at dksX0_lists_6 18 rfl rfl)
abbrev cX0_thing : ByteArray := prog_1_method_40_code
def yX0_thing : MethodName := ⟨RX0, "thing", "(II)I"⟩
def dkwX0_thing_2 : List UInt8 := [180, 0, 52, 28, 46, 182, 0, 197, 172]
abbrev dktX0_thing_2 : List UInt8 := dkwX0_thing_2 ++ []
def dkwX0_thing_1 : List UInt8 := [155, 0, 11, 28, 42, 180, 1, 5, 161, 0, 12, 42, 16, 8, 182, 0, 124, 167, 0, 13, 42, 42]
abbrev dktX0_thing_1 : List UInt8 := dkwX0_thing_1 ++ dktX0_thing_2
def dkwX0_thing_0 : List UInt8 := [42, 27, 182, 1, 14, 62, 29, 158, 0, 9, 42, 29, 182, 0, 124, 172, 42, 27, 182, 1, 17, 28]
abbrev dktX0_thing_0 : List UInt8 := dkwX0_thing_0 ++ dktX0_thing_1
theorem dksX0_thing_0 : cX0_thing.data.toList.drop 0 = dktX0_thing_0 := by decide +kernel
theorem dksX0_thing_1 : cX0_thing.data.toList.drop 22 = dktX0_thing_1 := dk_seg dksX0_thing_0 22 rfl rfl
theorem dksX0_thing_2 : cX0_thing.data.toList.drop 44 = dktX0_thing_2 := dk_seg dksX0_thing_1 22 rfl rfl
theorem dX0_thing_0 : decode cX0_thing 0 = .ok (.aload_n 0, 1) := dk_42 (dk_at dksX0_thing_0 0 rfl rfl)
theorem dX0_thing_1 : decode cX0_thing 1 = .ok (.iload_n 1, 1) := dk_27 (dk_at dksX0_thing_0 1 rfl rfl)
theorem dX0_thing_2 : decode cX0_thing 2 = .ok (.invokevirtual 270, 3) := dk_182 1 14 (dk_at dksX0_thing_0 2 rfl rfl)
theorem dX0_thing_5 : decode cX0_thing 5 = .ok (.istore_n 3, 1) := dk_62 (dk_at dksX0_thing_0 5 rfl rfl)
theorem dX0_thing_6 : decode cX0_thing 6 = .ok (.iload_n 3, 1) := dk_29 (dk_at dksX0_thing_0 6 rfl rfl)
theorem dX0_thing_7 : decode cX0_thing 7 = .ok (.ifCond .le 9, 3) := dk_158 0 9 (dk_at dksX0_thing_0 7 rfl rfl)
theorem dX0_thing_10 : decode cX0_thing 10 = .ok (.aload_n 0, 1) := dk_42 (dk_at dksX0_thing_0 10 rfl rfl)
theorem dX0_thing_11 : decode cX0_thing 11 = .ok (.iload_n 3, 1) := dk_29 (dk_at dksX0_thing_0 11 rfl rfl)
theorem dX0_thing_12 : decode cX0_thing 12 = .ok (.invokevirtual 124, 3) := dk_182 0 124 (dk_at dksX0_thing_0 12 rfl rfl)
theorem dX0_thing_15 : decode cX0_thing 15 = .ok (.ireturn, 1) := dk_172 (dk_at dksX0_thing_0 15 rfl rfl)
theorem dX0_thing_16 : decode cX0_thing 16 = .ok (.aload_n 0, 1) := dk_42 (dk_at dksX0_thing_0 16 rfl rfl)
theorem dX0_thing_17 : decode cX0_thing 17 = .ok (.iload_n 1, 1) := dk_27 (dk_at dksX0_thing_0 17 rfl rfl)
theorem dX0_thing_18 : decode cX0_thing 18 = .ok (.invokevirtual 273, 3) := dk_182 1 17 (dk_at dksX0_thing_0 18 rfl rfl)
theorem dX0_thing_21 : decode cX0_thing 21 = .ok (.iload_n 2, 1) := dk_28 (dk_at dksX0_thing_0 21 rfl rfl)
theorem dX0_thing_22 : decode cX0_thing 22 = .ok (.ifCond .lt 11, 3) := dk_155 0 11 (dk_at dksX0_thing_1 0 rfl rfl)
theorem dX0_thing_25 : decode cX0_thing 25 = .ok (.iload_n 2, 1) := dk_28 (dk_at dksX0_thing_1 3 rfl rfl)
theorem dX0_thing_26 : decode cX0_thing 26 = .ok (.aload_n 0, 1) := dk_42 (dk_at dksX0_thing_1 4 rfl rfl)
theorem dX0_thing_27 : decode cX0_thing 27 = .ok (.getfield 261, 3) := dk_180 1 5 (dk_at dksX0_thing_1 5 rfl rfl)
theorem dX0_thing_30 : decode cX0_thing 30 = .ok (.if_icmp .lt 12, 3) := dk_161 0 12 (dk_at dksX0_thing_1 8 rfl rfl)
theorem dX0_thing_33 : decode cX0_thing 33 = .ok (.aload_n 0, 1) := dk_42 (dk_at dksX0_thing_1 11 rfl rfl)
theorem dX0_thing_34 : decode cX0_thing 34 = .ok (.bipush 8, 2) := dk_16 8 (dk_at dksX0_thing_1 12 rfl rfl)
theorem dX0_thing_36 : decode cX0_thing 36 = .ok (.invokevirtual 124, 3) := dk_182 0 124 (dk_at dksX0_thing_1 14 rfl rfl)
theorem dX0_thing_39 : decode cX0_thing 39 = .ok (.goto 13, 3) := dk_167 0 13 (dk_at dksX0_thing_1 17 rfl rfl)
theorem dX0_thing_42 : decode cX0_thing 42 = .ok (.aload_n 0, 1) := dk_42 (dk_at dksX0_thing_1 20 rfl rfl)
theorem dX0_thing_43 : decode cX0_thing 43 = .ok (.aload_n 0, 1) := dk_42 (dk_at dksX0_thing_1 21 rfl rfl)
theorem dX0_thing_44 : decode cX0_thing 44 = .ok (.getfield 52, 3) := dk_180 0 52 (dk_at dksX0_thing_2 0 rfl rfl)
theorem dX0_thing_47 : decode cX0_thing 47 = .ok (.iload_n 2, 1) := dk_28 (dk_at dksX0_thing_2 3 rfl rfl)
theorem dX0_thing_48 : decode cX0_thing 48 = .ok (.iaload, 1) := dk_46 (dk_at dksX0_thing_2 4 rfl rfl)
theorem dX0_thing_49 : decode cX0_thing 49 = .ok (.invokevirtual 197, 3) := dk_182 0 197 (dk_at dksX0_thing_2 5 rfl rfl)
theorem dX0_thing_52 : decode cX0_thing 52 = .ok (.ireturn, 1) := dk_172 (dk_at dksX0_thing_2 8 rfl rfl)
abbrev cX0_says : ByteArray := prog_1_method_42_code
def yX0_says : MethodName := ⟨RX0, "says", "(II)I"⟩
def dkwX0_says_1 : List UInt8 := [27, 28, 5, 182, 1, 11, 182, 0, 197, 172]
abbrev dktX0_says_1 : List UInt8 := dkwX0_says_1 ++ []
def dkwX0_says_0 : List UInt8 := [42, 27, 28, 182, 1, 23, 62, 29, 158, 0, 11, 42, 29, 182, 0, 124, 167, 0, 17, 42, 42, 180, 0, 37]
abbrev dktX0_says_0 : List UInt8 := dkwX0_says_0 ++ dktX0_says_1
theorem dksX0_says_0 : cX0_says.data.toList.drop 0 = dktX0_says_0 := by decide +kernel
theorem dksX0_says_1 : cX0_says.data.toList.drop 24 = dktX0_says_1 := dk_seg dksX0_says_0 24 rfl rfl
theorem dX0_says_0 : decode cX0_says 0 = .ok (.aload_n 0, 1) := dk_42 (dk_at dksX0_says_0 0 rfl rfl)
theorem dX0_says_1 : decode cX0_says 1 = .ok (.iload_n 1, 1) := dk_27 (dk_at dksX0_says_0 1 rfl rfl)
theorem dX0_says_2 : decode cX0_says 2 = .ok (.iload_n 2, 1) := dk_28 (dk_at dksX0_says_0 2 rfl rfl)
theorem dX0_says_3 : decode cX0_says 3 = .ok (.invokevirtual 279, 3) := dk_182 1 23 (dk_at dksX0_says_0 3 rfl rfl)
theorem dX0_says_6 : decode cX0_says 6 = .ok (.istore_n 3, 1) := dk_62 (dk_at dksX0_says_0 6 rfl rfl)
theorem dX0_says_7 : decode cX0_says 7 = .ok (.iload_n 3, 1) := dk_29 (dk_at dksX0_says_0 7 rfl rfl)
theorem dX0_says_8 : decode cX0_says 8 = .ok (.ifCond .le 11, 3) := dk_158 0 11 (dk_at dksX0_says_0 8 rfl rfl)
theorem dX0_says_11 : decode cX0_says 11 = .ok (.aload_n 0, 1) := dk_42 (dk_at dksX0_says_0 11 rfl rfl)
theorem dX0_says_12 : decode cX0_says 12 = .ok (.iload_n 3, 1) := dk_29 (dk_at dksX0_says_0 12 rfl rfl)
theorem dX0_says_13 : decode cX0_says 13 = .ok (.invokevirtual 124, 3) := dk_182 0 124 (dk_at dksX0_says_0 13 rfl rfl)
theorem dX0_says_16 : decode cX0_says 16 = .ok (.goto 17, 3) := dk_167 0 17 (dk_at dksX0_says_0 16 rfl rfl)
theorem dX0_says_19 : decode cX0_says 19 = .ok (.aload_n 0, 1) := dk_42 (dk_at dksX0_says_0 19 rfl rfl)
theorem dX0_says_20 : decode cX0_says 20 = .ok (.aload_n 0, 1) := dk_42 (dk_at dksX0_says_0 20 rfl rfl)
theorem dX0_says_21 : decode cX0_says 21 = .ok (.getfield 37, 3) := dk_180 0 37 (dk_at dksX0_says_0 21 rfl rfl)
theorem dX0_says_24 : decode cX0_says 24 = .ok (.iload_n 1, 1) := dk_27 (dk_at dksX0_says_1 0 rfl rfl)
theorem dX0_says_25 : decode cX0_says 25 = .ok (.iload_n 2, 1) := dk_28 (dk_at dksX0_says_1 1 rfl rfl)
theorem dX0_says_26 : decode cX0_says 26 = .ok (.iconst 2, 1) := dk_5 (dk_at dksX0_says_1 2 rfl rfl)
theorem dX0_says_27 : decode cX0_says 27 = .ok (.invokevirtual 267, 3) := dk_182 1 11 (dk_at dksX0_says_1 3 rfl rfl)
theorem dX0_says_30 : decode cX0_says 30 = .ok (.invokevirtual 197, 3) := dk_182 0 197 (dk_at dksX0_says_1 6 rfl rfl)
theorem dX0_says_33 : decode cX0_says 33 = .ok (.ireturn, 1) := dk_172 (dk_at dksX0_says_1 9 rfl rfl)
abbrev cX0_wrongThing : ByteArray := prog_1_method_41_code
def yX0_wrongThing : MethodName := ⟨RX0, "wrongThing", "(II)I"⟩
def dkwX0_wrongThing_2 : List UInt8 := [16, 8, 167, 0, 4, 3, 172]
abbrev dktX0_wrongThing_2 : List UInt8 := dkwX0_wrongThing_2 ++ []
def dkwX0_wrongThing_1 : List UInt8 := [182, 0, 254, 154, 0, 6, 16, 9, 172, 42, 27, 182, 1, 17, 42, 28, 182, 1, 20, 2, 160, 0, 8]
abbrev dktX0_wrongThing_1 : List UInt8 := dkwX0_wrongThing_1 ++ dktX0_wrongThing_2
def dkwX0_wrongThing_0 : List UInt8 := [42, 27, 182, 0, 251, 153, 0, 12, 42, 28, 133, 182, 0, 224, 154, 0, 5, 5, 172, 42, 180, 0, 37, 27]
abbrev dktX0_wrongThing_0 : List UInt8 := dkwX0_wrongThing_0 ++ dktX0_wrongThing_1
theorem dksX0_wrongThing_0 : cX0_wrongThing.data.toList.drop 0 = dktX0_wrongThing_0 := by decide +kernel
theorem dksX0_wrongThing_1 : cX0_wrongThing.data.toList.drop 24 = dktX0_wrongThing_1 := dk_seg dksX0_wrongThing_0 24 rfl rfl
theorem dksX0_wrongThing_2 : cX0_wrongThing.data.toList.drop 47 = dktX0_wrongThing_2 := dk_seg dksX0_wrongThing_1 23 rfl rfl
theorem dX0_wrongThing_0 : decode cX0_wrongThing 0 = .ok (.aload_n 0, 1) := dk_42 (dk_at dksX0_wrongThing_0 0 rfl rfl)
theorem dX0_wrongThing_1 : decode cX0_wrongThing 1 = .ok (.iload_n 1, 1) := dk_27 (dk_at dksX0_wrongThing_0 1 rfl rfl)
theorem dX0_wrongThing_2 : decode cX0_wrongThing 2 = .ok (.invokevirtual 251, 3) := dk_182 0 251 (dk_at dksX0_wrongThing_0 2 rfl rfl)
theorem dX0_wrongThing_5 : decode cX0_wrongThing 5 = .ok (.ifCond .eq 12, 3) := dk_153 0 12 (dk_at dksX0_wrongThing_0 5 rfl rfl)
theorem dX0_wrongThing_8 : decode cX0_wrongThing 8 = .ok (.aload_n 0, 1) := dk_42 (dk_at dksX0_wrongThing_0 8 rfl rfl)
theorem dX0_wrongThing_9 : decode cX0_wrongThing 9 = .ok (.iload_n 2, 1) := dk_28 (dk_at dksX0_wrongThing_0 9 rfl rfl)
theorem dX0_wrongThing_10 : decode cX0_wrongThing 10 = .ok (.i2l, 1) := dk_133 (dk_at dksX0_wrongThing_0 10 rfl rfl)
theorem dX0_wrongThing_11 : decode cX0_wrongThing 11 = .ok (.invokevirtual 224, 3) := dk_182 0 224 (dk_at dksX0_wrongThing_0 11 rfl rfl)
theorem dX0_wrongThing_14 : decode cX0_wrongThing 14 = .ok (.ifCond .ne 5, 3) := dk_154 0 5 (dk_at dksX0_wrongThing_0 14 rfl rfl)
theorem dX0_wrongThing_17 : decode cX0_wrongThing 17 = .ok (.iconst 2, 1) := dk_5 (dk_at dksX0_wrongThing_0 17 rfl rfl)
theorem dX0_wrongThing_18 : decode cX0_wrongThing 18 = .ok (.ireturn, 1) := dk_172 (dk_at dksX0_wrongThing_0 18 rfl rfl)
theorem dX0_wrongThing_19 : decode cX0_wrongThing 19 = .ok (.aload_n 0, 1) := dk_42 (dk_at dksX0_wrongThing_0 19 rfl rfl)
theorem dX0_wrongThing_20 : decode cX0_wrongThing 20 = .ok (.getfield 37, 3) := dk_180 0 37 (dk_at dksX0_wrongThing_0 20 rfl rfl)
theorem dX0_wrongThing_23 : decode cX0_wrongThing 23 = .ok (.iload_n 1, 1) := dk_27 (dk_at dksX0_wrongThing_0 23 rfl rfl)
theorem dX0_wrongThing_24 : decode cX0_wrongThing 24 = .ok (.invokevirtual 254, 3) := dk_182 0 254 (dk_at dksX0_wrongThing_1 0 rfl rfl)
theorem dX0_wrongThing_27 : decode cX0_wrongThing 27 = .ok (.ifCond .ne 6, 3) := dk_154 0 6 (dk_at dksX0_wrongThing_1 3 rfl rfl)
theorem dX0_wrongThing_30 : decode cX0_wrongThing 30 = .ok (.bipush 9, 2) := dk_16 9 (dk_at dksX0_wrongThing_1 6 rfl rfl)
theorem dX0_wrongThing_32 : decode cX0_wrongThing 32 = .ok (.ireturn, 1) := dk_172 (dk_at dksX0_wrongThing_1 8 rfl rfl)
theorem dX0_wrongThing_33 : decode cX0_wrongThing 33 = .ok (.aload_n 0, 1) := dk_42 (dk_at dksX0_wrongThing_1 9 rfl rfl)
theorem dX0_wrongThing_34 : decode cX0_wrongThing 34 = .ok (.iload_n 1, 1) := dk_27 (dk_at dksX0_wrongThing_1 10 rfl rfl)
theorem dX0_wrongThing_35 : decode cX0_wrongThing 35 = .ok (.invokevirtual 273, 3) := dk_182 1 17 (dk_at dksX0_wrongThing_1 11 rfl rfl)
theorem dX0_wrongThing_38 : decode cX0_wrongThing 38 = .ok (.aload_n 0, 1) := dk_42 (dk_at dksX0_wrongThing_1 14 rfl rfl)
theorem dX0_wrongThing_39 : decode cX0_wrongThing 39 = .ok (.iload_n 2, 1) := dk_28 (dk_at dksX0_wrongThing_1 15 rfl rfl)
theorem dX0_wrongThing_40 : decode cX0_wrongThing 40 = .ok (.invokevirtual 276, 3) := dk_182 1 20 (dk_at dksX0_wrongThing_1 16 rfl rfl)
theorem dX0_wrongThing_43 : decode cX0_wrongThing 43 = .ok (.iconst (-1), 1) := dk_2 (dk_at dksX0_wrongThing_1 19 rfl rfl)
theorem dX0_wrongThing_44 : decode cX0_wrongThing 44 = .ok (.if_icmp .ne 8, 3) := dk_160 0 8 (dk_at dksX0_wrongThing_1 20 rfl rfl)
theorem dX0_wrongThing_47 : decode cX0_wrongThing 47 = .ok (.bipush 8, 2) := dk_16 8 (dk_at dksX0_wrongThing_2 0 rfl rfl)
theorem dX0_wrongThing_49 : decode cX0_wrongThing 49 = .ok (.goto 4, 3) := dk_167 0 4 (dk_at dksX0_wrongThing_2 2 rfl rfl)
theorem dX0_wrongThing_52 : decode cX0_wrongThing 52 = .ok (.iconst 0, 1) := dk_3 (dk_at dksX0_wrongThing_2 5 rfl rfl)
theorem dX0_wrongThing_53 : decode cX0_wrongThing 53 = .ok (.ireturn, 1) := dk_172 (dk_at dksX0_wrongThing_2 6 rfl rfl)
abbrev cX0_placeOf : ByteArray := prog_1_method_37_code
def yX0_placeOf : MethodName := ⟨RX0, "placeOf", "(I)I"⟩
def dkwX0_placeOf_1 : List UInt8 := [132, 2, 1, 167, 255, 233, 2, 172]
abbrev dktX0_placeOf_1 : List UInt8 := dkwX0_placeOf_1 ++ []
def dkwX0_placeOf_0 : List UInt8 := [3, 61, 28, 42, 180, 1, 5, 162, 0, 21, 42, 180, 0, 52, 28, 46, 27, 160, 0, 5, 28, 172]
abbrev dktX0_placeOf_0 : List UInt8 := dkwX0_placeOf_0 ++ dktX0_placeOf_1
theorem dksX0_placeOf_0 : cX0_placeOf.data.toList.drop 0 = dktX0_placeOf_0 := by decide +kernel
theorem dksX0_placeOf_1 : cX0_placeOf.data.toList.drop 22 = dktX0_placeOf_1 := dk_seg dksX0_placeOf_0 22 rfl rfl
theorem dX0_placeOf_0 : decode cX0_placeOf 0 = .ok (.iconst 0, 1) := dk_3 (dk_at dksX0_placeOf_0 0 rfl rfl)
theorem dX0_placeOf_1 : decode cX0_placeOf 1 = .ok (.istore_n 2, 1) := dk_61 (dk_at dksX0_placeOf_0 1 rfl rfl)
theorem dX0_placeOf_2 : decode cX0_placeOf 2 = .ok (.iload_n 2, 1) := dk_28 (dk_at dksX0_placeOf_0 2 rfl rfl)
theorem dX0_placeOf_3 : decode cX0_placeOf 3 = .ok (.aload_n 0, 1) := dk_42 (dk_at dksX0_placeOf_0 3 rfl rfl)
theorem dX0_placeOf_4 : decode cX0_placeOf 4 = .ok (.getfield 261, 3) := dk_180 1 5 (dk_at dksX0_placeOf_0 4 rfl rfl)
theorem dX0_placeOf_7 : decode cX0_placeOf 7 = .ok (.if_icmp .ge 21, 3) := dk_162 0 21 (dk_at dksX0_placeOf_0 7 rfl rfl)
theorem dX0_placeOf_10 : decode cX0_placeOf 10 = .ok (.aload_n 0, 1) := dk_42 (dk_at dksX0_placeOf_0 10 rfl rfl)
theorem dX0_placeOf_11 : decode cX0_placeOf 11 = .ok (.getfield 52, 3) := dk_180 0 52 (dk_at dksX0_placeOf_0 11 rfl rfl)
theorem dX0_placeOf_14 : decode cX0_placeOf 14 = .ok (.iload_n 2, 1) := dk_28 (dk_at dksX0_placeOf_0 14 rfl rfl)
theorem dX0_placeOf_15 : decode cX0_placeOf 15 = .ok (.iaload, 1) := dk_46 (dk_at dksX0_placeOf_0 15 rfl rfl)
theorem dX0_placeOf_16 : decode cX0_placeOf 16 = .ok (.iload_n 1, 1) := dk_27 (dk_at dksX0_placeOf_0 16 rfl rfl)
theorem dX0_placeOf_17 : decode cX0_placeOf 17 = .ok (.if_icmp .ne 5, 3) := dk_160 0 5 (dk_at dksX0_placeOf_0 17 rfl rfl)
theorem dX0_placeOf_20 : decode cX0_placeOf 20 = .ok (.iload_n 2, 1) := dk_28 (dk_at dksX0_placeOf_0 20 rfl rfl)
theorem dX0_placeOf_21 : decode cX0_placeOf 21 = .ok (.ireturn, 1) := dk_172 (dk_at dksX0_placeOf_0 21 rfl rfl)
theorem dX0_placeOf_22 : decode cX0_placeOf 22 = .ok (.iinc 2 1, 3) := dk_132 2 1 (dk_at dksX0_placeOf_1 0 rfl rfl)
theorem dX0_placeOf_25 : decode cX0_placeOf 25 = .ok (.goto (-23), 3) := dk_167 255 233 (dk_at dksX0_placeOf_1 3 rfl rfl)
theorem dX0_placeOf_28 : decode cX0_placeOf 28 = .ok (.iconst (-1), 1) := dk_2 (dk_at dksX0_placeOf_1 6 rfl rfl)
theorem dX0_placeOf_29 : decode cX0_placeOf 29 = .ok (.ireturn, 1) := dk_172 (dk_at dksX0_placeOf_1 7 rfl rfl)
abbrev cX0_key : ByteArray := prog_1_method_43_code
def yX0_key : MethodName := ⟨RX0, "key", "(II)I"⟩
def dkwX0_key_1 : List UInt8 := [27, 28, 6, 182, 1, 11, 182, 0, 197, 172]
abbrev dktX0_key_1 : List UInt8 := dkwX0_key_1 ++ []
def dkwX0_key_0 : List UInt8 := [42, 27, 28, 182, 1, 23, 62, 29, 158, 0, 11, 42, 29, 182, 0, 124, 167, 0, 17, 42, 42, 180, 0, 37]
abbrev dktX0_key_0 : List UInt8 := dkwX0_key_0 ++ dktX0_key_1
theorem dksX0_key_0 : cX0_key.data.toList.drop 0 = dktX0_key_0 := by decide +kernel
theorem dksX0_key_1 : cX0_key.data.toList.drop 24 = dktX0_key_1 := dk_seg dksX0_key_0 24 rfl rfl
theorem dX0_key_0 : decode cX0_key 0 = .ok (.aload_n 0, 1) := dk_42 (dk_at dksX0_key_0 0 rfl rfl)
theorem dX0_key_1 : decode cX0_key 1 = .ok (.iload_n 1, 1) := dk_27 (dk_at dksX0_key_0 1 rfl rfl)
theorem dX0_key_2 : decode cX0_key 2 = .ok (.iload_n 2, 1) := dk_28 (dk_at dksX0_key_0 2 rfl rfl)
theorem dX0_key_3 : decode cX0_key 3 = .ok (.invokevirtual 279, 3) := dk_182 1 23 (dk_at dksX0_key_0 3 rfl rfl)
theorem dX0_key_6 : decode cX0_key 6 = .ok (.istore_n 3, 1) := dk_62 (dk_at dksX0_key_0 6 rfl rfl)
theorem dX0_key_7 : decode cX0_key 7 = .ok (.iload_n 3, 1) := dk_29 (dk_at dksX0_key_0 7 rfl rfl)
theorem dX0_key_8 : decode cX0_key 8 = .ok (.ifCond .le 11, 3) := dk_158 0 11 (dk_at dksX0_key_0 8 rfl rfl)
theorem dX0_key_11 : decode cX0_key 11 = .ok (.aload_n 0, 1) := dk_42 (dk_at dksX0_key_0 11 rfl rfl)
theorem dX0_key_12 : decode cX0_key 12 = .ok (.iload_n 3, 1) := dk_29 (dk_at dksX0_key_0 12 rfl rfl)
theorem dX0_key_13 : decode cX0_key 13 = .ok (.invokevirtual 124, 3) := dk_182 0 124 (dk_at dksX0_key_0 13 rfl rfl)
theorem dX0_key_16 : decode cX0_key 16 = .ok (.goto 17, 3) := dk_167 0 17 (dk_at dksX0_key_0 16 rfl rfl)
theorem dX0_key_19 : decode cX0_key 19 = .ok (.aload_n 0, 1) := dk_42 (dk_at dksX0_key_0 19 rfl rfl)
theorem dX0_key_20 : decode cX0_key 20 = .ok (.aload_n 0, 1) := dk_42 (dk_at dksX0_key_0 20 rfl rfl)
theorem dX0_key_21 : decode cX0_key 21 = .ok (.getfield 37, 3) := dk_180 0 37 (dk_at dksX0_key_0 21 rfl rfl)
theorem dX0_key_24 : decode cX0_key 24 = .ok (.iload_n 1, 1) := dk_27 (dk_at dksX0_key_1 0 rfl rfl)
theorem dX0_key_25 : decode cX0_key 25 = .ok (.iload_n 2, 1) := dk_28 (dk_at dksX0_key_1 1 rfl rfl)
theorem dX0_key_26 : decode cX0_key 26 = .ok (.iconst 3, 1) := dk_6 (dk_at dksX0_key_1 2 rfl rfl)
theorem dX0_key_27 : decode cX0_key 27 = .ok (.invokevirtual 267, 3) := dk_182 1 11 (dk_at dksX0_key_1 3 rfl rfl)
theorem dX0_key_30 : decode cX0_key 30 = .ok (.invokevirtual 197, 3) := dk_182 0 197 (dk_at dksX0_key_1 6 rfl rfl)
theorem dX0_key_33 : decode cX0_key 33 = .ok (.ireturn, 1) := dk_172 (dk_at dksX0_key_1 9 rfl rfl)
abbrev cX0_place : ByteArray := prog_1_method_44_code
def yX0_place : MethodName := ⟨RX0, "place", "(II)I"⟩
def dkwX0_place_1 : List UInt8 := [182, 1, 20, 182, 0, 197, 172]
abbrev dktX0_place_1 : List UInt8 := dkwX0_place_1 ++ []
def dkwX0_place_0 : List UInt8 := [42, 27, 28, 182, 1, 23, 62, 29, 158, 0, 11, 42, 29, 182, 0, 124, 167, 0, 12, 42, 42, 28]
abbrev dktX0_place_0 : List UInt8 := dkwX0_place_0 ++ dktX0_place_1
theorem dksX0_place_0 : cX0_place.data.toList.drop 0 = dktX0_place_0 := by decide +kernel
theorem dksX0_place_1 : cX0_place.data.toList.drop 22 = dktX0_place_1 := dk_seg dksX0_place_0 22 rfl rfl
theorem dX0_place_0 : decode cX0_place 0 = .ok (.aload_n 0, 1) := dk_42 (dk_at dksX0_place_0 0 rfl rfl)
theorem dX0_place_1 : decode cX0_place 1 = .ok (.iload_n 1, 1) := dk_27 (dk_at dksX0_place_0 1 rfl rfl)
theorem dX0_place_2 : decode cX0_place 2 = .ok (.iload_n 2, 1) := dk_28 (dk_at dksX0_place_0 2 rfl rfl)
theorem dX0_place_3 : decode cX0_place 3 = .ok (.invokevirtual 279, 3) := dk_182 1 23 (dk_at dksX0_place_0 3 rfl rfl)
theorem dX0_place_6 : decode cX0_place 6 = .ok (.istore_n 3, 1) := dk_62 (dk_at dksX0_place_0 6 rfl rfl)
theorem dX0_place_7 : decode cX0_place 7 = .ok (.iload_n 3, 1) := dk_29 (dk_at dksX0_place_0 7 rfl rfl)
theorem dX0_place_8 : decode cX0_place 8 = .ok (.ifCond .le 11, 3) := dk_158 0 11 (dk_at dksX0_place_0 8 rfl rfl)
theorem dX0_place_11 : decode cX0_place 11 = .ok (.aload_n 0, 1) := dk_42 (dk_at dksX0_place_0 11 rfl rfl)
theorem dX0_place_12 : decode cX0_place 12 = .ok (.iload_n 3, 1) := dk_29 (dk_at dksX0_place_0 12 rfl rfl)
theorem dX0_place_13 : decode cX0_place 13 = .ok (.invokevirtual 124, 3) := dk_182 0 124 (dk_at dksX0_place_0 13 rfl rfl)
theorem dX0_place_16 : decode cX0_place 16 = .ok (.goto 12, 3) := dk_167 0 12 (dk_at dksX0_place_0 16 rfl rfl)
theorem dX0_place_19 : decode cX0_place 19 = .ok (.aload_n 0, 1) := dk_42 (dk_at dksX0_place_0 19 rfl rfl)
theorem dX0_place_20 : decode cX0_place 20 = .ok (.aload_n 0, 1) := dk_42 (dk_at dksX0_place_0 20 rfl rfl)
theorem dX0_place_21 : decode cX0_place 21 = .ok (.iload_n 2, 1) := dk_28 (dk_at dksX0_place_0 21 rfl rfl)
theorem dX0_place_22 : decode cX0_place 22 = .ok (.invokevirtual 276, 3) := dk_182 1 20 (dk_at dksX0_place_1 0 rfl rfl)
theorem dX0_place_25 : decode cX0_place 25 = .ok (.invokevirtual 197, 3) := dk_182 0 197 (dk_at dksX0_place_1 3 rfl rfl)
theorem dX0_place_28 : decode cX0_place 28 = .ok (.ireturn, 1) := dk_172 (dk_at dksX0_place_1 6 rfl rfl)
abbrev cX0_like : ByteArray := prog_1_method_47_code
def yX0_like : MethodName := ⟨RX0, "like", "(II)I"⟩
def dkwX0_like_4 : List UInt8 := [167, 0, 4, 3, 182, 0, 197, 172]
abbrev dktX0_like_4 : List UInt8 := dkwX0_like_4 ++ []
def dkwX0_like_3 : List UInt8 := [160, 0, 7, 4, 167, 0, 4, 3, 54, 4, 132, 5, 1, 167, 255, 212, 42, 21, 4, 153, 0, 7, 4]
abbrev dktX0_like_3 : List UInt8 := dkwX0_like_3 ++ dktX0_like_4
def dkwX0_like_2 : List UInt8 := [162, 0, 38, 21, 4, 153, 0, 33, 42, 27, 21, 5, 182, 1, 38, 42, 28, 21, 5, 182, 1, 38]
abbrev dktX0_like_2 : List UInt8 := dkwX0_like_2 ++ dktX0_like_3
def dkwX0_like_1 : List UInt8 := [2, 160, 0, 7, 4, 167, 0, 4, 3, 54, 4, 3, 54, 5, 21, 5, 42, 180, 0, 37, 180, 0, 149]
abbrev dktX0_like_1 : List UInt8 := dkwX0_like_1 ++ dktX0_like_2
def dkwX0_like_0 : List UInt8 := [42, 27, 28, 182, 1, 31, 62, 29, 158, 0, 9, 42, 29, 182, 0, 124, 172, 42, 27, 28, 4, 182, 1, 34]
abbrev dktX0_like_0 : List UInt8 := dkwX0_like_0 ++ dktX0_like_1
theorem dksX0_like_0 : cX0_like.data.toList.drop 0 = dktX0_like_0 := by decide +kernel
theorem dksX0_like_1 : cX0_like.data.toList.drop 24 = dktX0_like_1 := dk_seg dksX0_like_0 24 rfl rfl
theorem dksX0_like_2 : cX0_like.data.toList.drop 47 = dktX0_like_2 := dk_seg dksX0_like_1 23 rfl rfl
theorem dksX0_like_3 : cX0_like.data.toList.drop 69 = dktX0_like_3 := dk_seg dksX0_like_2 22 rfl rfl
theorem dksX0_like_4 : cX0_like.data.toList.drop 92 = dktX0_like_4 := dk_seg dksX0_like_3 23 rfl rfl
theorem dX0_like_0 : decode cX0_like 0 = .ok (.aload_n 0, 1) := dk_42 (dk_at dksX0_like_0 0 rfl rfl)
theorem dX0_like_1 : decode cX0_like 1 = .ok (.iload_n 1, 1) := dk_27 (dk_at dksX0_like_0 1 rfl rfl)
theorem dX0_like_2 : decode cX0_like 2 = .ok (.iload_n 2, 1) := dk_28 (dk_at dksX0_like_0 2 rfl rfl)
theorem dX0_like_3 : decode cX0_like 3 = .ok (.invokevirtual 287, 3) := dk_182 1 31 (dk_at dksX0_like_0 3 rfl rfl)
theorem dX0_like_6 : decode cX0_like 6 = .ok (.istore_n 3, 1) := dk_62 (dk_at dksX0_like_0 6 rfl rfl)
theorem dX0_like_7 : decode cX0_like 7 = .ok (.iload_n 3, 1) := dk_29 (dk_at dksX0_like_0 7 rfl rfl)
theorem dX0_like_8 : decode cX0_like 8 = .ok (.ifCond .le 9, 3) := dk_158 0 9 (dk_at dksX0_like_0 8 rfl rfl)
theorem dX0_like_11 : decode cX0_like 11 = .ok (.aload_n 0, 1) := dk_42 (dk_at dksX0_like_0 11 rfl rfl)
theorem dX0_like_12 : decode cX0_like 12 = .ok (.iload_n 3, 1) := dk_29 (dk_at dksX0_like_0 12 rfl rfl)
theorem dX0_like_13 : decode cX0_like 13 = .ok (.invokevirtual 124, 3) := dk_182 0 124 (dk_at dksX0_like_0 13 rfl rfl)
theorem dX0_like_16 : decode cX0_like 16 = .ok (.ireturn, 1) := dk_172 (dk_at dksX0_like_0 16 rfl rfl)
theorem dX0_like_17 : decode cX0_like 17 = .ok (.aload_n 0, 1) := dk_42 (dk_at dksX0_like_0 17 rfl rfl)
theorem dX0_like_18 : decode cX0_like 18 = .ok (.iload_n 1, 1) := dk_27 (dk_at dksX0_like_0 18 rfl rfl)
theorem dX0_like_19 : decode cX0_like 19 = .ok (.iload_n 2, 1) := dk_28 (dk_at dksX0_like_0 19 rfl rfl)
theorem dX0_like_20 : decode cX0_like 20 = .ok (.iconst 1, 1) := dk_4 (dk_at dksX0_like_0 20 rfl rfl)
theorem dX0_like_21 : decode cX0_like 21 = .ok (.invokevirtual 290, 3) := dk_182 1 34 (dk_at dksX0_like_0 21 rfl rfl)
theorem dX0_like_24 : decode cX0_like 24 = .ok (.iconst (-1), 1) := dk_2 (dk_at dksX0_like_1 0 rfl rfl)
theorem dX0_like_25 : decode cX0_like 25 = .ok (.if_icmp .ne 7, 3) := dk_160 0 7 (dk_at dksX0_like_1 1 rfl rfl)
theorem dX0_like_28 : decode cX0_like 28 = .ok (.iconst 1, 1) := dk_4 (dk_at dksX0_like_1 4 rfl rfl)
theorem dX0_like_29 : decode cX0_like 29 = .ok (.goto 4, 3) := dk_167 0 4 (dk_at dksX0_like_1 5 rfl rfl)
theorem dX0_like_32 : decode cX0_like 32 = .ok (.iconst 0, 1) := dk_3 (dk_at dksX0_like_1 8 rfl rfl)
theorem dX0_like_33 : decode cX0_like 33 = .ok (.istore 4, 2) := dk_54 4 (dk_at dksX0_like_1 9 rfl rfl)
theorem dX0_like_35 : decode cX0_like 35 = .ok (.iconst 0, 1) := dk_3 (dk_at dksX0_like_1 11 rfl rfl)
theorem dX0_like_36 : decode cX0_like 36 = .ok (.istore 5, 2) := dk_54 5 (dk_at dksX0_like_1 12 rfl rfl)
theorem dX0_like_38 : decode cX0_like 38 = .ok (.iload 5, 2) := dk_21 5 (dk_at dksX0_like_1 14 rfl rfl)
theorem dX0_like_40 : decode cX0_like 40 = .ok (.aload_n 0, 1) := dk_42 (dk_at dksX0_like_1 16 rfl rfl)
theorem dX0_like_41 : decode cX0_like 41 = .ok (.getfield 37, 3) := dk_180 0 37 (dk_at dksX0_like_1 17 rfl rfl)
theorem dX0_like_44 : decode cX0_like 44 = .ok (.getfield 149, 3) := dk_180 0 149 (dk_at dksX0_like_1 20 rfl rfl)
theorem dX0_like_47 : decode cX0_like 47 = .ok (.if_icmp .ge 38, 3) := dk_162 0 38 (dk_at dksX0_like_2 0 rfl rfl)
theorem dX0_like_50 : decode cX0_like 50 = .ok (.iload 4, 2) := dk_21 4 (dk_at dksX0_like_2 3 rfl rfl)
theorem dX0_like_52 : decode cX0_like 52 = .ok (.ifCond .eq 33, 3) := dk_153 0 33 (dk_at dksX0_like_2 5 rfl rfl)
theorem dX0_like_55 : decode cX0_like 55 = .ok (.aload_n 0, 1) := dk_42 (dk_at dksX0_like_2 8 rfl rfl)
theorem dX0_like_56 : decode cX0_like 56 = .ok (.iload_n 1, 1) := dk_27 (dk_at dksX0_like_2 9 rfl rfl)
theorem dX0_like_57 : decode cX0_like 57 = .ok (.iload 5, 2) := dk_21 5 (dk_at dksX0_like_2 10 rfl rfl)
theorem dX0_like_59 : decode cX0_like 59 = .ok (.invokevirtual 294, 3) := dk_182 1 38 (dk_at dksX0_like_2 12 rfl rfl)
theorem dX0_like_62 : decode cX0_like 62 = .ok (.aload_n 0, 1) := dk_42 (dk_at dksX0_like_2 15 rfl rfl)
theorem dX0_like_63 : decode cX0_like 63 = .ok (.iload_n 2, 1) := dk_28 (dk_at dksX0_like_2 16 rfl rfl)
theorem dX0_like_64 : decode cX0_like 64 = .ok (.iload 5, 2) := dk_21 5 (dk_at dksX0_like_2 17 rfl rfl)
theorem dX0_like_66 : decode cX0_like 66 = .ok (.invokevirtual 294, 3) := dk_182 1 38 (dk_at dksX0_like_2 19 rfl rfl)
theorem dX0_like_69 : decode cX0_like 69 = .ok (.if_icmp .ne 7, 3) := dk_160 0 7 (dk_at dksX0_like_3 0 rfl rfl)
theorem dX0_like_72 : decode cX0_like 72 = .ok (.iconst 1, 1) := dk_4 (dk_at dksX0_like_3 3 rfl rfl)
theorem dX0_like_73 : decode cX0_like 73 = .ok (.goto 4, 3) := dk_167 0 4 (dk_at dksX0_like_3 4 rfl rfl)
theorem dX0_like_76 : decode cX0_like 76 = .ok (.iconst 0, 1) := dk_3 (dk_at dksX0_like_3 7 rfl rfl)
theorem dX0_like_77 : decode cX0_like 77 = .ok (.istore 4, 2) := dk_54 4 (dk_at dksX0_like_3 8 rfl rfl)
theorem dX0_like_79 : decode cX0_like 79 = .ok (.iinc 5 1, 3) := dk_132 5 1 (dk_at dksX0_like_3 10 rfl rfl)
theorem dX0_like_82 : decode cX0_like 82 = .ok (.goto (-44), 3) := dk_167 255 212 (dk_at dksX0_like_3 13 rfl rfl)
theorem dX0_like_85 : decode cX0_like 85 = .ok (.aload_n 0, 1) := dk_42 (dk_at dksX0_like_3 16 rfl rfl)
theorem dX0_like_86 : decode cX0_like 86 = .ok (.iload 4, 2) := dk_21 4 (dk_at dksX0_like_3 17 rfl rfl)
theorem dX0_like_88 : decode cX0_like 88 = .ok (.ifCond .eq 7, 3) := dk_153 0 7 (dk_at dksX0_like_3 19 rfl rfl)
theorem dX0_like_91 : decode cX0_like 91 = .ok (.iconst 1, 1) := dk_4 (dk_at dksX0_like_3 22 rfl rfl)
theorem dX0_like_92 : decode cX0_like 92 = .ok (.goto 4, 3) := dk_167 0 4 (dk_at dksX0_like_4 0 rfl rfl)
theorem dX0_like_95 : decode cX0_like 95 = .ok (.iconst 0, 1) := dk_3 (dk_at dksX0_like_4 3 rfl rfl)
theorem dX0_like_96 : decode cX0_like 96 = .ok (.invokevirtual 197, 3) := dk_182 0 197 (dk_at dksX0_like_4 4 rfl rfl)
theorem dX0_like_99 : decode cX0_like 99 = .ok (.ireturn, 1) := dk_172 (dk_at dksX0_like_4 7 rfl rfl)
abbrev cX0_wrongSets : ByteArray := prog_1_method_45_code
def yX0_wrongSets : MethodName := ⟨RX0, "wrongSets", "(II)I"⟩
def dkwX0_wrongSets_2 : List UInt8 := [172]
abbrev dktX0_wrongSets_2 : List UInt8 := dkwX0_wrongSets_2 ++ []
def dkwX0_wrongSets_1 : List UInt8 := [27, 182, 0, 254, 153, 0, 18, 42, 180, 0, 37, 28, 182, 0, 254, 153, 0, 7, 3, 167, 0, 5, 16, 9]
abbrev dktX0_wrongSets_1 : List UInt8 := dkwX0_wrongSets_1 ++ dktX0_wrongSets_2
def dkwX0_wrongSets_0 : List UInt8 := [42, 27, 182, 0, 251, 153, 0, 11, 42, 28, 182, 0, 251, 154, 0, 7, 5, 167, 0, 31, 42, 180, 0, 37]
abbrev dktX0_wrongSets_0 : List UInt8 := dkwX0_wrongSets_0 ++ dktX0_wrongSets_1
theorem dksX0_wrongSets_0 : cX0_wrongSets.data.toList.drop 0 = dktX0_wrongSets_0 := by decide +kernel
theorem dksX0_wrongSets_1 : cX0_wrongSets.data.toList.drop 24 = dktX0_wrongSets_1 := dk_seg dksX0_wrongSets_0 24 rfl rfl
theorem dksX0_wrongSets_2 : cX0_wrongSets.data.toList.drop 48 = dktX0_wrongSets_2 := dk_seg dksX0_wrongSets_1 24 rfl rfl
theorem dX0_wrongSets_0 : decode cX0_wrongSets 0 = .ok (.aload_n 0, 1) := dk_42 (dk_at dksX0_wrongSets_0 0 rfl rfl)
theorem dX0_wrongSets_1 : decode cX0_wrongSets 1 = .ok (.iload_n 1, 1) := dk_27 (dk_at dksX0_wrongSets_0 1 rfl rfl)
theorem dX0_wrongSets_2 : decode cX0_wrongSets 2 = .ok (.invokevirtual 251, 3) := dk_182 0 251 (dk_at dksX0_wrongSets_0 2 rfl rfl)
theorem dX0_wrongSets_5 : decode cX0_wrongSets 5 = .ok (.ifCond .eq 11, 3) := dk_153 0 11 (dk_at dksX0_wrongSets_0 5 rfl rfl)
theorem dX0_wrongSets_8 : decode cX0_wrongSets 8 = .ok (.aload_n 0, 1) := dk_42 (dk_at dksX0_wrongSets_0 8 rfl rfl)
theorem dX0_wrongSets_9 : decode cX0_wrongSets 9 = .ok (.iload_n 2, 1) := dk_28 (dk_at dksX0_wrongSets_0 9 rfl rfl)
theorem dX0_wrongSets_10 : decode cX0_wrongSets 10 = .ok (.invokevirtual 251, 3) := dk_182 0 251 (dk_at dksX0_wrongSets_0 10 rfl rfl)
theorem dX0_wrongSets_13 : decode cX0_wrongSets 13 = .ok (.ifCond .ne 7, 3) := dk_154 0 7 (dk_at dksX0_wrongSets_0 13 rfl rfl)
theorem dX0_wrongSets_16 : decode cX0_wrongSets 16 = .ok (.iconst 2, 1) := dk_5 (dk_at dksX0_wrongSets_0 16 rfl rfl)
theorem dX0_wrongSets_17 : decode cX0_wrongSets 17 = .ok (.goto 31, 3) := dk_167 0 31 (dk_at dksX0_wrongSets_0 17 rfl rfl)
theorem dX0_wrongSets_20 : decode cX0_wrongSets 20 = .ok (.aload_n 0, 1) := dk_42 (dk_at dksX0_wrongSets_0 20 rfl rfl)
theorem dX0_wrongSets_21 : decode cX0_wrongSets 21 = .ok (.getfield 37, 3) := dk_180 0 37 (dk_at dksX0_wrongSets_0 21 rfl rfl)
theorem dX0_wrongSets_24 : decode cX0_wrongSets 24 = .ok (.iload_n 1, 1) := dk_27 (dk_at dksX0_wrongSets_1 0 rfl rfl)
theorem dX0_wrongSets_25 : decode cX0_wrongSets 25 = .ok (.invokevirtual 254, 3) := dk_182 0 254 (dk_at dksX0_wrongSets_1 1 rfl rfl)
theorem dX0_wrongSets_28 : decode cX0_wrongSets 28 = .ok (.ifCond .eq 18, 3) := dk_153 0 18 (dk_at dksX0_wrongSets_1 4 rfl rfl)
theorem dX0_wrongSets_31 : decode cX0_wrongSets 31 = .ok (.aload_n 0, 1) := dk_42 (dk_at dksX0_wrongSets_1 7 rfl rfl)
theorem dX0_wrongSets_32 : decode cX0_wrongSets 32 = .ok (.getfield 37, 3) := dk_180 0 37 (dk_at dksX0_wrongSets_1 8 rfl rfl)
theorem dX0_wrongSets_35 : decode cX0_wrongSets 35 = .ok (.iload_n 2, 1) := dk_28 (dk_at dksX0_wrongSets_1 11 rfl rfl)
theorem dX0_wrongSets_36 : decode cX0_wrongSets 36 = .ok (.invokevirtual 254, 3) := dk_182 0 254 (dk_at dksX0_wrongSets_1 12 rfl rfl)
theorem dX0_wrongSets_39 : decode cX0_wrongSets 39 = .ok (.ifCond .eq 7, 3) := dk_153 0 7 (dk_at dksX0_wrongSets_1 15 rfl rfl)
theorem dX0_wrongSets_42 : decode cX0_wrongSets 42 = .ok (.iconst 0, 1) := dk_3 (dk_at dksX0_wrongSets_1 18 rfl rfl)
theorem dX0_wrongSets_43 : decode cX0_wrongSets 43 = .ok (.goto 5, 3) := dk_167 0 5 (dk_at dksX0_wrongSets_1 19 rfl rfl)
theorem dX0_wrongSets_46 : decode cX0_wrongSets 46 = .ok (.bipush 9, 2) := dk_16 9 (dk_at dksX0_wrongSets_1 22 rfl rfl)
theorem dX0_wrongSets_48 : decode cX0_wrongSets 48 = .ok (.ireturn, 1) := dk_172 (dk_at dksX0_wrongSets_2 0 rfl rfl)
abbrev cX0_differs : ByteArray := prog_1_method_46_code
def yX0_differs : MethodName := ⟨RX0, "differs", "(IIZ)I"⟩
def dkwX0_differs_6 : List UInt8 := [180, 0, 37, 28, 21, 6, 6, 182, 1, 11, 159, 0, 6, 21, 5, 172, 132, 5, 1, 167, 255, 134, 2, 172]
abbrev dktX0_differs_6 : List UInt8 := dkwX0_differs_6 ++ []
def dkwX0_differs_5 : List UInt8 := [159, 0, 6, 21, 5, 172, 29, 153, 0, 31, 42, 180, 0, 37, 27, 21, 6, 6, 182, 1, 11, 42]
abbrev dktX0_differs_5 : List UInt8 := dkwX0_differs_5 ++ dktX0_differs_6
def dkwX0_differs_4 : List UInt8 := [54, 6, 42, 180, 0, 37, 27, 21, 6, 5, 182, 1, 11, 42, 180, 0, 37, 28, 21, 6, 5, 182, 1, 11]
abbrev dktX0_differs_4 : List UInt8 := dkwX0_differs_4 ++ dktX0_differs_5
def dkwX0_differs_3 : List UInt8 := [21, 5, 46, 42, 180, 0, 52, 21, 5, 46, 159, 0, 6, 21, 5, 172, 42, 180, 0, 52, 21, 5, 46]
abbrev dktX0_differs_3 : List UInt8 := dkwX0_differs_3 ++ dktX0_differs_4
def dkwX0_differs_2 : List UInt8 := [162, 0, 114, 21, 5, 21, 4, 162, 0, 29, 21, 5, 42, 180, 1, 5, 162, 0, 20, 42, 180, 0, 58]
abbrev dktX0_differs_2 : List UInt8 := dkwX0_differs_2 ++ dktX0_differs_3
def dkwX0_differs_1 : List UInt8 := [184, 0, 141, 42, 28, 182, 1, 17, 3, 54, 5, 21, 5, 21, 4, 42, 180, 1, 5, 184, 1, 26]
abbrev dktX0_differs_1 : List UInt8 := dkwX0_differs_1 ++ dktX0_differs_2
def dkwX0_differs_0 : List UInt8 := [42, 27, 182, 1, 17, 42, 180, 1, 5, 54, 4, 42, 180, 0, 52, 3, 42, 180, 0, 58, 3, 21, 4]
abbrev dktX0_differs_0 : List UInt8 := dkwX0_differs_0 ++ dktX0_differs_1
theorem dksX0_differs_0 : cX0_differs.data.toList.drop 0 = dktX0_differs_0 := by decide +kernel
theorem dksX0_differs_1 : cX0_differs.data.toList.drop 23 = dktX0_differs_1 := dk_seg dksX0_differs_0 23 rfl rfl
theorem dksX0_differs_2 : cX0_differs.data.toList.drop 45 = dktX0_differs_2 := dk_seg dksX0_differs_1 22 rfl rfl
theorem dksX0_differs_3 : cX0_differs.data.toList.drop 68 = dktX0_differs_3 := dk_seg dksX0_differs_2 23 rfl rfl
theorem dksX0_differs_4 : cX0_differs.data.toList.drop 91 = dktX0_differs_4 := dk_seg dksX0_differs_3 23 rfl rfl
theorem dksX0_differs_5 : cX0_differs.data.toList.drop 115 = dktX0_differs_5 := dk_seg dksX0_differs_4 24 rfl rfl
theorem dksX0_differs_6 : cX0_differs.data.toList.drop 137 = dktX0_differs_6 := dk_seg dksX0_differs_5 22 rfl rfl
theorem dX0_differs_0 : decode cX0_differs 0 = .ok (.aload_n 0, 1) := dk_42 (dk_at dksX0_differs_0 0 rfl rfl)
theorem dX0_differs_1 : decode cX0_differs 1 = .ok (.iload_n 1, 1) := dk_27 (dk_at dksX0_differs_0 1 rfl rfl)
theorem dX0_differs_2 : decode cX0_differs 2 = .ok (.invokevirtual 273, 3) := dk_182 1 17 (dk_at dksX0_differs_0 2 rfl rfl)
theorem dX0_differs_5 : decode cX0_differs 5 = .ok (.aload_n 0, 1) := dk_42 (dk_at dksX0_differs_0 5 rfl rfl)
theorem dX0_differs_6 : decode cX0_differs 6 = .ok (.getfield 261, 3) := dk_180 1 5 (dk_at dksX0_differs_0 6 rfl rfl)
theorem dX0_differs_9 : decode cX0_differs 9 = .ok (.istore 4, 2) := dk_54 4 (dk_at dksX0_differs_0 9 rfl rfl)
theorem dX0_differs_11 : decode cX0_differs 11 = .ok (.aload_n 0, 1) := dk_42 (dk_at dksX0_differs_0 11 rfl rfl)
theorem dX0_differs_12 : decode cX0_differs 12 = .ok (.getfield 52, 3) := dk_180 0 52 (dk_at dksX0_differs_0 12 rfl rfl)
theorem dX0_differs_15 : decode cX0_differs 15 = .ok (.iconst 0, 1) := dk_3 (dk_at dksX0_differs_0 15 rfl rfl)
theorem dX0_differs_16 : decode cX0_differs 16 = .ok (.aload_n 0, 1) := dk_42 (dk_at dksX0_differs_0 16 rfl rfl)
theorem dX0_differs_17 : decode cX0_differs 17 = .ok (.getfield 58, 3) := dk_180 0 58 (dk_at dksX0_differs_0 17 rfl rfl)
theorem dX0_differs_20 : decode cX0_differs 20 = .ok (.iconst 0, 1) := dk_3 (dk_at dksX0_differs_0 20 rfl rfl)
theorem dX0_differs_21 : decode cX0_differs 21 = .ok (.iload 4, 2) := dk_21 4 (dk_at dksX0_differs_0 21 rfl rfl)
theorem dX0_differs_23 : decode cX0_differs 23 = .ok (.invokestatic 141, 3) := dk_184 0 141 (dk_at dksX0_differs_1 0 rfl rfl)
theorem dX0_differs_26 : decode cX0_differs 26 = .ok (.aload_n 0, 1) := dk_42 (dk_at dksX0_differs_1 3 rfl rfl)
theorem dX0_differs_27 : decode cX0_differs 27 = .ok (.iload_n 2, 1) := dk_28 (dk_at dksX0_differs_1 4 rfl rfl)
theorem dX0_differs_28 : decode cX0_differs 28 = .ok (.invokevirtual 273, 3) := dk_182 1 17 (dk_at dksX0_differs_1 5 rfl rfl)
theorem dX0_differs_31 : decode cX0_differs 31 = .ok (.iconst 0, 1) := dk_3 (dk_at dksX0_differs_1 8 rfl rfl)
theorem dX0_differs_32 : decode cX0_differs 32 = .ok (.istore 5, 2) := dk_54 5 (dk_at dksX0_differs_1 9 rfl rfl)
theorem dX0_differs_34 : decode cX0_differs 34 = .ok (.iload 5, 2) := dk_21 5 (dk_at dksX0_differs_1 11 rfl rfl)
theorem dX0_differs_36 : decode cX0_differs 36 = .ok (.iload 4, 2) := dk_21 4 (dk_at dksX0_differs_1 13 rfl rfl)
theorem dX0_differs_38 : decode cX0_differs 38 = .ok (.aload_n 0, 1) := dk_42 (dk_at dksX0_differs_1 15 rfl rfl)
theorem dX0_differs_39 : decode cX0_differs 39 = .ok (.getfield 261, 3) := dk_180 1 5 (dk_at dksX0_differs_1 16 rfl rfl)
theorem dX0_differs_42 : decode cX0_differs 42 = .ok (.invokestatic 282, 3) := dk_184 1 26 (dk_at dksX0_differs_1 19 rfl rfl)
theorem dX0_differs_45 : decode cX0_differs 45 = .ok (.if_icmp .ge 114, 3) := dk_162 0 114 (dk_at dksX0_differs_2 0 rfl rfl)
theorem dX0_differs_48 : decode cX0_differs 48 = .ok (.iload 5, 2) := dk_21 5 (dk_at dksX0_differs_2 3 rfl rfl)
theorem dX0_differs_50 : decode cX0_differs 50 = .ok (.iload 4, 2) := dk_21 4 (dk_at dksX0_differs_2 5 rfl rfl)
theorem dX0_differs_52 : decode cX0_differs 52 = .ok (.if_icmp .ge 29, 3) := dk_162 0 29 (dk_at dksX0_differs_2 7 rfl rfl)
theorem dX0_differs_55 : decode cX0_differs 55 = .ok (.iload 5, 2) := dk_21 5 (dk_at dksX0_differs_2 10 rfl rfl)
theorem dX0_differs_57 : decode cX0_differs 57 = .ok (.aload_n 0, 1) := dk_42 (dk_at dksX0_differs_2 12 rfl rfl)
theorem dX0_differs_58 : decode cX0_differs 58 = .ok (.getfield 261, 3) := dk_180 1 5 (dk_at dksX0_differs_2 13 rfl rfl)
theorem dX0_differs_61 : decode cX0_differs 61 = .ok (.if_icmp .ge 20, 3) := dk_162 0 20 (dk_at dksX0_differs_2 16 rfl rfl)
theorem dX0_differs_64 : decode cX0_differs 64 = .ok (.aload_n 0, 1) := dk_42 (dk_at dksX0_differs_2 19 rfl rfl)
theorem dX0_differs_65 : decode cX0_differs 65 = .ok (.getfield 58, 3) := dk_180 0 58 (dk_at dksX0_differs_2 20 rfl rfl)
theorem dX0_differs_68 : decode cX0_differs 68 = .ok (.iload 5, 2) := dk_21 5 (dk_at dksX0_differs_3 0 rfl rfl)
theorem dX0_differs_70 : decode cX0_differs 70 = .ok (.iaload, 1) := dk_46 (dk_at dksX0_differs_3 2 rfl rfl)
theorem dX0_differs_71 : decode cX0_differs 71 = .ok (.aload_n 0, 1) := dk_42 (dk_at dksX0_differs_3 3 rfl rfl)
theorem dX0_differs_72 : decode cX0_differs 72 = .ok (.getfield 52, 3) := dk_180 0 52 (dk_at dksX0_differs_3 4 rfl rfl)
theorem dX0_differs_75 : decode cX0_differs 75 = .ok (.iload 5, 2) := dk_21 5 (dk_at dksX0_differs_3 7 rfl rfl)
theorem dX0_differs_77 : decode cX0_differs 77 = .ok (.iaload, 1) := dk_46 (dk_at dksX0_differs_3 9 rfl rfl)
theorem dX0_differs_78 : decode cX0_differs 78 = .ok (.if_icmp .eq 6, 3) := dk_159 0 6 (dk_at dksX0_differs_3 10 rfl rfl)
theorem dX0_differs_81 : decode cX0_differs 81 = .ok (.iload 5, 2) := dk_21 5 (dk_at dksX0_differs_3 13 rfl rfl)
theorem dX0_differs_83 : decode cX0_differs 83 = .ok (.ireturn, 1) := dk_172 (dk_at dksX0_differs_3 15 rfl rfl)
theorem dX0_differs_84 : decode cX0_differs 84 = .ok (.aload_n 0, 1) := dk_42 (dk_at dksX0_differs_3 16 rfl rfl)
theorem dX0_differs_85 : decode cX0_differs 85 = .ok (.getfield 52, 3) := dk_180 0 52 (dk_at dksX0_differs_3 17 rfl rfl)
theorem dX0_differs_88 : decode cX0_differs 88 = .ok (.iload 5, 2) := dk_21 5 (dk_at dksX0_differs_3 20 rfl rfl)
theorem dX0_differs_90 : decode cX0_differs 90 = .ok (.iaload, 1) := dk_46 (dk_at dksX0_differs_3 22 rfl rfl)
theorem dX0_differs_91 : decode cX0_differs 91 = .ok (.istore 6, 2) := dk_54 6 (dk_at dksX0_differs_4 0 rfl rfl)
theorem dX0_differs_93 : decode cX0_differs 93 = .ok (.aload_n 0, 1) := dk_42 (dk_at dksX0_differs_4 2 rfl rfl)
theorem dX0_differs_94 : decode cX0_differs 94 = .ok (.getfield 37, 3) := dk_180 0 37 (dk_at dksX0_differs_4 3 rfl rfl)
theorem dX0_differs_97 : decode cX0_differs 97 = .ok (.iload_n 1, 1) := dk_27 (dk_at dksX0_differs_4 6 rfl rfl)
theorem dX0_differs_98 : decode cX0_differs 98 = .ok (.iload 6, 2) := dk_21 6 (dk_at dksX0_differs_4 7 rfl rfl)
theorem dX0_differs_100 : decode cX0_differs 100 = .ok (.iconst 2, 1) := dk_5 (dk_at dksX0_differs_4 9 rfl rfl)
theorem dX0_differs_101 : decode cX0_differs 101 = .ok (.invokevirtual 267, 3) := dk_182 1 11 (dk_at dksX0_differs_4 10 rfl rfl)
theorem dX0_differs_104 : decode cX0_differs 104 = .ok (.aload_n 0, 1) := dk_42 (dk_at dksX0_differs_4 13 rfl rfl)
theorem dX0_differs_105 : decode cX0_differs 105 = .ok (.getfield 37, 3) := dk_180 0 37 (dk_at dksX0_differs_4 14 rfl rfl)
theorem dX0_differs_108 : decode cX0_differs 108 = .ok (.iload_n 2, 1) := dk_28 (dk_at dksX0_differs_4 17 rfl rfl)
theorem dX0_differs_109 : decode cX0_differs 109 = .ok (.iload 6, 2) := dk_21 6 (dk_at dksX0_differs_4 18 rfl rfl)
theorem dX0_differs_111 : decode cX0_differs 111 = .ok (.iconst 2, 1) := dk_5 (dk_at dksX0_differs_4 20 rfl rfl)
theorem dX0_differs_112 : decode cX0_differs 112 = .ok (.invokevirtual 267, 3) := dk_182 1 11 (dk_at dksX0_differs_4 21 rfl rfl)
theorem dX0_differs_115 : decode cX0_differs 115 = .ok (.if_icmp .eq 6, 3) := dk_159 0 6 (dk_at dksX0_differs_5 0 rfl rfl)
theorem dX0_differs_118 : decode cX0_differs 118 = .ok (.iload 5, 2) := dk_21 5 (dk_at dksX0_differs_5 3 rfl rfl)
theorem dX0_differs_120 : decode cX0_differs 120 = .ok (.ireturn, 1) := dk_172 (dk_at dksX0_differs_5 5 rfl rfl)
theorem dX0_differs_121 : decode cX0_differs 121 = .ok (.iload_n 3, 1) := dk_29 (dk_at dksX0_differs_5 6 rfl rfl)
theorem dX0_differs_122 : decode cX0_differs 122 = .ok (.ifCond .eq 31, 3) := dk_153 0 31 (dk_at dksX0_differs_5 7 rfl rfl)
theorem dX0_differs_125 : decode cX0_differs 125 = .ok (.aload_n 0, 1) := dk_42 (dk_at dksX0_differs_5 10 rfl rfl)
theorem dX0_differs_126 : decode cX0_differs 126 = .ok (.getfield 37, 3) := dk_180 0 37 (dk_at dksX0_differs_5 11 rfl rfl)
theorem dX0_differs_129 : decode cX0_differs 129 = .ok (.iload_n 1, 1) := dk_27 (dk_at dksX0_differs_5 14 rfl rfl)
theorem dX0_differs_130 : decode cX0_differs 130 = .ok (.iload 6, 2) := dk_21 6 (dk_at dksX0_differs_5 15 rfl rfl)
theorem dX0_differs_132 : decode cX0_differs 132 = .ok (.iconst 3, 1) := dk_6 (dk_at dksX0_differs_5 17 rfl rfl)
theorem dX0_differs_133 : decode cX0_differs 133 = .ok (.invokevirtual 267, 3) := dk_182 1 11 (dk_at dksX0_differs_5 18 rfl rfl)
theorem dX0_differs_136 : decode cX0_differs 136 = .ok (.aload_n 0, 1) := dk_42 (dk_at dksX0_differs_5 21 rfl rfl)
theorem dX0_differs_137 : decode cX0_differs 137 = .ok (.getfield 37, 3) := dk_180 0 37 (dk_at dksX0_differs_6 0 rfl rfl)
theorem dX0_differs_140 : decode cX0_differs 140 = .ok (.iload_n 2, 1) := dk_28 (dk_at dksX0_differs_6 3 rfl rfl)
theorem dX0_differs_141 : decode cX0_differs 141 = .ok (.iload 6, 2) := dk_21 6 (dk_at dksX0_differs_6 4 rfl rfl)
theorem dX0_differs_143 : decode cX0_differs 143 = .ok (.iconst 3, 1) := dk_6 (dk_at dksX0_differs_6 6 rfl rfl)
theorem dX0_differs_144 : decode cX0_differs 144 = .ok (.invokevirtual 267, 3) := dk_182 1 11 (dk_at dksX0_differs_6 7 rfl rfl)
theorem dX0_differs_147 : decode cX0_differs 147 = .ok (.if_icmp .eq 6, 3) := dk_159 0 6 (dk_at dksX0_differs_6 10 rfl rfl)
theorem dX0_differs_150 : decode cX0_differs 150 = .ok (.iload 5, 2) := dk_21 5 (dk_at dksX0_differs_6 13 rfl rfl)
theorem dX0_differs_152 : decode cX0_differs 152 = .ok (.ireturn, 1) := dk_172 (dk_at dksX0_differs_6 15 rfl rfl)
theorem dX0_differs_153 : decode cX0_differs 153 = .ok (.iinc 5 1, 3) := dk_132 5 1 (dk_at dksX0_differs_6 16 rfl rfl)
theorem dX0_differs_156 : decode cX0_differs 156 = .ok (.goto (-122), 3) := dk_167 255 134 (dk_at dksX0_differs_6 19 rfl rfl)
theorem dX0_differs_159 : decode cX0_differs 159 = .ok (.iconst (-1), 1) := dk_2 (dk_at dksX0_differs_6 22 rfl rfl)
theorem dX0_differs_160 : decode cX0_differs 160 = .ok (.ireturn, 1) := dk_172 (dk_at dksX0_differs_6 23 rfl rfl)
abbrev cX0_inSet : ByteArray := prog_1_method_48_code
def yX0_inSet : MethodName := ⟨RX0, "inSet", "(II)I"⟩
def dkwX0_inSet_0 : List UInt8 := [27, 28, 122, 4, 126, 4, 160, 0, 15, 42, 180, 0, 37, 27, 28, 182, 1, 41, 167, 0, 4, 3, 172]
abbrev dktX0_inSet_0 : List UInt8 := dkwX0_inSet_0 ++ []
theorem dksX0_inSet_0 : cX0_inSet.data.toList.drop 0 = dktX0_inSet_0 := by decide +kernel
theorem dX0_inSet_0 : decode cX0_inSet 0 = .ok (.iload_n 1, 1) := dk_27 (dk_at dksX0_inSet_0 0 rfl rfl)
theorem dX0_inSet_1 : decode cX0_inSet 1 = .ok (.iload_n 2, 1) := dk_28 (dk_at dksX0_inSet_0 1 rfl rfl)
theorem dX0_inSet_2 : decode cX0_inSet 2 = .ok (.ishr, 1) := dk_122 (dk_at dksX0_inSet_0 2 rfl rfl)
theorem dX0_inSet_3 : decode cX0_inSet 3 = .ok (.iconst 1, 1) := dk_4 (dk_at dksX0_inSet_0 3 rfl rfl)
theorem dX0_inSet_4 : decode cX0_inSet 4 = .ok (.iand, 1) := dk_126 (dk_at dksX0_inSet_0 4 rfl rfl)
theorem dX0_inSet_5 : decode cX0_inSet 5 = .ok (.iconst 1, 1) := dk_4 (dk_at dksX0_inSet_0 5 rfl rfl)
theorem dX0_inSet_6 : decode cX0_inSet 6 = .ok (.if_icmp .ne 15, 3) := dk_160 0 15 (dk_at dksX0_inSet_0 6 rfl rfl)
theorem dX0_inSet_9 : decode cX0_inSet 9 = .ok (.aload_n 0, 1) := dk_42 (dk_at dksX0_inSet_0 9 rfl rfl)
theorem dX0_inSet_10 : decode cX0_inSet 10 = .ok (.getfield 37, 3) := dk_180 0 37 (dk_at dksX0_inSet_0 10 rfl rfl)
theorem dX0_inSet_13 : decode cX0_inSet 13 = .ok (.iload_n 1, 1) := dk_27 (dk_at dksX0_inSet_0 13 rfl rfl)
theorem dX0_inSet_14 : decode cX0_inSet 14 = .ok (.iload_n 2, 1) := dk_28 (dk_at dksX0_inSet_0 14 rfl rfl)
theorem dX0_inSet_15 : decode cX0_inSet 15 = .ok (.invokevirtual 297, 3) := dk_182 1 41 (dk_at dksX0_inSet_0 15 rfl rfl)
theorem dX0_inSet_18 : decode cX0_inSet 18 = .ok (.goto 4, 3) := dk_167 0 4 (dk_at dksX0_inSet_0 18 rfl rfl)
theorem dX0_inSet_21 : decode cX0_inSet 21 = .ok (.iconst 0, 1) := dk_3 (dk_at dksX0_inSet_0 21 rfl rfl)
theorem dX0_inSet_22 : decode cX0_inSet 22 = .ok (.ireturn, 1) := dk_172 (dk_at dksX0_inSet_0 22 rfl rfl)
abbrev cX0_apart : ByteArray := prog_1_method_49_code
def yX0_apart : MethodName := ⟨RX0, "apart", "(II)I"⟩
def dkwX0_apart_1 : List UInt8 := [54, 4, 21, 4, 2, 160, 0, 12, 42, 16, 8, 182, 0, 124, 167, 0, 9, 42, 21, 4, 182, 0, 197, 172]
abbrev dktX0_apart_1 : List UInt8 := dkwX0_apart_1 ++ []
def dkwX0_apart_0 : List UInt8 := [42, 27, 28, 182, 1, 31, 62, 29, 158, 0, 9, 42, 29, 182, 0, 124, 172, 42, 27, 28, 3, 182, 1, 34]
abbrev dktX0_apart_0 : List UInt8 := dkwX0_apart_0 ++ dktX0_apart_1
theorem dksX0_apart_0 : cX0_apart.data.toList.drop 0 = dktX0_apart_0 := by decide +kernel
theorem dksX0_apart_1 : cX0_apart.data.toList.drop 24 = dktX0_apart_1 := dk_seg dksX0_apart_0 24 rfl rfl
theorem dX0_apart_0 : decode cX0_apart 0 = .ok (.aload_n 0, 1) := dk_42 (dk_at dksX0_apart_0 0 rfl rfl)
theorem dX0_apart_1 : decode cX0_apart 1 = .ok (.iload_n 1, 1) := dk_27 (dk_at dksX0_apart_0 1 rfl rfl)
theorem dX0_apart_2 : decode cX0_apart 2 = .ok (.iload_n 2, 1) := dk_28 (dk_at dksX0_apart_0 2 rfl rfl)
theorem dX0_apart_3 : decode cX0_apart 3 = .ok (.invokevirtual 287, 3) := dk_182 1 31 (dk_at dksX0_apart_0 3 rfl rfl)
theorem dX0_apart_6 : decode cX0_apart 6 = .ok (.istore_n 3, 1) := dk_62 (dk_at dksX0_apart_0 6 rfl rfl)
theorem dX0_apart_7 : decode cX0_apart 7 = .ok (.iload_n 3, 1) := dk_29 (dk_at dksX0_apart_0 7 rfl rfl)
theorem dX0_apart_8 : decode cX0_apart 8 = .ok (.ifCond .le 9, 3) := dk_158 0 9 (dk_at dksX0_apart_0 8 rfl rfl)
theorem dX0_apart_11 : decode cX0_apart 11 = .ok (.aload_n 0, 1) := dk_42 (dk_at dksX0_apart_0 11 rfl rfl)
theorem dX0_apart_12 : decode cX0_apart 12 = .ok (.iload_n 3, 1) := dk_29 (dk_at dksX0_apart_0 12 rfl rfl)
theorem dX0_apart_13 : decode cX0_apart 13 = .ok (.invokevirtual 124, 3) := dk_182 0 124 (dk_at dksX0_apart_0 13 rfl rfl)
theorem dX0_apart_16 : decode cX0_apart 16 = .ok (.ireturn, 1) := dk_172 (dk_at dksX0_apart_0 16 rfl rfl)
theorem dX0_apart_17 : decode cX0_apart 17 = .ok (.aload_n 0, 1) := dk_42 (dk_at dksX0_apart_0 17 rfl rfl)
theorem dX0_apart_18 : decode cX0_apart 18 = .ok (.iload_n 1, 1) := dk_27 (dk_at dksX0_apart_0 18 rfl rfl)
theorem dX0_apart_19 : decode cX0_apart 19 = .ok (.iload_n 2, 1) := dk_28 (dk_at dksX0_apart_0 19 rfl rfl)
theorem dX0_apart_20 : decode cX0_apart 20 = .ok (.iconst 0, 1) := dk_3 (dk_at dksX0_apart_0 20 rfl rfl)
theorem dX0_apart_21 : decode cX0_apart 21 = .ok (.invokevirtual 290, 3) := dk_182 1 34 (dk_at dksX0_apart_0 21 rfl rfl)
theorem dX0_apart_24 : decode cX0_apart 24 = .ok (.istore 4, 2) := dk_54 4 (dk_at dksX0_apart_1 0 rfl rfl)
theorem dX0_apart_26 : decode cX0_apart 26 = .ok (.iload 4, 2) := dk_21 4 (dk_at dksX0_apart_1 2 rfl rfl)
theorem dX0_apart_28 : decode cX0_apart 28 = .ok (.iconst (-1), 1) := dk_2 (dk_at dksX0_apart_1 4 rfl rfl)
theorem dX0_apart_29 : decode cX0_apart 29 = .ok (.if_icmp .ne 12, 3) := dk_160 0 12 (dk_at dksX0_apart_1 5 rfl rfl)
theorem dX0_apart_32 : decode cX0_apart 32 = .ok (.aload_n 0, 1) := dk_42 (dk_at dksX0_apart_1 8 rfl rfl)
theorem dX0_apart_33 : decode cX0_apart 33 = .ok (.bipush 8, 2) := dk_16 8 (dk_at dksX0_apart_1 9 rfl rfl)
theorem dX0_apart_35 : decode cX0_apart 35 = .ok (.invokevirtual 124, 3) := dk_182 0 124 (dk_at dksX0_apart_1 11 rfl rfl)
theorem dX0_apart_38 : decode cX0_apart 38 = .ok (.goto 9, 3) := dk_167 0 9 (dk_at dksX0_apart_1 14 rfl rfl)
theorem dX0_apart_41 : decode cX0_apart 41 = .ok (.aload_n 0, 1) := dk_42 (dk_at dksX0_apart_1 17 rfl rfl)
theorem dX0_apart_42 : decode cX0_apart 42 = .ok (.iload 4, 2) := dk_21 4 (dk_at dksX0_apart_1 18 rfl rfl)
theorem dX0_apart_44 : decode cX0_apart 44 = .ok (.invokevirtual 197, 3) := dk_182 0 197 (dk_at dksX0_apart_1 20 rfl rfl)
theorem dX0_apart_47 : decode cX0_apart 47 = .ok (.ireturn, 1) := dk_172 (dk_at dksX0_apart_1 23 rfl rfl)
abbrev cX0_quarrels : ByteArray := prog_1_method_50_code
def yX0_quarrels : MethodName := ⟨RX0, "quarrels", "(I)I"⟩
def dkwX0_quarrels_2 : List UInt8 := [42, 28, 5, 108, 182, 0, 197, 172]
abbrev dktX0_quarrels_2 : List UInt8 := dkwX0_quarrels_2 ++ []
def dkwX0_quarrels_1 : List UInt8 := [180, 0, 149, 162, 0, 21, 28, 42, 27, 29, 182, 1, 38, 184, 0, 219, 96, 61, 132, 3, 1, 167, 255, 230]
abbrev dktX0_quarrels_1 : List UInt8 := dkwX0_quarrels_1 ++ dktX0_quarrels_2
def dkwX0_quarrels_0 : List UInt8 := [42, 27, 182, 0, 251, 154, 0, 9, 42, 5, 182, 0, 124, 172, 3, 61, 3, 62, 29, 42, 180, 0, 37]
abbrev dktX0_quarrels_0 : List UInt8 := dkwX0_quarrels_0 ++ dktX0_quarrels_1
theorem dksX0_quarrels_0 : cX0_quarrels.data.toList.drop 0 = dktX0_quarrels_0 := by decide +kernel
theorem dksX0_quarrels_1 : cX0_quarrels.data.toList.drop 23 = dktX0_quarrels_1 := dk_seg dksX0_quarrels_0 23 rfl rfl
theorem dksX0_quarrels_2 : cX0_quarrels.data.toList.drop 47 = dktX0_quarrels_2 := dk_seg dksX0_quarrels_1 24 rfl rfl
theorem dX0_quarrels_0 : decode cX0_quarrels 0 = .ok (.aload_n 0, 1) := dk_42 (dk_at dksX0_quarrels_0 0 rfl rfl)
theorem dX0_quarrels_1 : decode cX0_quarrels 1 = .ok (.iload_n 1, 1) := dk_27 (dk_at dksX0_quarrels_0 1 rfl rfl)
theorem dX0_quarrels_2 : decode cX0_quarrels 2 = .ok (.invokevirtual 251, 3) := dk_182 0 251 (dk_at dksX0_quarrels_0 2 rfl rfl)
theorem dX0_quarrels_5 : decode cX0_quarrels 5 = .ok (.ifCond .ne 9, 3) := dk_154 0 9 (dk_at dksX0_quarrels_0 5 rfl rfl)
theorem dX0_quarrels_8 : decode cX0_quarrels 8 = .ok (.aload_n 0, 1) := dk_42 (dk_at dksX0_quarrels_0 8 rfl rfl)
theorem dX0_quarrels_9 : decode cX0_quarrels 9 = .ok (.iconst 2, 1) := dk_5 (dk_at dksX0_quarrels_0 9 rfl rfl)
theorem dX0_quarrels_10 : decode cX0_quarrels 10 = .ok (.invokevirtual 124, 3) := dk_182 0 124 (dk_at dksX0_quarrels_0 10 rfl rfl)
theorem dX0_quarrels_13 : decode cX0_quarrels 13 = .ok (.ireturn, 1) := dk_172 (dk_at dksX0_quarrels_0 13 rfl rfl)
theorem dX0_quarrels_14 : decode cX0_quarrels 14 = .ok (.iconst 0, 1) := dk_3 (dk_at dksX0_quarrels_0 14 rfl rfl)
theorem dX0_quarrels_15 : decode cX0_quarrels 15 = .ok (.istore_n 2, 1) := dk_61 (dk_at dksX0_quarrels_0 15 rfl rfl)
theorem dX0_quarrels_16 : decode cX0_quarrels 16 = .ok (.iconst 0, 1) := dk_3 (dk_at dksX0_quarrels_0 16 rfl rfl)
theorem dX0_quarrels_17 : decode cX0_quarrels 17 = .ok (.istore_n 3, 1) := dk_62 (dk_at dksX0_quarrels_0 17 rfl rfl)
theorem dX0_quarrels_18 : decode cX0_quarrels 18 = .ok (.iload_n 3, 1) := dk_29 (dk_at dksX0_quarrels_0 18 rfl rfl)
theorem dX0_quarrels_19 : decode cX0_quarrels 19 = .ok (.aload_n 0, 1) := dk_42 (dk_at dksX0_quarrels_0 19 rfl rfl)
theorem dX0_quarrels_20 : decode cX0_quarrels 20 = .ok (.getfield 37, 3) := dk_180 0 37 (dk_at dksX0_quarrels_0 20 rfl rfl)
theorem dX0_quarrels_23 : decode cX0_quarrels 23 = .ok (.getfield 149, 3) := dk_180 0 149 (dk_at dksX0_quarrels_1 0 rfl rfl)
theorem dX0_quarrels_26 : decode cX0_quarrels 26 = .ok (.if_icmp .ge 21, 3) := dk_162 0 21 (dk_at dksX0_quarrels_1 3 rfl rfl)
theorem dX0_quarrels_29 : decode cX0_quarrels 29 = .ok (.iload_n 2, 1) := dk_28 (dk_at dksX0_quarrels_1 6 rfl rfl)
theorem dX0_quarrels_30 : decode cX0_quarrels 30 = .ok (.aload_n 0, 1) := dk_42 (dk_at dksX0_quarrels_1 7 rfl rfl)
theorem dX0_quarrels_31 : decode cX0_quarrels 31 = .ok (.iload_n 1, 1) := dk_27 (dk_at dksX0_quarrels_1 8 rfl rfl)
theorem dX0_quarrels_32 : decode cX0_quarrels 32 = .ok (.iload_n 3, 1) := dk_29 (dk_at dksX0_quarrels_1 9 rfl rfl)
theorem dX0_quarrels_33 : decode cX0_quarrels 33 = .ok (.invokevirtual 294, 3) := dk_182 1 38 (dk_at dksX0_quarrels_1 10 rfl rfl)
theorem dX0_quarrels_36 : decode cX0_quarrels 36 = .ok (.invokestatic 219, 3) := dk_184 0 219 (dk_at dksX0_quarrels_1 13 rfl rfl)
theorem dX0_quarrels_39 : decode cX0_quarrels 39 = .ok (.iadd, 1) := dk_96 (dk_at dksX0_quarrels_1 16 rfl rfl)
theorem dX0_quarrels_40 : decode cX0_quarrels 40 = .ok (.istore_n 2, 1) := dk_61 (dk_at dksX0_quarrels_1 17 rfl rfl)
theorem dX0_quarrels_41 : decode cX0_quarrels 41 = .ok (.iinc 3 1, 3) := dk_132 3 1 (dk_at dksX0_quarrels_1 18 rfl rfl)
theorem dX0_quarrels_44 : decode cX0_quarrels 44 = .ok (.goto (-26), 3) := dk_167 255 230 (dk_at dksX0_quarrels_1 21 rfl rfl)
theorem dX0_quarrels_47 : decode cX0_quarrels 47 = .ok (.aload_n 0, 1) := dk_42 (dk_at dksX0_quarrels_2 0 rfl rfl)
theorem dX0_quarrels_48 : decode cX0_quarrels 48 = .ok (.iload_n 2, 1) := dk_28 (dk_at dksX0_quarrels_2 1 rfl rfl)
theorem dX0_quarrels_49 : decode cX0_quarrels 49 = .ok (.iconst 2, 1) := dk_5 (dk_at dksX0_quarrels_2 2 rfl rfl)
theorem dX0_quarrels_50 : decode cX0_quarrels 50 = .ok (.idiv, 1) := dk_108 (dk_at dksX0_quarrels_2 3 rfl rfl)
theorem dX0_quarrels_51 : decode cX0_quarrels 51 = .ok (.invokevirtual 197, 3) := dk_182 0 197 (dk_at dksX0_quarrels_2 4 rfl rfl)
theorem dX0_quarrels_54 : decode cX0_quarrels 54 = .ok (.ireturn, 1) := dk_172 (dk_at dksX0_quarrels_2 7 rfl rfl)
abbrev cX0_with : ByteArray := prog_1_method_51_code
def yX0_with : MethodName := ⟨RX0, "with", "(II)I"⟩
def dkwX0_with_2 : List UInt8 := [182, 1, 41, 182, 0, 197, 172]
abbrev dktX0_with_2 : List UInt8 := dkwX0_with_2 ++ []
def dkwX0_with_1 : List UInt8 := [28, 122, 4, 126, 154, 0, 12, 42, 16, 8, 182, 0, 124, 167, 0, 16, 42, 42, 180, 0, 37, 27, 28]
abbrev dktX0_with_1 : List UInt8 := dkwX0_with_1 ++ dktX0_with_2
def dkwX0_with_0 : List UInt8 := [42, 27, 182, 0, 251, 153, 0, 12, 42, 28, 133, 182, 0, 224, 154, 0, 9, 42, 5, 182, 0, 124, 172, 27]
abbrev dktX0_with_0 : List UInt8 := dkwX0_with_0 ++ dktX0_with_1
theorem dksX0_with_0 : cX0_with.data.toList.drop 0 = dktX0_with_0 := by decide +kernel
theorem dksX0_with_1 : cX0_with.data.toList.drop 24 = dktX0_with_1 := dk_seg dksX0_with_0 24 rfl rfl
theorem dksX0_with_2 : cX0_with.data.toList.drop 47 = dktX0_with_2 := dk_seg dksX0_with_1 23 rfl rfl
theorem dX0_with_0 : decode cX0_with 0 = .ok (.aload_n 0, 1) := dk_42 (dk_at dksX0_with_0 0 rfl rfl)
theorem dX0_with_1 : decode cX0_with 1 = .ok (.iload_n 1, 1) := dk_27 (dk_at dksX0_with_0 1 rfl rfl)
theorem dX0_with_2 : decode cX0_with 2 = .ok (.invokevirtual 251, 3) := dk_182 0 251 (dk_at dksX0_with_0 2 rfl rfl)
theorem dX0_with_5 : decode cX0_with 5 = .ok (.ifCond .eq 12, 3) := dk_153 0 12 (dk_at dksX0_with_0 5 rfl rfl)
theorem dX0_with_8 : decode cX0_with 8 = .ok (.aload_n 0, 1) := dk_42 (dk_at dksX0_with_0 8 rfl rfl)
theorem dX0_with_9 : decode cX0_with 9 = .ok (.iload_n 2, 1) := dk_28 (dk_at dksX0_with_0 9 rfl rfl)
theorem dX0_with_10 : decode cX0_with 10 = .ok (.i2l, 1) := dk_133 (dk_at dksX0_with_0 10 rfl rfl)
theorem dX0_with_11 : decode cX0_with 11 = .ok (.invokevirtual 224, 3) := dk_182 0 224 (dk_at dksX0_with_0 11 rfl rfl)
theorem dX0_with_14 : decode cX0_with 14 = .ok (.ifCond .ne 9, 3) := dk_154 0 9 (dk_at dksX0_with_0 14 rfl rfl)
theorem dX0_with_17 : decode cX0_with 17 = .ok (.aload_n 0, 1) := dk_42 (dk_at dksX0_with_0 17 rfl rfl)
theorem dX0_with_18 : decode cX0_with 18 = .ok (.iconst 2, 1) := dk_5 (dk_at dksX0_with_0 18 rfl rfl)
theorem dX0_with_19 : decode cX0_with 19 = .ok (.invokevirtual 124, 3) := dk_182 0 124 (dk_at dksX0_with_0 19 rfl rfl)
theorem dX0_with_22 : decode cX0_with 22 = .ok (.ireturn, 1) := dk_172 (dk_at dksX0_with_0 22 rfl rfl)
theorem dX0_with_23 : decode cX0_with 23 = .ok (.iload_n 1, 1) := dk_27 (dk_at dksX0_with_0 23 rfl rfl)
theorem dX0_with_24 : decode cX0_with 24 = .ok (.iload_n 2, 1) := dk_28 (dk_at dksX0_with_1 0 rfl rfl)
theorem dX0_with_25 : decode cX0_with 25 = .ok (.ishr, 1) := dk_122 (dk_at dksX0_with_1 1 rfl rfl)
theorem dX0_with_26 : decode cX0_with 26 = .ok (.iconst 1, 1) := dk_4 (dk_at dksX0_with_1 2 rfl rfl)
theorem dX0_with_27 : decode cX0_with 27 = .ok (.iand, 1) := dk_126 (dk_at dksX0_with_1 3 rfl rfl)
theorem dX0_with_28 : decode cX0_with 28 = .ok (.ifCond .ne 12, 3) := dk_154 0 12 (dk_at dksX0_with_1 4 rfl rfl)
theorem dX0_with_31 : decode cX0_with 31 = .ok (.aload_n 0, 1) := dk_42 (dk_at dksX0_with_1 7 rfl rfl)
theorem dX0_with_32 : decode cX0_with 32 = .ok (.bipush 8, 2) := dk_16 8 (dk_at dksX0_with_1 8 rfl rfl)
theorem dX0_with_34 : decode cX0_with 34 = .ok (.invokevirtual 124, 3) := dk_182 0 124 (dk_at dksX0_with_1 10 rfl rfl)
theorem dX0_with_37 : decode cX0_with 37 = .ok (.goto 16, 3) := dk_167 0 16 (dk_at dksX0_with_1 13 rfl rfl)
theorem dX0_with_40 : decode cX0_with 40 = .ok (.aload_n 0, 1) := dk_42 (dk_at dksX0_with_1 16 rfl rfl)
theorem dX0_with_41 : decode cX0_with 41 = .ok (.aload_n 0, 1) := dk_42 (dk_at dksX0_with_1 17 rfl rfl)
theorem dX0_with_42 : decode cX0_with 42 = .ok (.getfield 37, 3) := dk_180 0 37 (dk_at dksX0_with_1 18 rfl rfl)
theorem dX0_with_45 : decode cX0_with 45 = .ok (.iload_n 1, 1) := dk_27 (dk_at dksX0_with_1 21 rfl rfl)
theorem dX0_with_46 : decode cX0_with 46 = .ok (.iload_n 2, 1) := dk_28 (dk_at dksX0_with_1 22 rfl rfl)
theorem dX0_with_47 : decode cX0_with 47 = .ok (.invokevirtual 297, 3) := dk_182 1 41 (dk_at dksX0_with_2 0 rfl rfl)
theorem dX0_with_50 : decode cX0_with 50 = .ok (.invokevirtual 197, 3) := dk_182 0 197 (dk_at dksX0_with_2 3 rfl rfl)
theorem dX0_with_53 : decode cX0_with 53 = .ok (.ireturn, 1) := dk_172 (dk_at dksX0_with_2 6 rfl rfl)
abbrev cX0_leastOut : ByteArray := prog_1_method_53_code
def yX0_leastOut : MethodName := ⟨RX0, "leastOut", "(I)I"⟩
def dkwX0_leastOut_1 : List UInt8 := [182, 1, 46, 2, 130, 126, 182, 0, 197, 172]
abbrev dktX0_leastOut_1 : List UInt8 := dkwX0_leastOut_1 ++ []
def dkwX0_leastOut_0 : List UInt8 := [42, 27, 182, 1, 14, 61, 28, 158, 0, 11, 42, 28, 182, 0, 124, 167, 0, 16, 42, 27, 42, 27]
abbrev dktX0_leastOut_0 : List UInt8 := dkwX0_leastOut_0 ++ dktX0_leastOut_1
theorem dksX0_leastOut_0 : cX0_leastOut.data.toList.drop 0 = dktX0_leastOut_0 := by decide +kernel
theorem dksX0_leastOut_1 : cX0_leastOut.data.toList.drop 22 = dktX0_leastOut_1 := dk_seg dksX0_leastOut_0 22 rfl rfl
theorem dX0_leastOut_0 : decode cX0_leastOut 0 = .ok (.aload_n 0, 1) := dk_42 (dk_at dksX0_leastOut_0 0 rfl rfl)
theorem dX0_leastOut_1 : decode cX0_leastOut 1 = .ok (.iload_n 1, 1) := dk_27 (dk_at dksX0_leastOut_0 1 rfl rfl)
theorem dX0_leastOut_2 : decode cX0_leastOut 2 = .ok (.invokevirtual 270, 3) := dk_182 1 14 (dk_at dksX0_leastOut_0 2 rfl rfl)
theorem dX0_leastOut_5 : decode cX0_leastOut 5 = .ok (.istore_n 2, 1) := dk_61 (dk_at dksX0_leastOut_0 5 rfl rfl)
theorem dX0_leastOut_6 : decode cX0_leastOut 6 = .ok (.iload_n 2, 1) := dk_28 (dk_at dksX0_leastOut_0 6 rfl rfl)
theorem dX0_leastOut_7 : decode cX0_leastOut 7 = .ok (.ifCond .le 11, 3) := dk_158 0 11 (dk_at dksX0_leastOut_0 7 rfl rfl)
theorem dX0_leastOut_10 : decode cX0_leastOut 10 = .ok (.aload_n 0, 1) := dk_42 (dk_at dksX0_leastOut_0 10 rfl rfl)
theorem dX0_leastOut_11 : decode cX0_leastOut 11 = .ok (.iload_n 2, 1) := dk_28 (dk_at dksX0_leastOut_0 11 rfl rfl)
theorem dX0_leastOut_12 : decode cX0_leastOut 12 = .ok (.invokevirtual 124, 3) := dk_182 0 124 (dk_at dksX0_leastOut_0 12 rfl rfl)
theorem dX0_leastOut_15 : decode cX0_leastOut 15 = .ok (.goto 16, 3) := dk_167 0 16 (dk_at dksX0_leastOut_0 15 rfl rfl)
theorem dX0_leastOut_18 : decode cX0_leastOut 18 = .ok (.aload_n 0, 1) := dk_42 (dk_at dksX0_leastOut_0 18 rfl rfl)
theorem dX0_leastOut_19 : decode cX0_leastOut 19 = .ok (.iload_n 1, 1) := dk_27 (dk_at dksX0_leastOut_0 19 rfl rfl)
theorem dX0_leastOut_20 : decode cX0_leastOut 20 = .ok (.aload_n 0, 1) := dk_42 (dk_at dksX0_leastOut_0 20 rfl rfl)
theorem dX0_leastOut_21 : decode cX0_leastOut 21 = .ok (.iload_n 1, 1) := dk_27 (dk_at dksX0_leastOut_0 21 rfl rfl)
theorem dX0_leastOut_22 : decode cX0_leastOut 22 = .ok (.invokevirtual 302, 3) := dk_182 1 46 (dk_at dksX0_leastOut_1 0 rfl rfl)
theorem dX0_leastOut_25 : decode cX0_leastOut 25 = .ok (.iconst (-1), 1) := dk_2 (dk_at dksX0_leastOut_1 3 rfl rfl)
theorem dX0_leastOut_26 : decode cX0_leastOut 26 = .ok (.ixor, 1) := dk_130 (dk_at dksX0_leastOut_1 4 rfl rfl)
theorem dX0_leastOut_27 : decode cX0_leastOut 27 = .ok (.iand, 1) := dk_126 (dk_at dksX0_leastOut_1 5 rfl rfl)
theorem dX0_leastOut_28 : decode cX0_leastOut 28 = .ok (.invokevirtual 197, 3) := dk_182 0 197 (dk_at dksX0_leastOut_1 6 rfl rfl)
theorem dX0_leastOut_31 : decode cX0_leastOut 31 = .ok (.ireturn, 1) := dk_172 (dk_at dksX0_leastOut_1 9 rfl rfl)
abbrev cX0_quietest : ByteArray := prog_1_method_52_code
def yX0_quietest : MethodName := ⟨RX0, "quietest", "(I)I"⟩
def dkwX0_quietest_3 : List UInt8 := [153, 0, 5, 29, 61, 29, 4, 100, 27, 126, 62, 167, 255, 182, 28, 172]
abbrev dktX0_quietest_3 : List UInt8 := dkwX0_quietest_3 ++ []
def dkwX0_quietest_2 : List UInt8 := [167, 0, 27, 42, 180, 0, 37, 29, 182, 0, 254, 153, 0, 16, 42, 180, 0, 37, 29, 182, 1, 43]
abbrev dktX0_quietest_2 : List UInt8 := dkwX0_quietest_2 ++ dktX0_quietest_3
def dkwX0_quietest_1 : List UInt8 := [21, 4, 28, 184, 0, 219, 160, 0, 19, 27, 29, 2, 130, 126, 27, 28, 2, 130, 126, 161, 0, 6]
abbrev dktX0_quietest_1 : List UInt8 := dkwX0_quietest_1 ++ dktX0_quietest_2
def dkwX0_quietest_0 : List UInt8 := [3, 61, 27, 62, 29, 158, 0, 76, 29, 184, 0, 219, 54, 4, 21, 4, 28, 184, 0, 219, 161, 0, 52]
abbrev dktX0_quietest_0 : List UInt8 := dkwX0_quietest_0 ++ dktX0_quietest_1
theorem dksX0_quietest_0 : cX0_quietest.data.toList.drop 0 = dktX0_quietest_0 := by decide +kernel
theorem dksX0_quietest_1 : cX0_quietest.data.toList.drop 23 = dktX0_quietest_1 := dk_seg dksX0_quietest_0 23 rfl rfl
theorem dksX0_quietest_2 : cX0_quietest.data.toList.drop 45 = dktX0_quietest_2 := dk_seg dksX0_quietest_1 22 rfl rfl
theorem dksX0_quietest_3 : cX0_quietest.data.toList.drop 67 = dktX0_quietest_3 := dk_seg dksX0_quietest_2 22 rfl rfl
theorem dX0_quietest_0 : decode cX0_quietest 0 = .ok (.iconst 0, 1) := dk_3 (dk_at dksX0_quietest_0 0 rfl rfl)
theorem dX0_quietest_1 : decode cX0_quietest 1 = .ok (.istore_n 2, 1) := dk_61 (dk_at dksX0_quietest_0 1 rfl rfl)
theorem dX0_quietest_2 : decode cX0_quietest 2 = .ok (.iload_n 1, 1) := dk_27 (dk_at dksX0_quietest_0 2 rfl rfl)
theorem dX0_quietest_3 : decode cX0_quietest 3 = .ok (.istore_n 3, 1) := dk_62 (dk_at dksX0_quietest_0 3 rfl rfl)
theorem dX0_quietest_4 : decode cX0_quietest 4 = .ok (.iload_n 3, 1) := dk_29 (dk_at dksX0_quietest_0 4 rfl rfl)
theorem dX0_quietest_5 : decode cX0_quietest 5 = .ok (.ifCond .le 76, 3) := dk_158 0 76 (dk_at dksX0_quietest_0 5 rfl rfl)
theorem dX0_quietest_8 : decode cX0_quietest 8 = .ok (.iload_n 3, 1) := dk_29 (dk_at dksX0_quietest_0 8 rfl rfl)
theorem dX0_quietest_9 : decode cX0_quietest 9 = .ok (.invokestatic 219, 3) := dk_184 0 219 (dk_at dksX0_quietest_0 9 rfl rfl)
theorem dX0_quietest_12 : decode cX0_quietest 12 = .ok (.istore 4, 2) := dk_54 4 (dk_at dksX0_quietest_0 12 rfl rfl)
theorem dX0_quietest_14 : decode cX0_quietest 14 = .ok (.iload 4, 2) := dk_21 4 (dk_at dksX0_quietest_0 14 rfl rfl)
theorem dX0_quietest_16 : decode cX0_quietest 16 = .ok (.iload_n 2, 1) := dk_28 (dk_at dksX0_quietest_0 16 rfl rfl)
theorem dX0_quietest_17 : decode cX0_quietest 17 = .ok (.invokestatic 219, 3) := dk_184 0 219 (dk_at dksX0_quietest_0 17 rfl rfl)
theorem dX0_quietest_20 : decode cX0_quietest 20 = .ok (.if_icmp .lt 52, 3) := dk_161 0 52 (dk_at dksX0_quietest_0 20 rfl rfl)
theorem dX0_quietest_23 : decode cX0_quietest 23 = .ok (.iload 4, 2) := dk_21 4 (dk_at dksX0_quietest_1 0 rfl rfl)
theorem dX0_quietest_25 : decode cX0_quietest 25 = .ok (.iload_n 2, 1) := dk_28 (dk_at dksX0_quietest_1 2 rfl rfl)
theorem dX0_quietest_26 : decode cX0_quietest 26 = .ok (.invokestatic 219, 3) := dk_184 0 219 (dk_at dksX0_quietest_1 3 rfl rfl)
theorem dX0_quietest_29 : decode cX0_quietest 29 = .ok (.if_icmp .ne 19, 3) := dk_160 0 19 (dk_at dksX0_quietest_1 6 rfl rfl)
theorem dX0_quietest_32 : decode cX0_quietest 32 = .ok (.iload_n 1, 1) := dk_27 (dk_at dksX0_quietest_1 9 rfl rfl)
theorem dX0_quietest_33 : decode cX0_quietest 33 = .ok (.iload_n 3, 1) := dk_29 (dk_at dksX0_quietest_1 10 rfl rfl)
theorem dX0_quietest_34 : decode cX0_quietest 34 = .ok (.iconst (-1), 1) := dk_2 (dk_at dksX0_quietest_1 11 rfl rfl)
theorem dX0_quietest_35 : decode cX0_quietest 35 = .ok (.ixor, 1) := dk_130 (dk_at dksX0_quietest_1 12 rfl rfl)
theorem dX0_quietest_36 : decode cX0_quietest 36 = .ok (.iand, 1) := dk_126 (dk_at dksX0_quietest_1 13 rfl rfl)
theorem dX0_quietest_37 : decode cX0_quietest 37 = .ok (.iload_n 1, 1) := dk_27 (dk_at dksX0_quietest_1 14 rfl rfl)
theorem dX0_quietest_38 : decode cX0_quietest 38 = .ok (.iload_n 2, 1) := dk_28 (dk_at dksX0_quietest_1 15 rfl rfl)
theorem dX0_quietest_39 : decode cX0_quietest 39 = .ok (.iconst (-1), 1) := dk_2 (dk_at dksX0_quietest_1 16 rfl rfl)
theorem dX0_quietest_40 : decode cX0_quietest 40 = .ok (.ixor, 1) := dk_130 (dk_at dksX0_quietest_1 17 rfl rfl)
theorem dX0_quietest_41 : decode cX0_quietest 41 = .ok (.iand, 1) := dk_126 (dk_at dksX0_quietest_1 18 rfl rfl)
theorem dX0_quietest_42 : decode cX0_quietest 42 = .ok (.if_icmp .lt 6, 3) := dk_161 0 6 (dk_at dksX0_quietest_1 19 rfl rfl)
theorem dX0_quietest_45 : decode cX0_quietest 45 = .ok (.goto 27, 3) := dk_167 0 27 (dk_at dksX0_quietest_2 0 rfl rfl)
theorem dX0_quietest_48 : decode cX0_quietest 48 = .ok (.aload_n 0, 1) := dk_42 (dk_at dksX0_quietest_2 3 rfl rfl)
theorem dX0_quietest_49 : decode cX0_quietest 49 = .ok (.getfield 37, 3) := dk_180 0 37 (dk_at dksX0_quietest_2 4 rfl rfl)
theorem dX0_quietest_52 : decode cX0_quietest 52 = .ok (.iload_n 3, 1) := dk_29 (dk_at dksX0_quietest_2 7 rfl rfl)
theorem dX0_quietest_53 : decode cX0_quietest 53 = .ok (.invokevirtual 254, 3) := dk_182 0 254 (dk_at dksX0_quietest_2 8 rfl rfl)
theorem dX0_quietest_56 : decode cX0_quietest 56 = .ok (.ifCond .eq 16, 3) := dk_153 0 16 (dk_at dksX0_quietest_2 11 rfl rfl)
theorem dX0_quietest_59 : decode cX0_quietest 59 = .ok (.aload_n 0, 1) := dk_42 (dk_at dksX0_quietest_2 14 rfl rfl)
theorem dX0_quietest_60 : decode cX0_quietest 60 = .ok (.getfield 37, 3) := dk_180 0 37 (dk_at dksX0_quietest_2 15 rfl rfl)
theorem dX0_quietest_63 : decode cX0_quietest 63 = .ok (.iload_n 3, 1) := dk_29 (dk_at dksX0_quietest_2 18 rfl rfl)
theorem dX0_quietest_64 : decode cX0_quietest 64 = .ok (.invokevirtual 299, 3) := dk_182 1 43 (dk_at dksX0_quietest_2 19 rfl rfl)
theorem dX0_quietest_67 : decode cX0_quietest 67 = .ok (.ifCond .eq 5, 3) := dk_153 0 5 (dk_at dksX0_quietest_3 0 rfl rfl)
theorem dX0_quietest_70 : decode cX0_quietest 70 = .ok (.iload_n 3, 1) := dk_29 (dk_at dksX0_quietest_3 3 rfl rfl)
theorem dX0_quietest_71 : decode cX0_quietest 71 = .ok (.istore_n 2, 1) := dk_61 (dk_at dksX0_quietest_3 4 rfl rfl)
theorem dX0_quietest_72 : decode cX0_quietest 72 = .ok (.iload_n 3, 1) := dk_29 (dk_at dksX0_quietest_3 5 rfl rfl)
theorem dX0_quietest_73 : decode cX0_quietest 73 = .ok (.iconst 1, 1) := dk_4 (dk_at dksX0_quietest_3 6 rfl rfl)
theorem dX0_quietest_74 : decode cX0_quietest 74 = .ok (.isub, 1) := dk_100 (dk_at dksX0_quietest_3 7 rfl rfl)
theorem dX0_quietest_75 : decode cX0_quietest 75 = .ok (.iload_n 1, 1) := dk_27 (dk_at dksX0_quietest_3 8 rfl rfl)
theorem dX0_quietest_76 : decode cX0_quietest 76 = .ok (.iand, 1) := dk_126 (dk_at dksX0_quietest_3 9 rfl rfl)
theorem dX0_quietest_77 : decode cX0_quietest 77 = .ok (.istore_n 3, 1) := dk_62 (dk_at dksX0_quietest_3 10 rfl rfl)
theorem dX0_quietest_78 : decode cX0_quietest 78 = .ok (.goto (-74), 3) := dk_167 255 182 (dk_at dksX0_quietest_3 11 rfl rfl)
theorem dX0_quietest_81 : decode cX0_quietest 81 = .ok (.iload_n 2, 1) := dk_28 (dk_at dksX0_quietest_3 14 rfl rfl)
theorem dX0_quietest_82 : decode cX0_quietest 82 = .ok (.ireturn, 1) := dk_172 (dk_at dksX0_quietest_3 15 rfl rfl)
abbrev cX0_mostQuiet : ByteArray := prog_1_method_54_code
def yX0_mostQuiet : MethodName := ⟨RX0, "mostQuiet", "()I"⟩
def dkwX0_mostQuiet_0 : List UInt8 := [42, 42, 42, 180, 0, 37, 182, 0, 155, 182, 1, 46, 184, 0, 219, 182, 0, 197, 172]
abbrev dktX0_mostQuiet_0 : List UInt8 := dkwX0_mostQuiet_0 ++ []
theorem dksX0_mostQuiet_0 : cX0_mostQuiet.data.toList.drop 0 = dktX0_mostQuiet_0 := by decide +kernel
theorem dX0_mostQuiet_0 : decode cX0_mostQuiet 0 = .ok (.aload_n 0, 1) := dk_42 (dk_at dksX0_mostQuiet_0 0 rfl rfl)
theorem dX0_mostQuiet_1 : decode cX0_mostQuiet 1 = .ok (.aload_n 0, 1) := dk_42 (dk_at dksX0_mostQuiet_0 1 rfl rfl)
theorem dX0_mostQuiet_2 : decode cX0_mostQuiet 2 = .ok (.aload_n 0, 1) := dk_42 (dk_at dksX0_mostQuiet_0 2 rfl rfl)
theorem dX0_mostQuiet_3 : decode cX0_mostQuiet 3 = .ok (.getfield 37, 3) := dk_180 0 37 (dk_at dksX0_mostQuiet_0 3 rfl rfl)
theorem dX0_mostQuiet_6 : decode cX0_mostQuiet 6 = .ok (.invokevirtual 155, 3) := dk_182 0 155 (dk_at dksX0_mostQuiet_0 6 rfl rfl)
theorem dX0_mostQuiet_9 : decode cX0_mostQuiet 9 = .ok (.invokevirtual 302, 3) := dk_182 1 46 (dk_at dksX0_mostQuiet_0 9 rfl rfl)
theorem dX0_mostQuiet_12 : decode cX0_mostQuiet 12 = .ok (.invokestatic 219, 3) := dk_184 0 219 (dk_at dksX0_mostQuiet_0 12 rfl rfl)
theorem dX0_mostQuiet_15 : decode cX0_mostQuiet 15 = .ok (.invokevirtual 197, 3) := dk_182 0 197 (dk_at dksX0_mostQuiet_0 15 rfl rfl)
theorem dX0_mostQuiet_18 : decode cX0_mostQuiet 18 = .ok (.ireturn, 1) := dk_172 (dk_at dksX0_mostQuiet_0 18 rfl rfl)
abbrev cX0_orders : ByteArray := prog_1_method_57_code
def yX0_orders : MethodName := ⟨RX0, "orders", "(I)J"⟩
def dkwX0_orders_1 : List UInt8 := [181, 0, 97, 42, 180, 0, 62, 3, 47, 173]
abbrev dktX0_orders_1 : List UInt8 := dkwX0_orders_1 ++ []
def dkwX0_orders_0 : List UInt8 := [42, 27, 182, 1, 14, 61, 28, 158, 0, 10, 42, 28, 182, 0, 124, 133, 173, 42, 27, 182, 1, 52, 42, 3]
abbrev dktX0_orders_0 : List UInt8 := dkwX0_orders_0 ++ dktX0_orders_1
theorem dksX0_orders_0 : cX0_orders.data.toList.drop 0 = dktX0_orders_0 := by decide +kernel
theorem dksX0_orders_1 : cX0_orders.data.toList.drop 24 = dktX0_orders_1 := dk_seg dksX0_orders_0 24 rfl rfl
theorem dX0_orders_0 : decode cX0_orders 0 = .ok (.aload_n 0, 1) := dk_42 (dk_at dksX0_orders_0 0 rfl rfl)
theorem dX0_orders_1 : decode cX0_orders 1 = .ok (.iload_n 1, 1) := dk_27 (dk_at dksX0_orders_0 1 rfl rfl)
theorem dX0_orders_2 : decode cX0_orders 2 = .ok (.invokevirtual 270, 3) := dk_182 1 14 (dk_at dksX0_orders_0 2 rfl rfl)
theorem dX0_orders_5 : decode cX0_orders 5 = .ok (.istore_n 2, 1) := dk_61 (dk_at dksX0_orders_0 5 rfl rfl)
theorem dX0_orders_6 : decode cX0_orders 6 = .ok (.iload_n 2, 1) := dk_28 (dk_at dksX0_orders_0 6 rfl rfl)
theorem dX0_orders_7 : decode cX0_orders 7 = .ok (.ifCond .le 10, 3) := dk_158 0 10 (dk_at dksX0_orders_0 7 rfl rfl)
theorem dX0_orders_10 : decode cX0_orders 10 = .ok (.aload_n 0, 1) := dk_42 (dk_at dksX0_orders_0 10 rfl rfl)
theorem dX0_orders_11 : decode cX0_orders 11 = .ok (.iload_n 2, 1) := dk_28 (dk_at dksX0_orders_0 11 rfl rfl)
theorem dX0_orders_12 : decode cX0_orders 12 = .ok (.invokevirtual 124, 3) := dk_182 0 124 (dk_at dksX0_orders_0 12 rfl rfl)
theorem dX0_orders_15 : decode cX0_orders 15 = .ok (.i2l, 1) := dk_133 (dk_at dksX0_orders_0 15 rfl rfl)
theorem dX0_orders_16 : decode cX0_orders 16 = .ok (.lreturn, 1) := dk_173 (dk_at dksX0_orders_0 16 rfl rfl)
theorem dX0_orders_17 : decode cX0_orders 17 = .ok (.aload_n 0, 1) := dk_42 (dk_at dksX0_orders_0 17 rfl rfl)
theorem dX0_orders_18 : decode cX0_orders 18 = .ok (.iload_n 1, 1) := dk_27 (dk_at dksX0_orders_0 18 rfl rfl)
theorem dX0_orders_19 : decode cX0_orders 19 = .ok (.invokevirtual 308, 3) := dk_182 1 52 (dk_at dksX0_orders_0 19 rfl rfl)
theorem dX0_orders_22 : decode cX0_orders 22 = .ok (.aload_n 0, 1) := dk_42 (dk_at dksX0_orders_0 22 rfl rfl)
theorem dX0_orders_23 : decode cX0_orders 23 = .ok (.iconst 0, 1) := dk_3 (dk_at dksX0_orders_0 23 rfl rfl)
theorem dX0_orders_24 : decode cX0_orders 24 = .ok (.putfield 97, 3) := dk_181 0 97 (dk_at dksX0_orders_1 0 rfl rfl)
theorem dX0_orders_27 : decode cX0_orders 27 = .ok (.aload_n 0, 1) := dk_42 (dk_at dksX0_orders_1 3 rfl rfl)
theorem dX0_orders_28 : decode cX0_orders 28 = .ok (.getfield 62, 3) := dk_180 0 62 (dk_at dksX0_orders_1 4 rfl rfl)
theorem dX0_orders_31 : decode cX0_orders 31 = .ok (.iconst 0, 1) := dk_3 (dk_at dksX0_orders_1 7 rfl rfl)
theorem dX0_orders_32 : decode cX0_orders 32 = .ok (.laload, 1) := dk_47 (dk_at dksX0_orders_1 8 rfl rfl)
theorem dX0_orders_33 : decode cX0_orders 33 = .ok (.lreturn, 1) := dk_173 (dk_at dksX0_orders_1 9 rfl rfl)
abbrev cX0_counts : ByteArray := prog_1_method_56_code
def yX0_counts : MethodName := ⟨RX0, "counts", "(I)V"⟩
def dkwX0_counts_3 : List UInt8 := [97, 80, 132, 3, 1, 167, 255, 205, 28, 154, 0, 4, 177, 28, 4, 100, 27, 126, 61, 167, 255, 178, 177]
abbrev dktX0_counts_3 : List UInt8 := dkwX0_counts_3 ++ []
def dkwX0_counts_2 : List UInt8 := [29, 182, 1, 49, 153, 0, 22, 42, 180, 0, 62, 28, 92, 47, 42, 180, 0, 62, 28, 4, 29, 120, 128, 47]
abbrev dktX0_counts_2 : List UInt8 := dkwX0_counts_2 ++ dktX0_counts_3
def dkwX0_counts_1 : List UInt8 := [3, 62, 29, 42, 180, 0, 37, 180, 0, 149, 162, 0, 46, 27, 29, 122, 4, 126, 4, 160, 0, 31, 42, 28]
abbrev dktX0_counts_1 : List UInt8 := dkwX0_counts_1 ++ dktX0_counts_2
def dkwX0_counts_0 : List UInt8 := [42, 180, 0, 62, 27, 10, 80, 27, 4, 100, 27, 126, 61, 27, 158, 0, 80, 42, 180, 0, 62, 28, 9, 80]
abbrev dktX0_counts_0 : List UInt8 := dkwX0_counts_0 ++ dktX0_counts_1
theorem dksX0_counts_0 : cX0_counts.data.toList.drop 0 = dktX0_counts_0 := by decide +kernel
theorem dksX0_counts_1 : cX0_counts.data.toList.drop 24 = dktX0_counts_1 := dk_seg dksX0_counts_0 24 rfl rfl
theorem dksX0_counts_2 : cX0_counts.data.toList.drop 48 = dktX0_counts_2 := dk_seg dksX0_counts_1 24 rfl rfl
theorem dksX0_counts_3 : cX0_counts.data.toList.drop 72 = dktX0_counts_3 := dk_seg dksX0_counts_2 24 rfl rfl
theorem dX0_counts_0 : decode cX0_counts 0 = .ok (.aload_n 0, 1) := dk_42 (dk_at dksX0_counts_0 0 rfl rfl)
theorem dX0_counts_1 : decode cX0_counts 1 = .ok (.getfield 62, 3) := dk_180 0 62 (dk_at dksX0_counts_0 1 rfl rfl)
theorem dX0_counts_4 : decode cX0_counts 4 = .ok (.iload_n 1, 1) := dk_27 (dk_at dksX0_counts_0 4 rfl rfl)
theorem dX0_counts_5 : decode cX0_counts 5 = .ok (.lconst 1, 1) := dk_10 (dk_at dksX0_counts_0 5 rfl rfl)
theorem dX0_counts_6 : decode cX0_counts 6 = .ok (.lastore, 1) := dk_80 (dk_at dksX0_counts_0 6 rfl rfl)
theorem dX0_counts_7 : decode cX0_counts 7 = .ok (.iload_n 1, 1) := dk_27 (dk_at dksX0_counts_0 7 rfl rfl)
theorem dX0_counts_8 : decode cX0_counts 8 = .ok (.iconst 1, 1) := dk_4 (dk_at dksX0_counts_0 8 rfl rfl)
theorem dX0_counts_9 : decode cX0_counts 9 = .ok (.isub, 1) := dk_100 (dk_at dksX0_counts_0 9 rfl rfl)
theorem dX0_counts_10 : decode cX0_counts 10 = .ok (.iload_n 1, 1) := dk_27 (dk_at dksX0_counts_0 10 rfl rfl)
theorem dX0_counts_11 : decode cX0_counts 11 = .ok (.iand, 1) := dk_126 (dk_at dksX0_counts_0 11 rfl rfl)
theorem dX0_counts_12 : decode cX0_counts 12 = .ok (.istore_n 2, 1) := dk_61 (dk_at dksX0_counts_0 12 rfl rfl)
theorem dX0_counts_13 : decode cX0_counts 13 = .ok (.iload_n 1, 1) := dk_27 (dk_at dksX0_counts_0 13 rfl rfl)
theorem dX0_counts_14 : decode cX0_counts 14 = .ok (.ifCond .le 80, 3) := dk_158 0 80 (dk_at dksX0_counts_0 14 rfl rfl)
theorem dX0_counts_17 : decode cX0_counts 17 = .ok (.aload_n 0, 1) := dk_42 (dk_at dksX0_counts_0 17 rfl rfl)
theorem dX0_counts_18 : decode cX0_counts 18 = .ok (.getfield 62, 3) := dk_180 0 62 (dk_at dksX0_counts_0 18 rfl rfl)
theorem dX0_counts_21 : decode cX0_counts 21 = .ok (.iload_n 2, 1) := dk_28 (dk_at dksX0_counts_0 21 rfl rfl)
theorem dX0_counts_22 : decode cX0_counts 22 = .ok (.lconst 0, 1) := dk_9 (dk_at dksX0_counts_0 22 rfl rfl)
theorem dX0_counts_23 : decode cX0_counts 23 = .ok (.lastore, 1) := dk_80 (dk_at dksX0_counts_0 23 rfl rfl)
theorem dX0_counts_24 : decode cX0_counts 24 = .ok (.iconst 0, 1) := dk_3 (dk_at dksX0_counts_1 0 rfl rfl)
theorem dX0_counts_25 : decode cX0_counts 25 = .ok (.istore_n 3, 1) := dk_62 (dk_at dksX0_counts_1 1 rfl rfl)
theorem dX0_counts_26 : decode cX0_counts 26 = .ok (.iload_n 3, 1) := dk_29 (dk_at dksX0_counts_1 2 rfl rfl)
theorem dX0_counts_27 : decode cX0_counts 27 = .ok (.aload_n 0, 1) := dk_42 (dk_at dksX0_counts_1 3 rfl rfl)
theorem dX0_counts_28 : decode cX0_counts 28 = .ok (.getfield 37, 3) := dk_180 0 37 (dk_at dksX0_counts_1 4 rfl rfl)
theorem dX0_counts_31 : decode cX0_counts 31 = .ok (.getfield 149, 3) := dk_180 0 149 (dk_at dksX0_counts_1 7 rfl rfl)
theorem dX0_counts_34 : decode cX0_counts 34 = .ok (.if_icmp .ge 46, 3) := dk_162 0 46 (dk_at dksX0_counts_1 10 rfl rfl)
theorem dX0_counts_37 : decode cX0_counts 37 = .ok (.iload_n 1, 1) := dk_27 (dk_at dksX0_counts_1 13 rfl rfl)
theorem dX0_counts_38 : decode cX0_counts 38 = .ok (.iload_n 3, 1) := dk_29 (dk_at dksX0_counts_1 14 rfl rfl)
theorem dX0_counts_39 : decode cX0_counts 39 = .ok (.ishr, 1) := dk_122 (dk_at dksX0_counts_1 15 rfl rfl)
theorem dX0_counts_40 : decode cX0_counts 40 = .ok (.iconst 1, 1) := dk_4 (dk_at dksX0_counts_1 16 rfl rfl)
theorem dX0_counts_41 : decode cX0_counts 41 = .ok (.iand, 1) := dk_126 (dk_at dksX0_counts_1 17 rfl rfl)
theorem dX0_counts_42 : decode cX0_counts 42 = .ok (.iconst 1, 1) := dk_4 (dk_at dksX0_counts_1 18 rfl rfl)
theorem dX0_counts_43 : decode cX0_counts 43 = .ok (.if_icmp .ne 31, 3) := dk_160 0 31 (dk_at dksX0_counts_1 19 rfl rfl)
theorem dX0_counts_46 : decode cX0_counts 46 = .ok (.aload_n 0, 1) := dk_42 (dk_at dksX0_counts_1 22 rfl rfl)
theorem dX0_counts_47 : decode cX0_counts 47 = .ok (.iload_n 2, 1) := dk_28 (dk_at dksX0_counts_1 23 rfl rfl)
theorem dX0_counts_48 : decode cX0_counts 48 = .ok (.iload_n 3, 1) := dk_29 (dk_at dksX0_counts_2 0 rfl rfl)
theorem dX0_counts_49 : decode cX0_counts 49 = .ok (.invokevirtual 305, 3) := dk_182 1 49 (dk_at dksX0_counts_2 1 rfl rfl)
theorem dX0_counts_52 : decode cX0_counts 52 = .ok (.ifCond .eq 22, 3) := dk_153 0 22 (dk_at dksX0_counts_2 4 rfl rfl)
theorem dX0_counts_55 : decode cX0_counts 55 = .ok (.aload_n 0, 1) := dk_42 (dk_at dksX0_counts_2 7 rfl rfl)
theorem dX0_counts_56 : decode cX0_counts 56 = .ok (.getfield 62, 3) := dk_180 0 62 (dk_at dksX0_counts_2 8 rfl rfl)
theorem dX0_counts_59 : decode cX0_counts 59 = .ok (.iload_n 2, 1) := dk_28 (dk_at dksX0_counts_2 11 rfl rfl)
theorem dX0_counts_60 : decode cX0_counts 60 = .ok (.dup2, 1) := dk_92 (dk_at dksX0_counts_2 12 rfl rfl)
theorem dX0_counts_61 : decode cX0_counts 61 = .ok (.laload, 1) := dk_47 (dk_at dksX0_counts_2 13 rfl rfl)
theorem dX0_counts_62 : decode cX0_counts 62 = .ok (.aload_n 0, 1) := dk_42 (dk_at dksX0_counts_2 14 rfl rfl)
theorem dX0_counts_63 : decode cX0_counts 63 = .ok (.getfield 62, 3) := dk_180 0 62 (dk_at dksX0_counts_2 15 rfl rfl)
theorem dX0_counts_66 : decode cX0_counts 66 = .ok (.iload_n 2, 1) := dk_28 (dk_at dksX0_counts_2 18 rfl rfl)
theorem dX0_counts_67 : decode cX0_counts 67 = .ok (.iconst 1, 1) := dk_4 (dk_at dksX0_counts_2 19 rfl rfl)
theorem dX0_counts_68 : decode cX0_counts 68 = .ok (.iload_n 3, 1) := dk_29 (dk_at dksX0_counts_2 20 rfl rfl)
theorem dX0_counts_69 : decode cX0_counts 69 = .ok (.ishl, 1) := dk_120 (dk_at dksX0_counts_2 21 rfl rfl)
theorem dX0_counts_70 : decode cX0_counts 70 = .ok (.ior, 1) := dk_128 (dk_at dksX0_counts_2 22 rfl rfl)
theorem dX0_counts_71 : decode cX0_counts 71 = .ok (.laload, 1) := dk_47 (dk_at dksX0_counts_2 23 rfl rfl)
theorem dX0_counts_72 : decode cX0_counts 72 = .ok (.ladd, 1) := dk_97 (dk_at dksX0_counts_3 0 rfl rfl)
theorem dX0_counts_73 : decode cX0_counts 73 = .ok (.lastore, 1) := dk_80 (dk_at dksX0_counts_3 1 rfl rfl)
theorem dX0_counts_74 : decode cX0_counts 74 = .ok (.iinc 3 1, 3) := dk_132 3 1 (dk_at dksX0_counts_3 2 rfl rfl)
theorem dX0_counts_77 : decode cX0_counts 77 = .ok (.goto (-51), 3) := dk_167 255 205 (dk_at dksX0_counts_3 5 rfl rfl)
theorem dX0_counts_80 : decode cX0_counts 80 = .ok (.iload_n 2, 1) := dk_28 (dk_at dksX0_counts_3 8 rfl rfl)
theorem dX0_counts_81 : decode cX0_counts 81 = .ok (.ifCond .ne 4, 3) := dk_154 0 4 (dk_at dksX0_counts_3 9 rfl rfl)
theorem dX0_counts_84 : decode cX0_counts 84 = .ok (.return_, 1) := dk_177 (dk_at dksX0_counts_3 12 rfl rfl)
theorem dX0_counts_85 : decode cX0_counts 85 = .ok (.iload_n 2, 1) := dk_28 (dk_at dksX0_counts_3 13 rfl rfl)
theorem dX0_counts_86 : decode cX0_counts 86 = .ok (.iconst 1, 1) := dk_4 (dk_at dksX0_counts_3 14 rfl rfl)
theorem dX0_counts_87 : decode cX0_counts 87 = .ok (.isub, 1) := dk_100 (dk_at dksX0_counts_3 15 rfl rfl)
theorem dX0_counts_88 : decode cX0_counts 88 = .ok (.iload_n 1, 1) := dk_27 (dk_at dksX0_counts_3 16 rfl rfl)
theorem dX0_counts_89 : decode cX0_counts 89 = .ok (.iand, 1) := dk_126 (dk_at dksX0_counts_3 17 rfl rfl)
theorem dX0_counts_90 : decode cX0_counts 90 = .ok (.istore_n 2, 1) := dk_61 (dk_at dksX0_counts_3 18 rfl rfl)
theorem dX0_counts_91 : decode cX0_counts 91 = .ok (.goto (-78), 3) := dk_167 255 178 (dk_at dksX0_counts_3 19 rfl rfl)
theorem dX0_counts_94 : decode cX0_counts 94 = .ok (.return_, 1) := dk_177 (dk_at dksX0_counts_3 22 rfl rfl)
abbrev cX0_mayCome : ByteArray := prog_1_method_55_code
def yX0_mayCome : MethodName := ⟨RX0, "mayCome", "(II)Z"⟩
def dkwX0_mayCome_1 : List UInt8 := [154, 0, 7, 4, 167, 0, 4, 3, 172]
abbrev dktX0_mayCome_1 : List UInt8 := dkwX0_mayCome_1 ++ []
def dkwX0_mayCome_0 : List UInt8 := [27, 28, 122, 4, 126, 154, 0, 26, 42, 180, 0, 37, 180, 0, 208, 28, 50, 180, 0, 245, 27, 2, 130, 126]
abbrev dktX0_mayCome_0 : List UInt8 := dkwX0_mayCome_0 ++ dktX0_mayCome_1
theorem dksX0_mayCome_0 : cX0_mayCome.data.toList.drop 0 = dktX0_mayCome_0 := by decide +kernel
theorem dksX0_mayCome_1 : cX0_mayCome.data.toList.drop 24 = dktX0_mayCome_1 := dk_seg dksX0_mayCome_0 24 rfl rfl
theorem dX0_mayCome_0 : decode cX0_mayCome 0 = .ok (.iload_n 1, 1) := dk_27 (dk_at dksX0_mayCome_0 0 rfl rfl)
theorem dX0_mayCome_1 : decode cX0_mayCome 1 = .ok (.iload_n 2, 1) := dk_28 (dk_at dksX0_mayCome_0 1 rfl rfl)
theorem dX0_mayCome_2 : decode cX0_mayCome 2 = .ok (.ishr, 1) := dk_122 (dk_at dksX0_mayCome_0 2 rfl rfl)
theorem dX0_mayCome_3 : decode cX0_mayCome 3 = .ok (.iconst 1, 1) := dk_4 (dk_at dksX0_mayCome_0 3 rfl rfl)
theorem dX0_mayCome_4 : decode cX0_mayCome 4 = .ok (.iand, 1) := dk_126 (dk_at dksX0_mayCome_0 4 rfl rfl)
theorem dX0_mayCome_5 : decode cX0_mayCome 5 = .ok (.ifCond .ne 26, 3) := dk_154 0 26 (dk_at dksX0_mayCome_0 5 rfl rfl)
theorem dX0_mayCome_8 : decode cX0_mayCome 8 = .ok (.aload_n 0, 1) := dk_42 (dk_at dksX0_mayCome_0 8 rfl rfl)
theorem dX0_mayCome_9 : decode cX0_mayCome 9 = .ok (.getfield 37, 3) := dk_180 0 37 (dk_at dksX0_mayCome_0 9 rfl rfl)
theorem dX0_mayCome_12 : decode cX0_mayCome 12 = .ok (.getfield 208, 3) := dk_180 0 208 (dk_at dksX0_mayCome_0 12 rfl rfl)
theorem dX0_mayCome_15 : decode cX0_mayCome 15 = .ok (.iload_n 2, 1) := dk_28 (dk_at dksX0_mayCome_0 15 rfl rfl)
theorem dX0_mayCome_16 : decode cX0_mayCome 16 = .ok (.aaload, 1) := dk_50 (dk_at dksX0_mayCome_0 16 rfl rfl)
theorem dX0_mayCome_17 : decode cX0_mayCome 17 = .ok (.getfield 245, 3) := dk_180 0 245 (dk_at dksX0_mayCome_0 17 rfl rfl)
theorem dX0_mayCome_20 : decode cX0_mayCome 20 = .ok (.iload_n 1, 1) := dk_27 (dk_at dksX0_mayCome_0 20 rfl rfl)
theorem dX0_mayCome_21 : decode cX0_mayCome 21 = .ok (.iconst (-1), 1) := dk_2 (dk_at dksX0_mayCome_0 21 rfl rfl)
theorem dX0_mayCome_22 : decode cX0_mayCome 22 = .ok (.ixor, 1) := dk_130 (dk_at dksX0_mayCome_0 22 rfl rfl)
theorem dX0_mayCome_23 : decode cX0_mayCome 23 = .ok (.iand, 1) := dk_126 (dk_at dksX0_mayCome_0 23 rfl rfl)
theorem dX0_mayCome_24 : decode cX0_mayCome 24 = .ok (.ifCond .ne 7, 3) := dk_154 0 7 (dk_at dksX0_mayCome_1 0 rfl rfl)
theorem dX0_mayCome_27 : decode cX0_mayCome 27 = .ok (.iconst 1, 1) := dk_4 (dk_at dksX0_mayCome_1 3 rfl rfl)
theorem dX0_mayCome_28 : decode cX0_mayCome 28 = .ok (.goto 4, 3) := dk_167 0 4 (dk_at dksX0_mayCome_1 4 rfl rfl)
theorem dX0_mayCome_31 : decode cX0_mayCome 31 = .ok (.iconst 0, 1) := dk_3 (dk_at dksX0_mayCome_1 7 rfl rfl)
theorem dX0_mayCome_32 : decode cX0_mayCome 32 = .ok (.ireturn, 1) := dk_172 (dk_at dksX0_mayCome_1 8 rfl rfl)
abbrev cX0_ahead : ByteArray := prog_1_method_58_code
def yX0_ahead : MethodName := ⟨RX0, "ahead", "(III)Z"⟩
def dkwX0_ahead_11 : List UInt8 := [180, 0, 62, 3, 47, 182, 1, 55, 172]
abbrev dktX0_ahead_11 : List UInt8 := dkwX0_ahead_11 ++ []
def dkwX0_ahead_10 : List UInt8 := [120, 128, 47, 105, 97, 55, 4, 132, 7, 1, 167, 255, 156, 132, 6, 1, 167, 255, 117, 42, 22, 4, 42]
abbrev dktX0_ahead_10 : List UInt8 := dkwX0_ahead_10 ++ dktX0_ahead_11
def dkwX0_ahead_9 : List UInt8 := [122, 4, 126, 154, 0, 28, 22, 4, 42, 180, 0, 66, 21, 6, 47, 42, 180, 0, 62, 21, 6, 4, 21, 7]
abbrev dktX0_ahead_9 : List UInt8 := dkwX0_ahead_9 ++ dktX0_ahead_10
def dkwX0_ahead_8 : List UInt8 := [21, 7, 120, 128, 92, 47, 42, 180, 0, 66, 21, 6, 47, 97, 80, 21, 7, 28, 160, 0, 37, 21, 6, 29]
abbrev dktX0_ahead_8 : List UInt8 := dkwX0_ahead_8 ++ dktX0_ahead_9
def dkwX0_ahead_7 : List UInt8 := [153, 0, 79, 42, 21, 6, 21, 7, 182, 1, 49, 154, 0, 6, 167, 0, 65, 42, 180, 0, 66, 21, 6, 4]
abbrev dktX0_ahead_7 : List UInt8 := dkwX0_ahead_7 ++ dktX0_ahead_8
def dkwX0_ahead_6 : List UInt8 := [167, 0, 109, 3, 54, 7, 21, 7, 42, 180, 0, 37, 180, 0, 149, 162, 0, 94, 27, 21, 7, 122, 4, 126]
abbrev dktX0_ahead_6 : List UInt8 := dkwX0_ahead_6 ++ dktX0_ahead_7
def dkwX0_ahead_5 : List UInt8 := [163, 0, 139, 21, 6, 27, 2, 130, 126, 154, 0, 124, 42, 180, 0, 66, 21, 6, 47, 9, 148, 154, 0, 6]
abbrev dktX0_ahead_5 : List UInt8 := dkwX0_ahead_5 ++ dktX0_ahead_6
def dkwX0_ahead_4 : List UInt8 := [126, 54, 4, 167, 255, 235, 42, 180, 0, 66, 3, 10, 80, 9, 55, 4, 3, 54, 6, 21, 6, 27]
abbrev dktX0_ahead_4 : List UInt8 := dkwX0_ahead_4 ++ dktX0_ahead_5
def dkwX0_ahead_3 : List UInt8 := [182, 1, 52, 27, 54, 4, 21, 4, 158, 0, 22, 42, 180, 0, 66, 21, 4, 9, 80, 21, 4, 4, 100, 27]
abbrev dktX0_ahead_3 : List UInt8 := dkwX0_ahead_3 ++ dktX0_ahead_4
def dkwX0_ahead_2 : List UInt8 := [182, 0, 103, 172, 42, 180, 0, 37, 27, 182, 0, 254, 154, 0, 10, 42, 16, 9, 182, 0, 103, 172, 42, 27]
abbrev dktX0_ahead_2 : List UInt8 := dkwX0_ahead_2 ++ dktX0_ahead_3
def dkwX0_ahead_1 : List UInt8 := [153, 0, 20, 28, 29, 159, 0, 15, 27, 28, 122, 27, 29, 122, 126, 4, 126, 154, 0, 9, 42, 5]
abbrev dktX0_ahead_1 : List UInt8 := dkwX0_ahead_1 ++ dktX0_ahead_2
def dkwX0_ahead_0 : List UInt8 := [42, 27, 182, 0, 251, 153, 0, 38, 42, 28, 133, 182, 0, 224, 153, 0, 29, 42, 29, 133, 182, 0, 224]
abbrev dktX0_ahead_0 : List UInt8 := dkwX0_ahead_0 ++ dktX0_ahead_1
theorem dksX0_ahead_0 : cX0_ahead.data.toList.drop 0 = dktX0_ahead_0 := by decide +kernel
theorem dksX0_ahead_1 : cX0_ahead.data.toList.drop 23 = dktX0_ahead_1 := dk_seg dksX0_ahead_0 23 rfl rfl
theorem dksX0_ahead_2 : cX0_ahead.data.toList.drop 45 = dktX0_ahead_2 := dk_seg dksX0_ahead_1 22 rfl rfl
theorem dksX0_ahead_3 : cX0_ahead.data.toList.drop 69 = dktX0_ahead_3 := dk_seg dksX0_ahead_2 24 rfl rfl
theorem dksX0_ahead_4 : cX0_ahead.data.toList.drop 93 = dktX0_ahead_4 := dk_seg dksX0_ahead_3 24 rfl rfl
theorem dksX0_ahead_5 : cX0_ahead.data.toList.drop 115 = dktX0_ahead_5 := dk_seg dksX0_ahead_4 22 rfl rfl
theorem dksX0_ahead_6 : cX0_ahead.data.toList.drop 139 = dktX0_ahead_6 := dk_seg dksX0_ahead_5 24 rfl rfl
theorem dksX0_ahead_7 : cX0_ahead.data.toList.drop 163 = dktX0_ahead_7 := dk_seg dksX0_ahead_6 24 rfl rfl
theorem dksX0_ahead_8 : cX0_ahead.data.toList.drop 187 = dktX0_ahead_8 := dk_seg dksX0_ahead_7 24 rfl rfl
theorem dksX0_ahead_9 : cX0_ahead.data.toList.drop 211 = dktX0_ahead_9 := dk_seg dksX0_ahead_8 24 rfl rfl
theorem dksX0_ahead_10 : cX0_ahead.data.toList.drop 235 = dktX0_ahead_10 := dk_seg dksX0_ahead_9 24 rfl rfl
theorem dksX0_ahead_11 : cX0_ahead.data.toList.drop 258 = dktX0_ahead_11 := dk_seg dksX0_ahead_10 23 rfl rfl
theorem dX0_ahead_0 : decode cX0_ahead 0 = .ok (.aload_n 0, 1) := dk_42 (dk_at dksX0_ahead_0 0 rfl rfl)
theorem dX0_ahead_1 : decode cX0_ahead 1 = .ok (.iload_n 1, 1) := dk_27 (dk_at dksX0_ahead_0 1 rfl rfl)
theorem dX0_ahead_2 : decode cX0_ahead 2 = .ok (.invokevirtual 251, 3) := dk_182 0 251 (dk_at dksX0_ahead_0 2 rfl rfl)
theorem dX0_ahead_5 : decode cX0_ahead 5 = .ok (.ifCond .eq 38, 3) := dk_153 0 38 (dk_at dksX0_ahead_0 5 rfl rfl)
theorem dX0_ahead_8 : decode cX0_ahead 8 = .ok (.aload_n 0, 1) := dk_42 (dk_at dksX0_ahead_0 8 rfl rfl)
theorem dX0_ahead_9 : decode cX0_ahead 9 = .ok (.iload_n 2, 1) := dk_28 (dk_at dksX0_ahead_0 9 rfl rfl)
theorem dX0_ahead_10 : decode cX0_ahead 10 = .ok (.i2l, 1) := dk_133 (dk_at dksX0_ahead_0 10 rfl rfl)
theorem dX0_ahead_11 : decode cX0_ahead 11 = .ok (.invokevirtual 224, 3) := dk_182 0 224 (dk_at dksX0_ahead_0 11 rfl rfl)
theorem dX0_ahead_14 : decode cX0_ahead 14 = .ok (.ifCond .eq 29, 3) := dk_153 0 29 (dk_at dksX0_ahead_0 14 rfl rfl)
theorem dX0_ahead_17 : decode cX0_ahead 17 = .ok (.aload_n 0, 1) := dk_42 (dk_at dksX0_ahead_0 17 rfl rfl)
theorem dX0_ahead_18 : decode cX0_ahead 18 = .ok (.iload_n 3, 1) := dk_29 (dk_at dksX0_ahead_0 18 rfl rfl)
theorem dX0_ahead_19 : decode cX0_ahead 19 = .ok (.i2l, 1) := dk_133 (dk_at dksX0_ahead_0 19 rfl rfl)
theorem dX0_ahead_20 : decode cX0_ahead 20 = .ok (.invokevirtual 224, 3) := dk_182 0 224 (dk_at dksX0_ahead_0 20 rfl rfl)
theorem dX0_ahead_23 : decode cX0_ahead 23 = .ok (.ifCond .eq 20, 3) := dk_153 0 20 (dk_at dksX0_ahead_1 0 rfl rfl)
theorem dX0_ahead_26 : decode cX0_ahead 26 = .ok (.iload_n 2, 1) := dk_28 (dk_at dksX0_ahead_1 3 rfl rfl)
theorem dX0_ahead_27 : decode cX0_ahead 27 = .ok (.iload_n 3, 1) := dk_29 (dk_at dksX0_ahead_1 4 rfl rfl)
theorem dX0_ahead_28 : decode cX0_ahead 28 = .ok (.if_icmp .eq 15, 3) := dk_159 0 15 (dk_at dksX0_ahead_1 5 rfl rfl)
theorem dX0_ahead_31 : decode cX0_ahead 31 = .ok (.iload_n 1, 1) := dk_27 (dk_at dksX0_ahead_1 8 rfl rfl)
theorem dX0_ahead_32 : decode cX0_ahead 32 = .ok (.iload_n 2, 1) := dk_28 (dk_at dksX0_ahead_1 9 rfl rfl)
theorem dX0_ahead_33 : decode cX0_ahead 33 = .ok (.ishr, 1) := dk_122 (dk_at dksX0_ahead_1 10 rfl rfl)
theorem dX0_ahead_34 : decode cX0_ahead 34 = .ok (.iload_n 1, 1) := dk_27 (dk_at dksX0_ahead_1 11 rfl rfl)
theorem dX0_ahead_35 : decode cX0_ahead 35 = .ok (.iload_n 3, 1) := dk_29 (dk_at dksX0_ahead_1 12 rfl rfl)
theorem dX0_ahead_36 : decode cX0_ahead 36 = .ok (.ishr, 1) := dk_122 (dk_at dksX0_ahead_1 13 rfl rfl)
theorem dX0_ahead_37 : decode cX0_ahead 37 = .ok (.iand, 1) := dk_126 (dk_at dksX0_ahead_1 14 rfl rfl)
theorem dX0_ahead_38 : decode cX0_ahead 38 = .ok (.iconst 1, 1) := dk_4 (dk_at dksX0_ahead_1 15 rfl rfl)
theorem dX0_ahead_39 : decode cX0_ahead 39 = .ok (.iand, 1) := dk_126 (dk_at dksX0_ahead_1 16 rfl rfl)
theorem dX0_ahead_40 : decode cX0_ahead 40 = .ok (.ifCond .ne 9, 3) := dk_154 0 9 (dk_at dksX0_ahead_1 17 rfl rfl)
theorem dX0_ahead_43 : decode cX0_ahead 43 = .ok (.aload_n 0, 1) := dk_42 (dk_at dksX0_ahead_1 20 rfl rfl)
theorem dX0_ahead_44 : decode cX0_ahead 44 = .ok (.iconst 2, 1) := dk_5 (dk_at dksX0_ahead_1 21 rfl rfl)
theorem dX0_ahead_45 : decode cX0_ahead 45 = .ok (.invokevirtual 103, 3) := dk_182 0 103 (dk_at dksX0_ahead_2 0 rfl rfl)
theorem dX0_ahead_48 : decode cX0_ahead 48 = .ok (.ireturn, 1) := dk_172 (dk_at dksX0_ahead_2 3 rfl rfl)
theorem dX0_ahead_49 : decode cX0_ahead 49 = .ok (.aload_n 0, 1) := dk_42 (dk_at dksX0_ahead_2 4 rfl rfl)
theorem dX0_ahead_50 : decode cX0_ahead 50 = .ok (.getfield 37, 3) := dk_180 0 37 (dk_at dksX0_ahead_2 5 rfl rfl)
theorem dX0_ahead_53 : decode cX0_ahead 53 = .ok (.iload_n 1, 1) := dk_27 (dk_at dksX0_ahead_2 8 rfl rfl)
theorem dX0_ahead_54 : decode cX0_ahead 54 = .ok (.invokevirtual 254, 3) := dk_182 0 254 (dk_at dksX0_ahead_2 9 rfl rfl)
theorem dX0_ahead_57 : decode cX0_ahead 57 = .ok (.ifCond .ne 10, 3) := dk_154 0 10 (dk_at dksX0_ahead_2 12 rfl rfl)
theorem dX0_ahead_60 : decode cX0_ahead 60 = .ok (.aload_n 0, 1) := dk_42 (dk_at dksX0_ahead_2 15 rfl rfl)
theorem dX0_ahead_61 : decode cX0_ahead 61 = .ok (.bipush 9, 2) := dk_16 9 (dk_at dksX0_ahead_2 16 rfl rfl)
theorem dX0_ahead_63 : decode cX0_ahead 63 = .ok (.invokevirtual 103, 3) := dk_182 0 103 (dk_at dksX0_ahead_2 18 rfl rfl)
theorem dX0_ahead_66 : decode cX0_ahead 66 = .ok (.ireturn, 1) := dk_172 (dk_at dksX0_ahead_2 21 rfl rfl)
theorem dX0_ahead_67 : decode cX0_ahead 67 = .ok (.aload_n 0, 1) := dk_42 (dk_at dksX0_ahead_2 22 rfl rfl)
theorem dX0_ahead_68 : decode cX0_ahead 68 = .ok (.iload_n 1, 1) := dk_27 (dk_at dksX0_ahead_2 23 rfl rfl)
theorem dX0_ahead_69 : decode cX0_ahead 69 = .ok (.invokevirtual 308, 3) := dk_182 1 52 (dk_at dksX0_ahead_3 0 rfl rfl)
theorem dX0_ahead_72 : decode cX0_ahead 72 = .ok (.iload_n 1, 1) := dk_27 (dk_at dksX0_ahead_3 3 rfl rfl)
theorem dX0_ahead_73 : decode cX0_ahead 73 = .ok (.istore 4, 2) := dk_54 4 (dk_at dksX0_ahead_3 4 rfl rfl)
theorem dX0_ahead_75 : decode cX0_ahead 75 = .ok (.iload 4, 2) := dk_21 4 (dk_at dksX0_ahead_3 6 rfl rfl)
theorem dX0_ahead_77 : decode cX0_ahead 77 = .ok (.ifCond .le 22, 3) := dk_158 0 22 (dk_at dksX0_ahead_3 8 rfl rfl)
theorem dX0_ahead_80 : decode cX0_ahead 80 = .ok (.aload_n 0, 1) := dk_42 (dk_at dksX0_ahead_3 11 rfl rfl)
theorem dX0_ahead_81 : decode cX0_ahead 81 = .ok (.getfield 66, 3) := dk_180 0 66 (dk_at dksX0_ahead_3 12 rfl rfl)
theorem dX0_ahead_84 : decode cX0_ahead 84 = .ok (.iload 4, 2) := dk_21 4 (dk_at dksX0_ahead_3 15 rfl rfl)
theorem dX0_ahead_86 : decode cX0_ahead 86 = .ok (.lconst 0, 1) := dk_9 (dk_at dksX0_ahead_3 17 rfl rfl)
theorem dX0_ahead_87 : decode cX0_ahead 87 = .ok (.lastore, 1) := dk_80 (dk_at dksX0_ahead_3 18 rfl rfl)
theorem dX0_ahead_88 : decode cX0_ahead 88 = .ok (.iload 4, 2) := dk_21 4 (dk_at dksX0_ahead_3 19 rfl rfl)
theorem dX0_ahead_90 : decode cX0_ahead 90 = .ok (.iconst 1, 1) := dk_4 (dk_at dksX0_ahead_3 21 rfl rfl)
theorem dX0_ahead_91 : decode cX0_ahead 91 = .ok (.isub, 1) := dk_100 (dk_at dksX0_ahead_3 22 rfl rfl)
theorem dX0_ahead_92 : decode cX0_ahead 92 = .ok (.iload_n 1, 1) := dk_27 (dk_at dksX0_ahead_3 23 rfl rfl)
theorem dX0_ahead_93 : decode cX0_ahead 93 = .ok (.iand, 1) := dk_126 (dk_at dksX0_ahead_4 0 rfl rfl)
theorem dX0_ahead_94 : decode cX0_ahead 94 = .ok (.istore 4, 2) := dk_54 4 (dk_at dksX0_ahead_4 1 rfl rfl)
theorem dX0_ahead_96 : decode cX0_ahead 96 = .ok (.goto (-21), 3) := dk_167 255 235 (dk_at dksX0_ahead_4 3 rfl rfl)
theorem dX0_ahead_99 : decode cX0_ahead 99 = .ok (.aload_n 0, 1) := dk_42 (dk_at dksX0_ahead_4 6 rfl rfl)
theorem dX0_ahead_100 : decode cX0_ahead 100 = .ok (.getfield 66, 3) := dk_180 0 66 (dk_at dksX0_ahead_4 7 rfl rfl)
theorem dX0_ahead_103 : decode cX0_ahead 103 = .ok (.iconst 0, 1) := dk_3 (dk_at dksX0_ahead_4 10 rfl rfl)
theorem dX0_ahead_104 : decode cX0_ahead 104 = .ok (.lconst 1, 1) := dk_10 (dk_at dksX0_ahead_4 11 rfl rfl)
theorem dX0_ahead_105 : decode cX0_ahead 105 = .ok (.lastore, 1) := dk_80 (dk_at dksX0_ahead_4 12 rfl rfl)
theorem dX0_ahead_106 : decode cX0_ahead 106 = .ok (.lconst 0, 1) := dk_9 (dk_at dksX0_ahead_4 13 rfl rfl)
theorem dX0_ahead_107 : decode cX0_ahead 107 = .ok (.lstore 4, 2) := dk_55 4 (dk_at dksX0_ahead_4 14 rfl rfl)
theorem dX0_ahead_109 : decode cX0_ahead 109 = .ok (.iconst 0, 1) := dk_3 (dk_at dksX0_ahead_4 16 rfl rfl)
theorem dX0_ahead_110 : decode cX0_ahead 110 = .ok (.istore 6, 2) := dk_54 6 (dk_at dksX0_ahead_4 17 rfl rfl)
theorem dX0_ahead_112 : decode cX0_ahead 112 = .ok (.iload 6, 2) := dk_21 6 (dk_at dksX0_ahead_4 19 rfl rfl)
theorem dX0_ahead_114 : decode cX0_ahead 114 = .ok (.iload_n 1, 1) := dk_27 (dk_at dksX0_ahead_4 21 rfl rfl)
theorem dX0_ahead_115 : decode cX0_ahead 115 = .ok (.if_icmp .gt 139, 3) := dk_163 0 139 (dk_at dksX0_ahead_5 0 rfl rfl)
theorem dX0_ahead_118 : decode cX0_ahead 118 = .ok (.iload 6, 2) := dk_21 6 (dk_at dksX0_ahead_5 3 rfl rfl)
theorem dX0_ahead_120 : decode cX0_ahead 120 = .ok (.iload_n 1, 1) := dk_27 (dk_at dksX0_ahead_5 5 rfl rfl)
theorem dX0_ahead_121 : decode cX0_ahead 121 = .ok (.iconst (-1), 1) := dk_2 (dk_at dksX0_ahead_5 6 rfl rfl)
theorem dX0_ahead_122 : decode cX0_ahead 122 = .ok (.ixor, 1) := dk_130 (dk_at dksX0_ahead_5 7 rfl rfl)
theorem dX0_ahead_123 : decode cX0_ahead 123 = .ok (.iand, 1) := dk_126 (dk_at dksX0_ahead_5 8 rfl rfl)
theorem dX0_ahead_124 : decode cX0_ahead 124 = .ok (.ifCond .ne 124, 3) := dk_154 0 124 (dk_at dksX0_ahead_5 9 rfl rfl)
theorem dX0_ahead_127 : decode cX0_ahead 127 = .ok (.aload_n 0, 1) := dk_42 (dk_at dksX0_ahead_5 12 rfl rfl)
theorem dX0_ahead_128 : decode cX0_ahead 128 = .ok (.getfield 66, 3) := dk_180 0 66 (dk_at dksX0_ahead_5 13 rfl rfl)
theorem dX0_ahead_131 : decode cX0_ahead 131 = .ok (.iload 6, 2) := dk_21 6 (dk_at dksX0_ahead_5 16 rfl rfl)
theorem dX0_ahead_133 : decode cX0_ahead 133 = .ok (.laload, 1) := dk_47 (dk_at dksX0_ahead_5 18 rfl rfl)
theorem dX0_ahead_134 : decode cX0_ahead 134 = .ok (.lconst 0, 1) := dk_9 (dk_at dksX0_ahead_5 19 rfl rfl)
theorem dX0_ahead_135 : decode cX0_ahead 135 = .ok (.lcmp, 1) := dk_148 (dk_at dksX0_ahead_5 20 rfl rfl)
theorem dX0_ahead_136 : decode cX0_ahead 136 = .ok (.ifCond .ne 6, 3) := dk_154 0 6 (dk_at dksX0_ahead_5 21 rfl rfl)
theorem dX0_ahead_139 : decode cX0_ahead 139 = .ok (.goto 109, 3) := dk_167 0 109 (dk_at dksX0_ahead_6 0 rfl rfl)
theorem dX0_ahead_142 : decode cX0_ahead 142 = .ok (.iconst 0, 1) := dk_3 (dk_at dksX0_ahead_6 3 rfl rfl)
theorem dX0_ahead_143 : decode cX0_ahead 143 = .ok (.istore 7, 2) := dk_54 7 (dk_at dksX0_ahead_6 4 rfl rfl)
theorem dX0_ahead_145 : decode cX0_ahead 145 = .ok (.iload 7, 2) := dk_21 7 (dk_at dksX0_ahead_6 6 rfl rfl)
theorem dX0_ahead_147 : decode cX0_ahead 147 = .ok (.aload_n 0, 1) := dk_42 (dk_at dksX0_ahead_6 8 rfl rfl)
theorem dX0_ahead_148 : decode cX0_ahead 148 = .ok (.getfield 37, 3) := dk_180 0 37 (dk_at dksX0_ahead_6 9 rfl rfl)
theorem dX0_ahead_151 : decode cX0_ahead 151 = .ok (.getfield 149, 3) := dk_180 0 149 (dk_at dksX0_ahead_6 12 rfl rfl)
theorem dX0_ahead_154 : decode cX0_ahead 154 = .ok (.if_icmp .ge 94, 3) := dk_162 0 94 (dk_at dksX0_ahead_6 15 rfl rfl)
theorem dX0_ahead_157 : decode cX0_ahead 157 = .ok (.iload_n 1, 1) := dk_27 (dk_at dksX0_ahead_6 18 rfl rfl)
theorem dX0_ahead_158 : decode cX0_ahead 158 = .ok (.iload 7, 2) := dk_21 7 (dk_at dksX0_ahead_6 19 rfl rfl)
theorem dX0_ahead_160 : decode cX0_ahead 160 = .ok (.ishr, 1) := dk_122 (dk_at dksX0_ahead_6 21 rfl rfl)
theorem dX0_ahead_161 : decode cX0_ahead 161 = .ok (.iconst 1, 1) := dk_4 (dk_at dksX0_ahead_6 22 rfl rfl)
theorem dX0_ahead_162 : decode cX0_ahead 162 = .ok (.iand, 1) := dk_126 (dk_at dksX0_ahead_6 23 rfl rfl)
theorem dX0_ahead_163 : decode cX0_ahead 163 = .ok (.ifCond .eq 79, 3) := dk_153 0 79 (dk_at dksX0_ahead_7 0 rfl rfl)
theorem dX0_ahead_166 : decode cX0_ahead 166 = .ok (.aload_n 0, 1) := dk_42 (dk_at dksX0_ahead_7 3 rfl rfl)
theorem dX0_ahead_167 : decode cX0_ahead 167 = .ok (.iload 6, 2) := dk_21 6 (dk_at dksX0_ahead_7 4 rfl rfl)
theorem dX0_ahead_169 : decode cX0_ahead 169 = .ok (.iload 7, 2) := dk_21 7 (dk_at dksX0_ahead_7 6 rfl rfl)
theorem dX0_ahead_171 : decode cX0_ahead 171 = .ok (.invokevirtual 305, 3) := dk_182 1 49 (dk_at dksX0_ahead_7 8 rfl rfl)
theorem dX0_ahead_174 : decode cX0_ahead 174 = .ok (.ifCond .ne 6, 3) := dk_154 0 6 (dk_at dksX0_ahead_7 11 rfl rfl)
theorem dX0_ahead_177 : decode cX0_ahead 177 = .ok (.goto 65, 3) := dk_167 0 65 (dk_at dksX0_ahead_7 14 rfl rfl)
theorem dX0_ahead_180 : decode cX0_ahead 180 = .ok (.aload_n 0, 1) := dk_42 (dk_at dksX0_ahead_7 17 rfl rfl)
theorem dX0_ahead_181 : decode cX0_ahead 181 = .ok (.getfield 66, 3) := dk_180 0 66 (dk_at dksX0_ahead_7 18 rfl rfl)
theorem dX0_ahead_184 : decode cX0_ahead 184 = .ok (.iload 6, 2) := dk_21 6 (dk_at dksX0_ahead_7 21 rfl rfl)
theorem dX0_ahead_186 : decode cX0_ahead 186 = .ok (.iconst 1, 1) := dk_4 (dk_at dksX0_ahead_7 23 rfl rfl)
theorem dX0_ahead_187 : decode cX0_ahead 187 = .ok (.iload 7, 2) := dk_21 7 (dk_at dksX0_ahead_8 0 rfl rfl)
theorem dX0_ahead_189 : decode cX0_ahead 189 = .ok (.ishl, 1) := dk_120 (dk_at dksX0_ahead_8 2 rfl rfl)
theorem dX0_ahead_190 : decode cX0_ahead 190 = .ok (.ior, 1) := dk_128 (dk_at dksX0_ahead_8 3 rfl rfl)
theorem dX0_ahead_191 : decode cX0_ahead 191 = .ok (.dup2, 1) := dk_92 (dk_at dksX0_ahead_8 4 rfl rfl)
theorem dX0_ahead_192 : decode cX0_ahead 192 = .ok (.laload, 1) := dk_47 (dk_at dksX0_ahead_8 5 rfl rfl)
theorem dX0_ahead_193 : decode cX0_ahead 193 = .ok (.aload_n 0, 1) := dk_42 (dk_at dksX0_ahead_8 6 rfl rfl)
theorem dX0_ahead_194 : decode cX0_ahead 194 = .ok (.getfield 66, 3) := dk_180 0 66 (dk_at dksX0_ahead_8 7 rfl rfl)
theorem dX0_ahead_197 : decode cX0_ahead 197 = .ok (.iload 6, 2) := dk_21 6 (dk_at dksX0_ahead_8 10 rfl rfl)
theorem dX0_ahead_199 : decode cX0_ahead 199 = .ok (.laload, 1) := dk_47 (dk_at dksX0_ahead_8 12 rfl rfl)
theorem dX0_ahead_200 : decode cX0_ahead 200 = .ok (.ladd, 1) := dk_97 (dk_at dksX0_ahead_8 13 rfl rfl)
theorem dX0_ahead_201 : decode cX0_ahead 201 = .ok (.lastore, 1) := dk_80 (dk_at dksX0_ahead_8 14 rfl rfl)
theorem dX0_ahead_202 : decode cX0_ahead 202 = .ok (.iload 7, 2) := dk_21 7 (dk_at dksX0_ahead_8 15 rfl rfl)
theorem dX0_ahead_204 : decode cX0_ahead 204 = .ok (.iload_n 2, 1) := dk_28 (dk_at dksX0_ahead_8 17 rfl rfl)
theorem dX0_ahead_205 : decode cX0_ahead 205 = .ok (.if_icmp .ne 37, 3) := dk_160 0 37 (dk_at dksX0_ahead_8 18 rfl rfl)
theorem dX0_ahead_208 : decode cX0_ahead 208 = .ok (.iload 6, 2) := dk_21 6 (dk_at dksX0_ahead_8 21 rfl rfl)
theorem dX0_ahead_210 : decode cX0_ahead 210 = .ok (.iload_n 3, 1) := dk_29 (dk_at dksX0_ahead_8 23 rfl rfl)
theorem dX0_ahead_211 : decode cX0_ahead 211 = .ok (.ishr, 1) := dk_122 (dk_at dksX0_ahead_9 0 rfl rfl)
theorem dX0_ahead_212 : decode cX0_ahead 212 = .ok (.iconst 1, 1) := dk_4 (dk_at dksX0_ahead_9 1 rfl rfl)
theorem dX0_ahead_213 : decode cX0_ahead 213 = .ok (.iand, 1) := dk_126 (dk_at dksX0_ahead_9 2 rfl rfl)
theorem dX0_ahead_214 : decode cX0_ahead 214 = .ok (.ifCond .ne 28, 3) := dk_154 0 28 (dk_at dksX0_ahead_9 3 rfl rfl)
theorem dX0_ahead_217 : decode cX0_ahead 217 = .ok (.lload 4, 2) := dk_22 4 (dk_at dksX0_ahead_9 6 rfl rfl)
theorem dX0_ahead_219 : decode cX0_ahead 219 = .ok (.aload_n 0, 1) := dk_42 (dk_at dksX0_ahead_9 8 rfl rfl)
theorem dX0_ahead_220 : decode cX0_ahead 220 = .ok (.getfield 66, 3) := dk_180 0 66 (dk_at dksX0_ahead_9 9 rfl rfl)
theorem dX0_ahead_223 : decode cX0_ahead 223 = .ok (.iload 6, 2) := dk_21 6 (dk_at dksX0_ahead_9 12 rfl rfl)
theorem dX0_ahead_225 : decode cX0_ahead 225 = .ok (.laload, 1) := dk_47 (dk_at dksX0_ahead_9 14 rfl rfl)
theorem dX0_ahead_226 : decode cX0_ahead 226 = .ok (.aload_n 0, 1) := dk_42 (dk_at dksX0_ahead_9 15 rfl rfl)
theorem dX0_ahead_227 : decode cX0_ahead 227 = .ok (.getfield 62, 3) := dk_180 0 62 (dk_at dksX0_ahead_9 16 rfl rfl)
theorem dX0_ahead_230 : decode cX0_ahead 230 = .ok (.iload 6, 2) := dk_21 6 (dk_at dksX0_ahead_9 19 rfl rfl)
theorem dX0_ahead_232 : decode cX0_ahead 232 = .ok (.iconst 1, 1) := dk_4 (dk_at dksX0_ahead_9 21 rfl rfl)
theorem dX0_ahead_233 : decode cX0_ahead 233 = .ok (.iload 7, 2) := dk_21 7 (dk_at dksX0_ahead_9 22 rfl rfl)
theorem dX0_ahead_235 : decode cX0_ahead 235 = .ok (.ishl, 1) := dk_120 (dk_at dksX0_ahead_10 0 rfl rfl)
theorem dX0_ahead_236 : decode cX0_ahead 236 = .ok (.ior, 1) := dk_128 (dk_at dksX0_ahead_10 1 rfl rfl)
theorem dX0_ahead_237 : decode cX0_ahead 237 = .ok (.laload, 1) := dk_47 (dk_at dksX0_ahead_10 2 rfl rfl)
theorem dX0_ahead_238 : decode cX0_ahead 238 = .ok (.lmul, 1) := dk_105 (dk_at dksX0_ahead_10 3 rfl rfl)
theorem dX0_ahead_239 : decode cX0_ahead 239 = .ok (.ladd, 1) := dk_97 (dk_at dksX0_ahead_10 4 rfl rfl)
theorem dX0_ahead_240 : decode cX0_ahead 240 = .ok (.lstore 4, 2) := dk_55 4 (dk_at dksX0_ahead_10 5 rfl rfl)
theorem dX0_ahead_242 : decode cX0_ahead 242 = .ok (.iinc 7 1, 3) := dk_132 7 1 (dk_at dksX0_ahead_10 7 rfl rfl)
theorem dX0_ahead_245 : decode cX0_ahead 245 = .ok (.goto (-100), 3) := dk_167 255 156 (dk_at dksX0_ahead_10 10 rfl rfl)
theorem dX0_ahead_248 : decode cX0_ahead 248 = .ok (.iinc 6 1, 3) := dk_132 6 1 (dk_at dksX0_ahead_10 13 rfl rfl)
theorem dX0_ahead_251 : decode cX0_ahead 251 = .ok (.goto (-139), 3) := dk_167 255 117 (dk_at dksX0_ahead_10 16 rfl rfl)
theorem dX0_ahead_254 : decode cX0_ahead 254 = .ok (.aload_n 0, 1) := dk_42 (dk_at dksX0_ahead_10 19 rfl rfl)
theorem dX0_ahead_255 : decode cX0_ahead 255 = .ok (.lload 4, 2) := dk_22 4 (dk_at dksX0_ahead_10 20 rfl rfl)
theorem dX0_ahead_257 : decode cX0_ahead 257 = .ok (.aload_n 0, 1) := dk_42 (dk_at dksX0_ahead_10 22 rfl rfl)
theorem dX0_ahead_258 : decode cX0_ahead 258 = .ok (.getfield 62, 3) := dk_180 0 62 (dk_at dksX0_ahead_11 0 rfl rfl)
theorem dX0_ahead_261 : decode cX0_ahead 261 = .ok (.iconst 0, 1) := dk_3 (dk_at dksX0_ahead_11 3 rfl rfl)
theorem dX0_ahead_262 : decode cX0_ahead 262 = .ok (.laload, 1) := dk_47 (dk_at dksX0_ahead_11 4 rfl rfl)
theorem dX0_ahead_263 : decode cX0_ahead 263 = .ok (.invokevirtual 311, 3) := dk_182 1 55 (dk_at dksX0_ahead_11 5 rfl rfl)
theorem dX0_ahead_266 : decode cX0_ahead 266 = .ok (.ireturn, 1) := dk_172 (dk_at dksX0_ahead_11 8 rfl rfl)
abbrev cX0_tell : ByteArray := prog_1_method_8_code
def yX0_tell : MethodName := ⟨RX0, "tell", "(JJ)Z"⟩
def dkwX0_tell_2 : List UInt8 := [3, 182, 0, 103, 172]
abbrev dktX0_tell_2 : List UInt8 := dkwX0_tell_2 ++ []
def dkwX0_tell_1 : List UInt8 := [22, 9, 55, 7, 167, 255, 234, 42, 31, 22, 5, 109, 181, 0, 100, 42, 33, 22, 5, 109, 181, 0, 48, 42]
abbrev dktX0_tell_1 : List UInt8 := dkwX0_tell_1 ++ dktX0_tell_2
def dkwX0_tell_0 : List UInt8 := [31, 55, 5, 33, 55, 7, 22, 7, 9, 148, 153, 0, 21, 22, 5, 22, 7, 113, 55, 9, 22, 7, 55, 5]
abbrev dktX0_tell_0 : List UInt8 := dkwX0_tell_0 ++ dktX0_tell_1
theorem dksX0_tell_0 : cX0_tell.data.toList.drop 0 = dktX0_tell_0 := by decide +kernel
theorem dksX0_tell_1 : cX0_tell.data.toList.drop 24 = dktX0_tell_1 := dk_seg dksX0_tell_0 24 rfl rfl
theorem dksX0_tell_2 : cX0_tell.data.toList.drop 48 = dktX0_tell_2 := dk_seg dksX0_tell_1 24 rfl rfl
theorem dX0_tell_0 : decode cX0_tell 0 = .ok (.lload_n 1, 1) := dk_31 (dk_at dksX0_tell_0 0 rfl rfl)
theorem dX0_tell_1 : decode cX0_tell 1 = .ok (.lstore 5, 2) := dk_55 5 (dk_at dksX0_tell_0 1 rfl rfl)
theorem dX0_tell_3 : decode cX0_tell 3 = .ok (.lload_n 3, 1) := dk_33 (dk_at dksX0_tell_0 3 rfl rfl)
theorem dX0_tell_4 : decode cX0_tell 4 = .ok (.lstore 7, 2) := dk_55 7 (dk_at dksX0_tell_0 4 rfl rfl)
theorem dX0_tell_6 : decode cX0_tell 6 = .ok (.lload 7, 2) := dk_22 7 (dk_at dksX0_tell_0 6 rfl rfl)
theorem dX0_tell_8 : decode cX0_tell 8 = .ok (.lconst 0, 1) := dk_9 (dk_at dksX0_tell_0 8 rfl rfl)
theorem dX0_tell_9 : decode cX0_tell 9 = .ok (.lcmp, 1) := dk_148 (dk_at dksX0_tell_0 9 rfl rfl)
theorem dX0_tell_10 : decode cX0_tell 10 = .ok (.ifCond .eq 21, 3) := dk_153 0 21 (dk_at dksX0_tell_0 10 rfl rfl)
theorem dX0_tell_13 : decode cX0_tell 13 = .ok (.lload 5, 2) := dk_22 5 (dk_at dksX0_tell_0 13 rfl rfl)
theorem dX0_tell_15 : decode cX0_tell 15 = .ok (.lload 7, 2) := dk_22 7 (dk_at dksX0_tell_0 15 rfl rfl)
theorem dX0_tell_17 : decode cX0_tell 17 = .ok (.lrem, 1) := dk_113 (dk_at dksX0_tell_0 17 rfl rfl)
theorem dX0_tell_18 : decode cX0_tell 18 = .ok (.lstore 9, 2) := dk_55 9 (dk_at dksX0_tell_0 18 rfl rfl)
theorem dX0_tell_20 : decode cX0_tell 20 = .ok (.lload 7, 2) := dk_22 7 (dk_at dksX0_tell_0 20 rfl rfl)
theorem dX0_tell_22 : decode cX0_tell 22 = .ok (.lstore 5, 2) := dk_55 5 (dk_at dksX0_tell_0 22 rfl rfl)
theorem dX0_tell_24 : decode cX0_tell 24 = .ok (.lload 9, 2) := dk_22 9 (dk_at dksX0_tell_1 0 rfl rfl)
theorem dX0_tell_26 : decode cX0_tell 26 = .ok (.lstore 7, 2) := dk_55 7 (dk_at dksX0_tell_1 2 rfl rfl)
theorem dX0_tell_28 : decode cX0_tell 28 = .ok (.goto (-22), 3) := dk_167 255 234 (dk_at dksX0_tell_1 4 rfl rfl)
theorem dX0_tell_31 : decode cX0_tell 31 = .ok (.aload_n 0, 1) := dk_42 (dk_at dksX0_tell_1 7 rfl rfl)
theorem dX0_tell_32 : decode cX0_tell 32 = .ok (.lload_n 1, 1) := dk_31 (dk_at dksX0_tell_1 8 rfl rfl)
theorem dX0_tell_33 : decode cX0_tell 33 = .ok (.lload 5, 2) := dk_22 5 (dk_at dksX0_tell_1 9 rfl rfl)
theorem dX0_tell_35 : decode cX0_tell 35 = .ok (.ldiv, 1) := dk_109 (dk_at dksX0_tell_1 11 rfl rfl)
theorem dX0_tell_36 : decode cX0_tell 36 = .ok (.putfield 100, 3) := dk_181 0 100 (dk_at dksX0_tell_1 12 rfl rfl)
theorem dX0_tell_39 : decode cX0_tell 39 = .ok (.aload_n 0, 1) := dk_42 (dk_at dksX0_tell_1 15 rfl rfl)
theorem dX0_tell_40 : decode cX0_tell 40 = .ok (.lload_n 3, 1) := dk_33 (dk_at dksX0_tell_1 16 rfl rfl)
theorem dX0_tell_41 : decode cX0_tell 41 = .ok (.lload 5, 2) := dk_22 5 (dk_at dksX0_tell_1 17 rfl rfl)
theorem dX0_tell_43 : decode cX0_tell 43 = .ok (.ldiv, 1) := dk_109 (dk_at dksX0_tell_1 19 rfl rfl)
theorem dX0_tell_44 : decode cX0_tell 44 = .ok (.putfield 48, 3) := dk_181 0 48 (dk_at dksX0_tell_1 20 rfl rfl)
theorem dX0_tell_47 : decode cX0_tell 47 = .ok (.aload_n 0, 1) := dk_42 (dk_at dksX0_tell_1 23 rfl rfl)
theorem dX0_tell_48 : decode cX0_tell 48 = .ok (.iconst 0, 1) := dk_3 (dk_at dksX0_tell_2 0 rfl rfl)
theorem dX0_tell_49 : decode cX0_tell 49 = .ok (.invokevirtual 103, 3) := dk_182 0 103 (dk_at dksX0_tell_2 1 rfl rfl)
theorem dX0_tell_52 : decode cX0_tell 52 = .ok (.ireturn, 1) := dk_172 (dk_at dksX0_tell_2 4 rfl rfl)
abbrev cX0_ordered : ByteArray := prog_1_method_59_code
def yX0_ordered : MethodName := ⟨RX0, "ordered", "(IJ)I"⟩
def dkwX0_ordered_7 : List UInt8 := [181, 0, 187, 21, 7, 4, 21, 8, 120, 128, 54, 7, 167, 255, 135, 42, 42, 180, 0, 187, 182, 0, 197, 172]
abbrev dktX0_ordered_7 : List UInt8 := dkwX0_ordered_7 ++ []
def dkwX0_ordered_6 : List UInt8 := [132, 8, 1, 167, 255, 177, 42, 180, 0, 31, 42, 180, 0, 187, 21, 8, 79, 42, 89, 180, 0, 187, 4, 96]
abbrev dktX0_ordered_6 : List UInt8 := dkwX0_ordered_6 ++ dktX0_ordered_7
def dkwX0_ordered_5 : List UInt8 := [182, 1, 49, 153, 0, 20, 22, 5, 42, 180, 0, 62, 21, 7, 4, 21, 8, 120, 128, 47, 101, 55, 5]
abbrev dktX0_ordered_5 : List UInt8 := dkwX0_ordered_5 ++ dktX0_ordered_6
def dkwX0_ordered_4 : List UInt8 := [21, 8, 120, 128, 47, 148, 155, 0, 47, 27, 21, 8, 122, 4, 126, 4, 160, 0, 31, 42, 21, 7, 21, 8]
abbrev dktX0_ordered_4 : List UInt8 := dkwX0_ordered_4 ++ dktX0_ordered_5
def dkwX0_ordered_3 : List UInt8 := [126, 153, 0, 32, 42, 21, 7, 21, 8, 182, 1, 49, 153, 0, 21, 22, 5, 42, 180, 0, 62, 21, 7, 4]
abbrev dktX0_ordered_3 : List UInt8 := dkwX0_ordered_3 ++ dktX0_ordered_4
def dkwX0_ordered_2 : List UInt8 := [55, 5, 3, 54, 7, 42, 3, 181, 0, 187, 21, 7, 27, 159, 0, 121, 3, 54, 8, 27, 21, 8, 122, 4]
abbrev dktX0_ordered_2 : List UInt8 := dkwX0_ordered_2 ++ dktX0_ordered_3
def dkwX0_ordered_1 : List UInt8 := [32, 9, 148, 155, 0, 14, 32, 42, 180, 0, 62, 3, 47, 148, 155, 0, 9, 42, 8, 182, 0, 124, 172, 32]
abbrev dktX0_ordered_1 : List UInt8 := dkwX0_ordered_1 ++ dktX0_ordered_2
def dkwX0_ordered_0 : List UInt8 := [42, 27, 182, 1, 14, 54, 4, 21, 4, 158, 0, 10, 42, 21, 4, 182, 0, 124, 172, 42, 27, 182, 1, 52]
abbrev dktX0_ordered_0 : List UInt8 := dkwX0_ordered_0 ++ dktX0_ordered_1
theorem dksX0_ordered_0 : cX0_ordered.data.toList.drop 0 = dktX0_ordered_0 := by decide +kernel
theorem dksX0_ordered_1 : cX0_ordered.data.toList.drop 24 = dktX0_ordered_1 := dk_seg dksX0_ordered_0 24 rfl rfl
theorem dksX0_ordered_2 : cX0_ordered.data.toList.drop 48 = dktX0_ordered_2 := dk_seg dksX0_ordered_1 24 rfl rfl
theorem dksX0_ordered_3 : cX0_ordered.data.toList.drop 72 = dktX0_ordered_3 := dk_seg dksX0_ordered_2 24 rfl rfl
theorem dksX0_ordered_4 : cX0_ordered.data.toList.drop 96 = dktX0_ordered_4 := dk_seg dksX0_ordered_3 24 rfl rfl
theorem dksX0_ordered_5 : cX0_ordered.data.toList.drop 120 = dktX0_ordered_5 := dk_seg dksX0_ordered_4 24 rfl rfl
theorem dksX0_ordered_6 : cX0_ordered.data.toList.drop 143 = dktX0_ordered_6 := dk_seg dksX0_ordered_5 23 rfl rfl
theorem dksX0_ordered_7 : cX0_ordered.data.toList.drop 167 = dktX0_ordered_7 := dk_seg dksX0_ordered_6 24 rfl rfl
theorem dX0_ordered_0 : decode cX0_ordered 0 = .ok (.aload_n 0, 1) := dk_42 (dk_at dksX0_ordered_0 0 rfl rfl)
theorem dX0_ordered_1 : decode cX0_ordered 1 = .ok (.iload_n 1, 1) := dk_27 (dk_at dksX0_ordered_0 1 rfl rfl)
theorem dX0_ordered_2 : decode cX0_ordered 2 = .ok (.invokevirtual 270, 3) := dk_182 1 14 (dk_at dksX0_ordered_0 2 rfl rfl)
theorem dX0_ordered_5 : decode cX0_ordered 5 = .ok (.istore 4, 2) := dk_54 4 (dk_at dksX0_ordered_0 5 rfl rfl)
theorem dX0_ordered_7 : decode cX0_ordered 7 = .ok (.iload 4, 2) := dk_21 4 (dk_at dksX0_ordered_0 7 rfl rfl)
theorem dX0_ordered_9 : decode cX0_ordered 9 = .ok (.ifCond .le 10, 3) := dk_158 0 10 (dk_at dksX0_ordered_0 9 rfl rfl)
theorem dX0_ordered_12 : decode cX0_ordered 12 = .ok (.aload_n 0, 1) := dk_42 (dk_at dksX0_ordered_0 12 rfl rfl)
theorem dX0_ordered_13 : decode cX0_ordered 13 = .ok (.iload 4, 2) := dk_21 4 (dk_at dksX0_ordered_0 13 rfl rfl)
theorem dX0_ordered_15 : decode cX0_ordered 15 = .ok (.invokevirtual 124, 3) := dk_182 0 124 (dk_at dksX0_ordered_0 15 rfl rfl)
theorem dX0_ordered_18 : decode cX0_ordered 18 = .ok (.ireturn, 1) := dk_172 (dk_at dksX0_ordered_0 18 rfl rfl)
theorem dX0_ordered_19 : decode cX0_ordered 19 = .ok (.aload_n 0, 1) := dk_42 (dk_at dksX0_ordered_0 19 rfl rfl)
theorem dX0_ordered_20 : decode cX0_ordered 20 = .ok (.iload_n 1, 1) := dk_27 (dk_at dksX0_ordered_0 20 rfl rfl)
theorem dX0_ordered_21 : decode cX0_ordered 21 = .ok (.invokevirtual 308, 3) := dk_182 1 52 (dk_at dksX0_ordered_0 21 rfl rfl)
theorem dX0_ordered_24 : decode cX0_ordered 24 = .ok (.lload_n 2, 1) := dk_32 (dk_at dksX0_ordered_1 0 rfl rfl)
theorem dX0_ordered_25 : decode cX0_ordered 25 = .ok (.lconst 0, 1) := dk_9 (dk_at dksX0_ordered_1 1 rfl rfl)
theorem dX0_ordered_26 : decode cX0_ordered 26 = .ok (.lcmp, 1) := dk_148 (dk_at dksX0_ordered_1 2 rfl rfl)
theorem dX0_ordered_27 : decode cX0_ordered 27 = .ok (.ifCond .lt 14, 3) := dk_155 0 14 (dk_at dksX0_ordered_1 3 rfl rfl)
theorem dX0_ordered_30 : decode cX0_ordered 30 = .ok (.lload_n 2, 1) := dk_32 (dk_at dksX0_ordered_1 6 rfl rfl)
theorem dX0_ordered_31 : decode cX0_ordered 31 = .ok (.aload_n 0, 1) := dk_42 (dk_at dksX0_ordered_1 7 rfl rfl)
theorem dX0_ordered_32 : decode cX0_ordered 32 = .ok (.getfield 62, 3) := dk_180 0 62 (dk_at dksX0_ordered_1 8 rfl rfl)
theorem dX0_ordered_35 : decode cX0_ordered 35 = .ok (.iconst 0, 1) := dk_3 (dk_at dksX0_ordered_1 11 rfl rfl)
theorem dX0_ordered_36 : decode cX0_ordered 36 = .ok (.laload, 1) := dk_47 (dk_at dksX0_ordered_1 12 rfl rfl)
theorem dX0_ordered_37 : decode cX0_ordered 37 = .ok (.lcmp, 1) := dk_148 (dk_at dksX0_ordered_1 13 rfl rfl)
theorem dX0_ordered_38 : decode cX0_ordered 38 = .ok (.ifCond .lt 9, 3) := dk_155 0 9 (dk_at dksX0_ordered_1 14 rfl rfl)
theorem dX0_ordered_41 : decode cX0_ordered 41 = .ok (.aload_n 0, 1) := dk_42 (dk_at dksX0_ordered_1 17 rfl rfl)
theorem dX0_ordered_42 : decode cX0_ordered 42 = .ok (.iconst 5, 1) := dk_8 (dk_at dksX0_ordered_1 18 rfl rfl)
theorem dX0_ordered_43 : decode cX0_ordered 43 = .ok (.invokevirtual 124, 3) := dk_182 0 124 (dk_at dksX0_ordered_1 19 rfl rfl)
theorem dX0_ordered_46 : decode cX0_ordered 46 = .ok (.ireturn, 1) := dk_172 (dk_at dksX0_ordered_1 22 rfl rfl)
theorem dX0_ordered_47 : decode cX0_ordered 47 = .ok (.lload_n 2, 1) := dk_32 (dk_at dksX0_ordered_1 23 rfl rfl)
theorem dX0_ordered_48 : decode cX0_ordered 48 = .ok (.lstore 5, 2) := dk_55 5 (dk_at dksX0_ordered_2 0 rfl rfl)
theorem dX0_ordered_50 : decode cX0_ordered 50 = .ok (.iconst 0, 1) := dk_3 (dk_at dksX0_ordered_2 2 rfl rfl)
theorem dX0_ordered_51 : decode cX0_ordered 51 = .ok (.istore 7, 2) := dk_54 7 (dk_at dksX0_ordered_2 3 rfl rfl)
theorem dX0_ordered_53 : decode cX0_ordered 53 = .ok (.aload_n 0, 1) := dk_42 (dk_at dksX0_ordered_2 5 rfl rfl)
theorem dX0_ordered_54 : decode cX0_ordered 54 = .ok (.iconst 0, 1) := dk_3 (dk_at dksX0_ordered_2 6 rfl rfl)
theorem dX0_ordered_55 : decode cX0_ordered 55 = .ok (.putfield 187, 3) := dk_181 0 187 (dk_at dksX0_ordered_2 7 rfl rfl)
theorem dX0_ordered_58 : decode cX0_ordered 58 = .ok (.iload 7, 2) := dk_21 7 (dk_at dksX0_ordered_2 10 rfl rfl)
theorem dX0_ordered_60 : decode cX0_ordered 60 = .ok (.iload_n 1, 1) := dk_27 (dk_at dksX0_ordered_2 12 rfl rfl)
theorem dX0_ordered_61 : decode cX0_ordered 61 = .ok (.if_icmp .eq 121, 3) := dk_159 0 121 (dk_at dksX0_ordered_2 13 rfl rfl)
theorem dX0_ordered_64 : decode cX0_ordered 64 = .ok (.iconst 0, 1) := dk_3 (dk_at dksX0_ordered_2 16 rfl rfl)
theorem dX0_ordered_65 : decode cX0_ordered 65 = .ok (.istore 8, 2) := dk_54 8 (dk_at dksX0_ordered_2 17 rfl rfl)
theorem dX0_ordered_67 : decode cX0_ordered 67 = .ok (.iload_n 1, 1) := dk_27 (dk_at dksX0_ordered_2 19 rfl rfl)
theorem dX0_ordered_68 : decode cX0_ordered 68 = .ok (.iload 8, 2) := dk_21 8 (dk_at dksX0_ordered_2 20 rfl rfl)
theorem dX0_ordered_70 : decode cX0_ordered 70 = .ok (.ishr, 1) := dk_122 (dk_at dksX0_ordered_2 22 rfl rfl)
theorem dX0_ordered_71 : decode cX0_ordered 71 = .ok (.iconst 1, 1) := dk_4 (dk_at dksX0_ordered_2 23 rfl rfl)
theorem dX0_ordered_72 : decode cX0_ordered 72 = .ok (.iand, 1) := dk_126 (dk_at dksX0_ordered_3 0 rfl rfl)
theorem dX0_ordered_73 : decode cX0_ordered 73 = .ok (.ifCond .eq 32, 3) := dk_153 0 32 (dk_at dksX0_ordered_3 1 rfl rfl)
theorem dX0_ordered_76 : decode cX0_ordered 76 = .ok (.aload_n 0, 1) := dk_42 (dk_at dksX0_ordered_3 4 rfl rfl)
theorem dX0_ordered_77 : decode cX0_ordered 77 = .ok (.iload 7, 2) := dk_21 7 (dk_at dksX0_ordered_3 5 rfl rfl)
theorem dX0_ordered_79 : decode cX0_ordered 79 = .ok (.iload 8, 2) := dk_21 8 (dk_at dksX0_ordered_3 7 rfl rfl)
theorem dX0_ordered_81 : decode cX0_ordered 81 = .ok (.invokevirtual 305, 3) := dk_182 1 49 (dk_at dksX0_ordered_3 9 rfl rfl)
theorem dX0_ordered_84 : decode cX0_ordered 84 = .ok (.ifCond .eq 21, 3) := dk_153 0 21 (dk_at dksX0_ordered_3 12 rfl rfl)
theorem dX0_ordered_87 : decode cX0_ordered 87 = .ok (.lload 5, 2) := dk_22 5 (dk_at dksX0_ordered_3 15 rfl rfl)
theorem dX0_ordered_89 : decode cX0_ordered 89 = .ok (.aload_n 0, 1) := dk_42 (dk_at dksX0_ordered_3 17 rfl rfl)
theorem dX0_ordered_90 : decode cX0_ordered 90 = .ok (.getfield 62, 3) := dk_180 0 62 (dk_at dksX0_ordered_3 18 rfl rfl)
theorem dX0_ordered_93 : decode cX0_ordered 93 = .ok (.iload 7, 2) := dk_21 7 (dk_at dksX0_ordered_3 21 rfl rfl)
theorem dX0_ordered_95 : decode cX0_ordered 95 = .ok (.iconst 1, 1) := dk_4 (dk_at dksX0_ordered_3 23 rfl rfl)
theorem dX0_ordered_96 : decode cX0_ordered 96 = .ok (.iload 8, 2) := dk_21 8 (dk_at dksX0_ordered_4 0 rfl rfl)
theorem dX0_ordered_98 : decode cX0_ordered 98 = .ok (.ishl, 1) := dk_120 (dk_at dksX0_ordered_4 2 rfl rfl)
theorem dX0_ordered_99 : decode cX0_ordered 99 = .ok (.ior, 1) := dk_128 (dk_at dksX0_ordered_4 3 rfl rfl)
theorem dX0_ordered_100 : decode cX0_ordered 100 = .ok (.laload, 1) := dk_47 (dk_at dksX0_ordered_4 4 rfl rfl)
theorem dX0_ordered_101 : decode cX0_ordered 101 = .ok (.lcmp, 1) := dk_148 (dk_at dksX0_ordered_4 5 rfl rfl)
theorem dX0_ordered_102 : decode cX0_ordered 102 = .ok (.ifCond .lt 47, 3) := dk_155 0 47 (dk_at dksX0_ordered_4 6 rfl rfl)
theorem dX0_ordered_105 : decode cX0_ordered 105 = .ok (.iload_n 1, 1) := dk_27 (dk_at dksX0_ordered_4 9 rfl rfl)
theorem dX0_ordered_106 : decode cX0_ordered 106 = .ok (.iload 8, 2) := dk_21 8 (dk_at dksX0_ordered_4 10 rfl rfl)
theorem dX0_ordered_108 : decode cX0_ordered 108 = .ok (.ishr, 1) := dk_122 (dk_at dksX0_ordered_4 12 rfl rfl)
theorem dX0_ordered_109 : decode cX0_ordered 109 = .ok (.iconst 1, 1) := dk_4 (dk_at dksX0_ordered_4 13 rfl rfl)
theorem dX0_ordered_110 : decode cX0_ordered 110 = .ok (.iand, 1) := dk_126 (dk_at dksX0_ordered_4 14 rfl rfl)
theorem dX0_ordered_111 : decode cX0_ordered 111 = .ok (.iconst 1, 1) := dk_4 (dk_at dksX0_ordered_4 15 rfl rfl)
theorem dX0_ordered_112 : decode cX0_ordered 112 = .ok (.if_icmp .ne 31, 3) := dk_160 0 31 (dk_at dksX0_ordered_4 16 rfl rfl)
theorem dX0_ordered_115 : decode cX0_ordered 115 = .ok (.aload_n 0, 1) := dk_42 (dk_at dksX0_ordered_4 19 rfl rfl)
theorem dX0_ordered_116 : decode cX0_ordered 116 = .ok (.iload 7, 2) := dk_21 7 (dk_at dksX0_ordered_4 20 rfl rfl)
theorem dX0_ordered_118 : decode cX0_ordered 118 = .ok (.iload 8, 2) := dk_21 8 (dk_at dksX0_ordered_4 22 rfl rfl)
theorem dX0_ordered_120 : decode cX0_ordered 120 = .ok (.invokevirtual 305, 3) := dk_182 1 49 (dk_at dksX0_ordered_5 0 rfl rfl)
theorem dX0_ordered_123 : decode cX0_ordered 123 = .ok (.ifCond .eq 20, 3) := dk_153 0 20 (dk_at dksX0_ordered_5 3 rfl rfl)
theorem dX0_ordered_126 : decode cX0_ordered 126 = .ok (.lload 5, 2) := dk_22 5 (dk_at dksX0_ordered_5 6 rfl rfl)
theorem dX0_ordered_128 : decode cX0_ordered 128 = .ok (.aload_n 0, 1) := dk_42 (dk_at dksX0_ordered_5 8 rfl rfl)
theorem dX0_ordered_129 : decode cX0_ordered 129 = .ok (.getfield 62, 3) := dk_180 0 62 (dk_at dksX0_ordered_5 9 rfl rfl)
theorem dX0_ordered_132 : decode cX0_ordered 132 = .ok (.iload 7, 2) := dk_21 7 (dk_at dksX0_ordered_5 12 rfl rfl)
theorem dX0_ordered_134 : decode cX0_ordered 134 = .ok (.iconst 1, 1) := dk_4 (dk_at dksX0_ordered_5 14 rfl rfl)
theorem dX0_ordered_135 : decode cX0_ordered 135 = .ok (.iload 8, 2) := dk_21 8 (dk_at dksX0_ordered_5 15 rfl rfl)
theorem dX0_ordered_137 : decode cX0_ordered 137 = .ok (.ishl, 1) := dk_120 (dk_at dksX0_ordered_5 17 rfl rfl)
theorem dX0_ordered_138 : decode cX0_ordered 138 = .ok (.ior, 1) := dk_128 (dk_at dksX0_ordered_5 18 rfl rfl)
theorem dX0_ordered_139 : decode cX0_ordered 139 = .ok (.laload, 1) := dk_47 (dk_at dksX0_ordered_5 19 rfl rfl)
theorem dX0_ordered_140 : decode cX0_ordered 140 = .ok (.lsub, 1) := dk_101 (dk_at dksX0_ordered_5 20 rfl rfl)
theorem dX0_ordered_141 : decode cX0_ordered 141 = .ok (.lstore 5, 2) := dk_55 5 (dk_at dksX0_ordered_5 21 rfl rfl)
theorem dX0_ordered_143 : decode cX0_ordered 143 = .ok (.iinc 8 1, 3) := dk_132 8 1 (dk_at dksX0_ordered_6 0 rfl rfl)
theorem dX0_ordered_146 : decode cX0_ordered 146 = .ok (.goto (-79), 3) := dk_167 255 177 (dk_at dksX0_ordered_6 3 rfl rfl)
theorem dX0_ordered_149 : decode cX0_ordered 149 = .ok (.aload_n 0, 1) := dk_42 (dk_at dksX0_ordered_6 6 rfl rfl)
theorem dX0_ordered_150 : decode cX0_ordered 150 = .ok (.getfield 31, 3) := dk_180 0 31 (dk_at dksX0_ordered_6 7 rfl rfl)
theorem dX0_ordered_153 : decode cX0_ordered 153 = .ok (.aload_n 0, 1) := dk_42 (dk_at dksX0_ordered_6 10 rfl rfl)
theorem dX0_ordered_154 : decode cX0_ordered 154 = .ok (.getfield 187, 3) := dk_180 0 187 (dk_at dksX0_ordered_6 11 rfl rfl)
theorem dX0_ordered_157 : decode cX0_ordered 157 = .ok (.iload 8, 2) := dk_21 8 (dk_at dksX0_ordered_6 14 rfl rfl)
theorem dX0_ordered_159 : decode cX0_ordered 159 = .ok (.iastore, 1) := dk_79 (dk_at dksX0_ordered_6 16 rfl rfl)
theorem dX0_ordered_160 : decode cX0_ordered 160 = .ok (.aload_n 0, 1) := dk_42 (dk_at dksX0_ordered_6 17 rfl rfl)
theorem dX0_ordered_161 : decode cX0_ordered 161 = .ok (.dup, 1) := dk_89 (dk_at dksX0_ordered_6 18 rfl rfl)
theorem dX0_ordered_162 : decode cX0_ordered 162 = .ok (.getfield 187, 3) := dk_180 0 187 (dk_at dksX0_ordered_6 19 rfl rfl)
theorem dX0_ordered_165 : decode cX0_ordered 165 = .ok (.iconst 1, 1) := dk_4 (dk_at dksX0_ordered_6 22 rfl rfl)
theorem dX0_ordered_166 : decode cX0_ordered 166 = .ok (.iadd, 1) := dk_96 (dk_at dksX0_ordered_6 23 rfl rfl)
theorem dX0_ordered_167 : decode cX0_ordered 167 = .ok (.putfield 187, 3) := dk_181 0 187 (dk_at dksX0_ordered_7 0 rfl rfl)
theorem dX0_ordered_170 : decode cX0_ordered 170 = .ok (.iload 7, 2) := dk_21 7 (dk_at dksX0_ordered_7 3 rfl rfl)
theorem dX0_ordered_172 : decode cX0_ordered 172 = .ok (.iconst 1, 1) := dk_4 (dk_at dksX0_ordered_7 5 rfl rfl)
theorem dX0_ordered_173 : decode cX0_ordered 173 = .ok (.iload 8, 2) := dk_21 8 (dk_at dksX0_ordered_7 6 rfl rfl)
theorem dX0_ordered_175 : decode cX0_ordered 175 = .ok (.ishl, 1) := dk_120 (dk_at dksX0_ordered_7 8 rfl rfl)
theorem dX0_ordered_176 : decode cX0_ordered 176 = .ok (.ior, 1) := dk_128 (dk_at dksX0_ordered_7 9 rfl rfl)
theorem dX0_ordered_177 : decode cX0_ordered 177 = .ok (.istore 7, 2) := dk_54 7 (dk_at dksX0_ordered_7 10 rfl rfl)
theorem dX0_ordered_179 : decode cX0_ordered 179 = .ok (.goto (-121), 3) := dk_167 255 135 (dk_at dksX0_ordered_7 12 rfl rfl)
theorem dX0_ordered_182 : decode cX0_ordered 182 = .ok (.aload_n 0, 1) := dk_42 (dk_at dksX0_ordered_7 15 rfl rfl)
theorem dX0_ordered_183 : decode cX0_ordered 183 = .ok (.aload_n 0, 1) := dk_42 (dk_at dksX0_ordered_7 16 rfl rfl)
theorem dX0_ordered_184 : decode cX0_ordered 184 = .ok (.getfield 187, 3) := dk_180 0 187 (dk_at dksX0_ordered_7 17 rfl rfl)
theorem dX0_ordered_187 : decode cX0_ordered 187 = .ok (.invokevirtual 197, 3) := dk_182 0 197 (dk_at dksX0_ordered_7 20 rfl rfl)
theorem dX0_ordered_190 : decode cX0_ordered 190 = .ok (.ireturn, 1) := dk_172 (dk_at dksX0_ordered_7 23 rfl rfl)
abbrev cX0_order : ByteArray := prog_1_method_60_code
def yX0_order : MethodName := ⟨RX0, "order", "(II)Z"⟩
def dkwX0_order_9 : List UInt8 := [182, 0, 103, 172]
abbrev dktX0_order_9 : List UInt8 := dkwX0_order_9 ++ []
def dkwX0_order_8 : List UInt8 := [21, 6, 45, 21, 6, 182, 0, 128, 136, 79, 132, 6, 1, 167, 255, 233, 42, 28, 181, 0, 187, 42, 3]
abbrev dktX0_order_8 : List UInt8 := dkwX0_order_8 ++ dktX0_order_9
def dkwX0_order_7 : List UInt8 := [154, 0, 10, 42, 16, 9, 182, 0, 103, 172, 3, 54, 6, 21, 6, 28, 162, 0, 23, 42, 180, 0, 31]
abbrev dktX0_order_7 : List UInt8 := dkwX0_order_7 ++ dktX0_order_8
def dkwX0_order_6 : List UInt8 := [167, 0, 4, 3, 54, 5, 21, 4, 4, 21, 7, 120, 128, 54, 4, 132, 6, 1, 167, 255, 171, 21, 5]
abbrev dktX0_order_6 : List UInt8 := dkwX0_order_6 ++ dktX0_order_7
def dkwX0_order_5 : List UInt8 := [182, 0, 128, 136, 54, 7, 21, 5, 153, 0, 18, 42, 21, 4, 21, 7, 182, 1, 49, 153, 0, 7, 4]
abbrev dktX0_order_5 : List UInt8 := dkwX0_order_5 ++ dktX0_order_6
def dkwX0_order_4 : List UInt8 := [45, 21, 6, 182, 0, 128, 136, 122, 4, 126, 4, 160, 0, 9, 42, 8, 182, 0, 103, 172, 45, 21, 6]
abbrev dktX0_order_4 : List UInt8 := dkwX0_order_4 ++ dktX0_order_5
def dkwX0_order_3 : List UInt8 := [3, 54, 6, 21, 6, 28, 162, 0, 85, 42, 45, 21, 6, 182, 0, 128, 182, 0, 224, 153, 0, 19, 21, 4]
abbrev dktX0_order_3 : List UInt8 := dkwX0_order_3 ++ dktX0_order_4
def dkwX0_order_2 : List UInt8 := [182, 0, 103, 172, 45, 182, 1, 65, 28, 162, 0, 9, 42, 7, 182, 0, 103, 172, 3, 54, 4, 4, 54, 5]
abbrev dktX0_order_2 : List UInt8 := dkwX0_order_2 ++ dktX0_order_3
def dkwX0_order_1 : List UInt8 := [199, 0, 9, 42, 6, 182, 0, 103, 172, 28, 133, 9, 20, 1, 59, 184, 1, 61, 154, 0, 9, 42, 8]
abbrev dktX0_order_1 : List UInt8 := dkwX0_order_1 ++ dktX0_order_2
def dkwX0_order_0 : List UInt8 := [27, 184, 0, 107, 154, 0, 9, 42, 4, 182, 0, 103, 172, 42, 180, 0, 11, 27, 50, 78, 45, 180, 0, 134]
abbrev dktX0_order_0 : List UInt8 := dkwX0_order_0 ++ dktX0_order_1
theorem dksX0_order_0 : cX0_order.data.toList.drop 0 = dktX0_order_0 := by decide +kernel
theorem dksX0_order_1 : cX0_order.data.toList.drop 24 = dktX0_order_1 := dk_seg dksX0_order_0 24 rfl rfl
theorem dksX0_order_2 : cX0_order.data.toList.drop 47 = dktX0_order_2 := dk_seg dksX0_order_1 23 rfl rfl
theorem dksX0_order_3 : cX0_order.data.toList.drop 71 = dktX0_order_3 := dk_seg dksX0_order_2 24 rfl rfl
theorem dksX0_order_4 : cX0_order.data.toList.drop 95 = dktX0_order_4 := dk_seg dksX0_order_3 24 rfl rfl
theorem dksX0_order_5 : cX0_order.data.toList.drop 118 = dktX0_order_5 := dk_seg dksX0_order_4 23 rfl rfl
theorem dksX0_order_6 : cX0_order.data.toList.drop 141 = dktX0_order_6 := dk_seg dksX0_order_5 23 rfl rfl
theorem dksX0_order_7 : cX0_order.data.toList.drop 164 = dktX0_order_7 := dk_seg dksX0_order_6 23 rfl rfl
theorem dksX0_order_8 : cX0_order.data.toList.drop 187 = dktX0_order_8 := dk_seg dksX0_order_7 23 rfl rfl
theorem dksX0_order_9 : cX0_order.data.toList.drop 210 = dktX0_order_9 := dk_seg dksX0_order_8 23 rfl rfl
theorem dX0_order_0 : decode cX0_order 0 = .ok (.iload_n 1, 1) := dk_27 (dk_at dksX0_order_0 0 rfl rfl)
theorem dX0_order_1 : decode cX0_order 1 = .ok (.invokestatic 107, 3) := dk_184 0 107 (dk_at dksX0_order_0 1 rfl rfl)
theorem dX0_order_4 : decode cX0_order 4 = .ok (.ifCond .ne 9, 3) := dk_154 0 9 (dk_at dksX0_order_0 4 rfl rfl)
theorem dX0_order_7 : decode cX0_order 7 = .ok (.aload_n 0, 1) := dk_42 (dk_at dksX0_order_0 7 rfl rfl)
theorem dX0_order_8 : decode cX0_order 8 = .ok (.iconst 1, 1) := dk_4 (dk_at dksX0_order_0 8 rfl rfl)
theorem dX0_order_9 : decode cX0_order 9 = .ok (.invokevirtual 103, 3) := dk_182 0 103 (dk_at dksX0_order_0 9 rfl rfl)
theorem dX0_order_12 : decode cX0_order 12 = .ok (.ireturn, 1) := dk_172 (dk_at dksX0_order_0 12 rfl rfl)
theorem dX0_order_13 : decode cX0_order 13 = .ok (.aload_n 0, 1) := dk_42 (dk_at dksX0_order_0 13 rfl rfl)
theorem dX0_order_14 : decode cX0_order 14 = .ok (.getfield 11, 3) := dk_180 0 11 (dk_at dksX0_order_0 14 rfl rfl)
theorem dX0_order_17 : decode cX0_order 17 = .ok (.iload_n 1, 1) := dk_27 (dk_at dksX0_order_0 17 rfl rfl)
theorem dX0_order_18 : decode cX0_order 18 = .ok (.aaload, 1) := dk_50 (dk_at dksX0_order_0 18 rfl rfl)
theorem dX0_order_19 : decode cX0_order 19 = .ok (.astore_n 3, 1) := dk_78 (dk_at dksX0_order_0 19 rfl rfl)
theorem dX0_order_20 : decode cX0_order 20 = .ok (.aload_n 3, 1) := dk_45 (dk_at dksX0_order_0 20 rfl rfl)
theorem dX0_order_21 : decode cX0_order 21 = .ok (.getfield 134, 3) := dk_180 0 134 (dk_at dksX0_order_0 21 rfl rfl)
theorem dX0_order_24 : decode cX0_order 24 = .ok (.ifnonnull 9, 3) := dk_199 0 9 (dk_at dksX0_order_1 0 rfl rfl)
theorem dX0_order_27 : decode cX0_order 27 = .ok (.aload_n 0, 1) := dk_42 (dk_at dksX0_order_1 3 rfl rfl)
theorem dX0_order_28 : decode cX0_order 28 = .ok (.iconst 3, 1) := dk_6 (dk_at dksX0_order_1 4 rfl rfl)
theorem dX0_order_29 : decode cX0_order 29 = .ok (.invokevirtual 103, 3) := dk_182 0 103 (dk_at dksX0_order_1 5 rfl rfl)
theorem dX0_order_32 : decode cX0_order 32 = .ok (.ireturn, 1) := dk_172 (dk_at dksX0_order_1 8 rfl rfl)
theorem dX0_order_33 : decode cX0_order 33 = .ok (.iload_n 2, 1) := dk_28 (dk_at dksX0_order_1 9 rfl rfl)
theorem dX0_order_34 : decode cX0_order 34 = .ok (.i2l, 1) := dk_133 (dk_at dksX0_order_1 10 rfl rfl)
theorem dX0_order_35 : decode cX0_order 35 = .ok (.lconst 0, 1) := dk_9 (dk_at dksX0_order_1 11 rfl rfl)
theorem dX0_order_36 : decode cX0_order 36 = .ok (.ldc2_w 315, 3) := dk_20 1 59 (dk_at dksX0_order_1 12 rfl rfl)
theorem dX0_order_39 : decode cX0_order 39 = .ok (.invokestatic 317, 3) := dk_184 1 61 (dk_at dksX0_order_1 15 rfl rfl)
theorem dX0_order_42 : decode cX0_order 42 = .ok (.ifCond .ne 9, 3) := dk_154 0 9 (dk_at dksX0_order_1 18 rfl rfl)
theorem dX0_order_45 : decode cX0_order 45 = .ok (.aload_n 0, 1) := dk_42 (dk_at dksX0_order_1 21 rfl rfl)
theorem dX0_order_46 : decode cX0_order 46 = .ok (.iconst 5, 1) := dk_8 (dk_at dksX0_order_1 22 rfl rfl)
theorem dX0_order_47 : decode cX0_order 47 = .ok (.invokevirtual 103, 3) := dk_182 0 103 (dk_at dksX0_order_2 0 rfl rfl)
theorem dX0_order_50 : decode cX0_order 50 = .ok (.ireturn, 1) := dk_172 (dk_at dksX0_order_2 3 rfl rfl)
theorem dX0_order_51 : decode cX0_order 51 = .ok (.aload_n 3, 1) := dk_45 (dk_at dksX0_order_2 4 rfl rfl)
theorem dX0_order_52 : decode cX0_order 52 = .ok (.invokevirtual 321, 3) := dk_182 1 65 (dk_at dksX0_order_2 5 rfl rfl)
theorem dX0_order_55 : decode cX0_order 55 = .ok (.iload_n 2, 1) := dk_28 (dk_at dksX0_order_2 8 rfl rfl)
theorem dX0_order_56 : decode cX0_order 56 = .ok (.if_icmp .ge 9, 3) := dk_162 0 9 (dk_at dksX0_order_2 9 rfl rfl)
theorem dX0_order_59 : decode cX0_order 59 = .ok (.aload_n 0, 1) := dk_42 (dk_at dksX0_order_2 12 rfl rfl)
theorem dX0_order_60 : decode cX0_order 60 = .ok (.iconst 4, 1) := dk_7 (dk_at dksX0_order_2 13 rfl rfl)
theorem dX0_order_61 : decode cX0_order 61 = .ok (.invokevirtual 103, 3) := dk_182 0 103 (dk_at dksX0_order_2 14 rfl rfl)
theorem dX0_order_64 : decode cX0_order 64 = .ok (.ireturn, 1) := dk_172 (dk_at dksX0_order_2 17 rfl rfl)
theorem dX0_order_65 : decode cX0_order 65 = .ok (.iconst 0, 1) := dk_3 (dk_at dksX0_order_2 18 rfl rfl)
theorem dX0_order_66 : decode cX0_order 66 = .ok (.istore 4, 2) := dk_54 4 (dk_at dksX0_order_2 19 rfl rfl)
theorem dX0_order_68 : decode cX0_order 68 = .ok (.iconst 1, 1) := dk_4 (dk_at dksX0_order_2 21 rfl rfl)
theorem dX0_order_69 : decode cX0_order 69 = .ok (.istore 5, 2) := dk_54 5 (dk_at dksX0_order_2 22 rfl rfl)
theorem dX0_order_71 : decode cX0_order 71 = .ok (.iconst 0, 1) := dk_3 (dk_at dksX0_order_3 0 rfl rfl)
theorem dX0_order_72 : decode cX0_order 72 = .ok (.istore 6, 2) := dk_54 6 (dk_at dksX0_order_3 1 rfl rfl)
theorem dX0_order_74 : decode cX0_order 74 = .ok (.iload 6, 2) := dk_21 6 (dk_at dksX0_order_3 3 rfl rfl)
theorem dX0_order_76 : decode cX0_order 76 = .ok (.iload_n 2, 1) := dk_28 (dk_at dksX0_order_3 5 rfl rfl)
theorem dX0_order_77 : decode cX0_order 77 = .ok (.if_icmp .ge 85, 3) := dk_162 0 85 (dk_at dksX0_order_3 6 rfl rfl)
theorem dX0_order_80 : decode cX0_order 80 = .ok (.aload_n 0, 1) := dk_42 (dk_at dksX0_order_3 9 rfl rfl)
theorem dX0_order_81 : decode cX0_order 81 = .ok (.aload_n 3, 1) := dk_45 (dk_at dksX0_order_3 10 rfl rfl)
theorem dX0_order_82 : decode cX0_order 82 = .ok (.iload 6, 2) := dk_21 6 (dk_at dksX0_order_3 11 rfl rfl)
theorem dX0_order_84 : decode cX0_order 84 = .ok (.invokevirtual 128, 3) := dk_182 0 128 (dk_at dksX0_order_3 13 rfl rfl)
theorem dX0_order_87 : decode cX0_order 87 = .ok (.invokevirtual 224, 3) := dk_182 0 224 (dk_at dksX0_order_3 16 rfl rfl)
theorem dX0_order_90 : decode cX0_order 90 = .ok (.ifCond .eq 19, 3) := dk_153 0 19 (dk_at dksX0_order_3 19 rfl rfl)
theorem dX0_order_93 : decode cX0_order 93 = .ok (.iload 4, 2) := dk_21 4 (dk_at dksX0_order_3 22 rfl rfl)
theorem dX0_order_95 : decode cX0_order 95 = .ok (.aload_n 3, 1) := dk_45 (dk_at dksX0_order_4 0 rfl rfl)
theorem dX0_order_96 : decode cX0_order 96 = .ok (.iload 6, 2) := dk_21 6 (dk_at dksX0_order_4 1 rfl rfl)
theorem dX0_order_98 : decode cX0_order 98 = .ok (.invokevirtual 128, 3) := dk_182 0 128 (dk_at dksX0_order_4 3 rfl rfl)
theorem dX0_order_101 : decode cX0_order 101 = .ok (.l2i, 1) := dk_136 (dk_at dksX0_order_4 6 rfl rfl)
theorem dX0_order_102 : decode cX0_order 102 = .ok (.ishr, 1) := dk_122 (dk_at dksX0_order_4 7 rfl rfl)
theorem dX0_order_103 : decode cX0_order 103 = .ok (.iconst 1, 1) := dk_4 (dk_at dksX0_order_4 8 rfl rfl)
theorem dX0_order_104 : decode cX0_order 104 = .ok (.iand, 1) := dk_126 (dk_at dksX0_order_4 9 rfl rfl)
theorem dX0_order_105 : decode cX0_order 105 = .ok (.iconst 1, 1) := dk_4 (dk_at dksX0_order_4 10 rfl rfl)
theorem dX0_order_106 : decode cX0_order 106 = .ok (.if_icmp .ne 9, 3) := dk_160 0 9 (dk_at dksX0_order_4 11 rfl rfl)
theorem dX0_order_109 : decode cX0_order 109 = .ok (.aload_n 0, 1) := dk_42 (dk_at dksX0_order_4 14 rfl rfl)
theorem dX0_order_110 : decode cX0_order 110 = .ok (.iconst 5, 1) := dk_8 (dk_at dksX0_order_4 15 rfl rfl)
theorem dX0_order_111 : decode cX0_order 111 = .ok (.invokevirtual 103, 3) := dk_182 0 103 (dk_at dksX0_order_4 16 rfl rfl)
theorem dX0_order_114 : decode cX0_order 114 = .ok (.ireturn, 1) := dk_172 (dk_at dksX0_order_4 19 rfl rfl)
theorem dX0_order_115 : decode cX0_order 115 = .ok (.aload_n 3, 1) := dk_45 (dk_at dksX0_order_4 20 rfl rfl)
theorem dX0_order_116 : decode cX0_order 116 = .ok (.iload 6, 2) := dk_21 6 (dk_at dksX0_order_4 21 rfl rfl)
theorem dX0_order_118 : decode cX0_order 118 = .ok (.invokevirtual 128, 3) := dk_182 0 128 (dk_at dksX0_order_5 0 rfl rfl)
theorem dX0_order_121 : decode cX0_order 121 = .ok (.l2i, 1) := dk_136 (dk_at dksX0_order_5 3 rfl rfl)
theorem dX0_order_122 : decode cX0_order 122 = .ok (.istore 7, 2) := dk_54 7 (dk_at dksX0_order_5 4 rfl rfl)
theorem dX0_order_124 : decode cX0_order 124 = .ok (.iload 5, 2) := dk_21 5 (dk_at dksX0_order_5 6 rfl rfl)
theorem dX0_order_126 : decode cX0_order 126 = .ok (.ifCond .eq 18, 3) := dk_153 0 18 (dk_at dksX0_order_5 8 rfl rfl)
theorem dX0_order_129 : decode cX0_order 129 = .ok (.aload_n 0, 1) := dk_42 (dk_at dksX0_order_5 11 rfl rfl)
theorem dX0_order_130 : decode cX0_order 130 = .ok (.iload 4, 2) := dk_21 4 (dk_at dksX0_order_5 12 rfl rfl)
theorem dX0_order_132 : decode cX0_order 132 = .ok (.iload 7, 2) := dk_21 7 (dk_at dksX0_order_5 14 rfl rfl)
theorem dX0_order_134 : decode cX0_order 134 = .ok (.invokevirtual 305, 3) := dk_182 1 49 (dk_at dksX0_order_5 16 rfl rfl)
theorem dX0_order_137 : decode cX0_order 137 = .ok (.ifCond .eq 7, 3) := dk_153 0 7 (dk_at dksX0_order_5 19 rfl rfl)
theorem dX0_order_140 : decode cX0_order 140 = .ok (.iconst 1, 1) := dk_4 (dk_at dksX0_order_5 22 rfl rfl)
theorem dX0_order_141 : decode cX0_order 141 = .ok (.goto 4, 3) := dk_167 0 4 (dk_at dksX0_order_6 0 rfl rfl)
theorem dX0_order_144 : decode cX0_order 144 = .ok (.iconst 0, 1) := dk_3 (dk_at dksX0_order_6 3 rfl rfl)
theorem dX0_order_145 : decode cX0_order 145 = .ok (.istore 5, 2) := dk_54 5 (dk_at dksX0_order_6 4 rfl rfl)
theorem dX0_order_147 : decode cX0_order 147 = .ok (.iload 4, 2) := dk_21 4 (dk_at dksX0_order_6 6 rfl rfl)
theorem dX0_order_149 : decode cX0_order 149 = .ok (.iconst 1, 1) := dk_4 (dk_at dksX0_order_6 8 rfl rfl)
theorem dX0_order_150 : decode cX0_order 150 = .ok (.iload 7, 2) := dk_21 7 (dk_at dksX0_order_6 9 rfl rfl)
theorem dX0_order_152 : decode cX0_order 152 = .ok (.ishl, 1) := dk_120 (dk_at dksX0_order_6 11 rfl rfl)
theorem dX0_order_153 : decode cX0_order 153 = .ok (.ior, 1) := dk_128 (dk_at dksX0_order_6 12 rfl rfl)
theorem dX0_order_154 : decode cX0_order 154 = .ok (.istore 4, 2) := dk_54 4 (dk_at dksX0_order_6 13 rfl rfl)
theorem dX0_order_156 : decode cX0_order 156 = .ok (.iinc 6 1, 3) := dk_132 6 1 (dk_at dksX0_order_6 15 rfl rfl)
theorem dX0_order_159 : decode cX0_order 159 = .ok (.goto (-85), 3) := dk_167 255 171 (dk_at dksX0_order_6 18 rfl rfl)
theorem dX0_order_162 : decode cX0_order 162 = .ok (.iload 5, 2) := dk_21 5 (dk_at dksX0_order_6 21 rfl rfl)
theorem dX0_order_164 : decode cX0_order 164 = .ok (.ifCond .ne 10, 3) := dk_154 0 10 (dk_at dksX0_order_7 0 rfl rfl)
theorem dX0_order_167 : decode cX0_order 167 = .ok (.aload_n 0, 1) := dk_42 (dk_at dksX0_order_7 3 rfl rfl)
theorem dX0_order_168 : decode cX0_order 168 = .ok (.bipush 9, 2) := dk_16 9 (dk_at dksX0_order_7 4 rfl rfl)
theorem dX0_order_170 : decode cX0_order 170 = .ok (.invokevirtual 103, 3) := dk_182 0 103 (dk_at dksX0_order_7 6 rfl rfl)
theorem dX0_order_173 : decode cX0_order 173 = .ok (.ireturn, 1) := dk_172 (dk_at dksX0_order_7 9 rfl rfl)
theorem dX0_order_174 : decode cX0_order 174 = .ok (.iconst 0, 1) := dk_3 (dk_at dksX0_order_7 10 rfl rfl)
theorem dX0_order_175 : decode cX0_order 175 = .ok (.istore 6, 2) := dk_54 6 (dk_at dksX0_order_7 11 rfl rfl)
theorem dX0_order_177 : decode cX0_order 177 = .ok (.iload 6, 2) := dk_21 6 (dk_at dksX0_order_7 13 rfl rfl)
theorem dX0_order_179 : decode cX0_order 179 = .ok (.iload_n 2, 1) := dk_28 (dk_at dksX0_order_7 15 rfl rfl)
theorem dX0_order_180 : decode cX0_order 180 = .ok (.if_icmp .ge 23, 3) := dk_162 0 23 (dk_at dksX0_order_7 16 rfl rfl)
theorem dX0_order_183 : decode cX0_order 183 = .ok (.aload_n 0, 1) := dk_42 (dk_at dksX0_order_7 19 rfl rfl)
theorem dX0_order_184 : decode cX0_order 184 = .ok (.getfield 31, 3) := dk_180 0 31 (dk_at dksX0_order_7 20 rfl rfl)
theorem dX0_order_187 : decode cX0_order 187 = .ok (.iload 6, 2) := dk_21 6 (dk_at dksX0_order_8 0 rfl rfl)
theorem dX0_order_189 : decode cX0_order 189 = .ok (.aload_n 3, 1) := dk_45 (dk_at dksX0_order_8 2 rfl rfl)
theorem dX0_order_190 : decode cX0_order 190 = .ok (.iload 6, 2) := dk_21 6 (dk_at dksX0_order_8 3 rfl rfl)
theorem dX0_order_192 : decode cX0_order 192 = .ok (.invokevirtual 128, 3) := dk_182 0 128 (dk_at dksX0_order_8 5 rfl rfl)
theorem dX0_order_195 : decode cX0_order 195 = .ok (.l2i, 1) := dk_136 (dk_at dksX0_order_8 8 rfl rfl)
theorem dX0_order_196 : decode cX0_order 196 = .ok (.iastore, 1) := dk_79 (dk_at dksX0_order_8 9 rfl rfl)
theorem dX0_order_197 : decode cX0_order 197 = .ok (.iinc 6 1, 3) := dk_132 6 1 (dk_at dksX0_order_8 10 rfl rfl)
theorem dX0_order_200 : decode cX0_order 200 = .ok (.goto (-23), 3) := dk_167 255 233 (dk_at dksX0_order_8 13 rfl rfl)
theorem dX0_order_203 : decode cX0_order 203 = .ok (.aload_n 0, 1) := dk_42 (dk_at dksX0_order_8 16 rfl rfl)
theorem dX0_order_204 : decode cX0_order 204 = .ok (.iload_n 2, 1) := dk_28 (dk_at dksX0_order_8 17 rfl rfl)
theorem dX0_order_205 : decode cX0_order 205 = .ok (.putfield 187, 3) := dk_181 0 187 (dk_at dksX0_order_8 18 rfl rfl)
theorem dX0_order_208 : decode cX0_order 208 = .ok (.aload_n 0, 1) := dk_42 (dk_at dksX0_order_8 21 rfl rfl)
theorem dX0_order_209 : decode cX0_order 209 = .ok (.iconst 0, 1) := dk_3 (dk_at dksX0_order_8 22 rfl rfl)
theorem dX0_order_210 : decode cX0_order 210 = .ok (.invokevirtual 103, 3) := dk_182 0 103 (dk_at dksX0_order_9 0 rfl rfl)
theorem dX0_order_213 : decode cX0_order 213 = .ok (.ireturn, 1) := dk_172 (dk_at dksX0_order_9 3 rfl rfl)
abbrev cX0_isFrom : ByteArray := prog_1_method_14_code
def yX0_isFrom : MethodName := ⟨RX0, "isFrom", "(JJJ)Z"⟩
def dkwX0_isFrom_0 : List UInt8 := [30, 32, 148, 155, 0, 14, 30, 22, 4, 148, 157, 0, 7, 4, 167, 0, 4, 3, 172]
abbrev dktX0_isFrom_0 : List UInt8 := dkwX0_isFrom_0 ++ []
theorem dksX0_isFrom_0 : cX0_isFrom.data.toList.drop 0 = dktX0_isFrom_0 := by decide +kernel
theorem dX0_isFrom_0 : decode cX0_isFrom 0 = .ok (.lload_n 0, 1) := dk_30 (dk_at dksX0_isFrom_0 0 rfl rfl)
theorem dX0_isFrom_1 : decode cX0_isFrom 1 = .ok (.lload_n 2, 1) := dk_32 (dk_at dksX0_isFrom_0 1 rfl rfl)
theorem dX0_isFrom_2 : decode cX0_isFrom 2 = .ok (.lcmp, 1) := dk_148 (dk_at dksX0_isFrom_0 2 rfl rfl)
theorem dX0_isFrom_3 : decode cX0_isFrom 3 = .ok (.ifCond .lt 14, 3) := dk_155 0 14 (dk_at dksX0_isFrom_0 3 rfl rfl)
theorem dX0_isFrom_6 : decode cX0_isFrom 6 = .ok (.lload_n 0, 1) := dk_30 (dk_at dksX0_isFrom_0 6 rfl rfl)
theorem dX0_isFrom_7 : decode cX0_isFrom 7 = .ok (.lload 4, 2) := dk_22 4 (dk_at dksX0_isFrom_0 7 rfl rfl)
theorem dX0_isFrom_9 : decode cX0_isFrom 9 = .ok (.lcmp, 1) := dk_148 (dk_at dksX0_isFrom_0 9 rfl rfl)
theorem dX0_isFrom_10 : decode cX0_isFrom 10 = .ok (.ifCond .gt 7, 3) := dk_157 0 7 (dk_at dksX0_isFrom_0 10 rfl rfl)
theorem dX0_isFrom_13 : decode cX0_isFrom 13 = .ok (.iconst 1, 1) := dk_4 (dk_at dksX0_isFrom_0 13 rfl rfl)
theorem dX0_isFrom_14 : decode cX0_isFrom 14 = .ok (.goto 4, 3) := dk_167 0 4 (dk_at dksX0_isFrom_0 14 rfl rfl)
theorem dX0_isFrom_17 : decode cX0_isFrom 17 = .ok (.iconst 0, 1) := dk_3 (dk_at dksX0_isFrom_0 17 rfl rfl)
theorem dX0_isFrom_18 : decode cX0_isFrom 18 = .ok (.ireturn, 1) := dk_172 (dk_at dksX0_isFrom_0 18 rfl rfl)
abbrev cX0_number : ByteArray := prog_1_method_62_code
def yX0_number : MethodName := ⟨RX0, "number", "()J"⟩
def dkwX0_number_4 : List UInt8 := [180, 0, 31, 21, 5, 46, 120, 128, 54, 4, 132, 5, 1, 167, 255, 173, 42, 3, 181, 0, 97, 32, 173]
abbrev dktX0_number_4 : List UInt8 := dkwX0_number_4 ++ []
def dkwX0_number_3 : List UInt8 := [180, 0, 62, 21, 4, 4, 21, 6, 120, 128, 47, 97, 65, 132, 6, 1, 167, 255, 205, 21, 4, 4, 42]
abbrev dktX0_number_3 : List UInt8 := dkwX0_number_3 ++ dktX0_number_4
def dkwX0_number_2 : List UInt8 := [21, 6, 122, 4, 126, 4, 160, 0, 29, 42, 21, 4, 21, 6, 182, 1, 49, 153, 0, 18, 32, 42]
abbrev dktX0_number_2 : List UInt8 := dkwX0_number_2 ++ dktX0_number_3
def dkwX0_number_1 : List UInt8 := [42, 180, 0, 187, 162, 0, 80, 3, 54, 6, 21, 6, 42, 180, 0, 31, 21, 5, 46, 162, 0, 45, 27]
abbrev dktX0_number_1 : List UInt8 := dkwX0_number_1 ++ dktX0_number_2
def dkwX0_number_0 : List UInt8 := [42, 42, 180, 0, 187, 182, 1, 67, 60, 42, 27, 182, 1, 52, 9, 65, 3, 54, 4, 3, 54, 5, 21, 5]
abbrev dktX0_number_0 : List UInt8 := dkwX0_number_0 ++ dktX0_number_1
theorem dksX0_number_0 : cX0_number.data.toList.drop 0 = dktX0_number_0 := by decide +kernel
theorem dksX0_number_1 : cX0_number.data.toList.drop 24 = dktX0_number_1 := dk_seg dksX0_number_0 24 rfl rfl
theorem dksX0_number_2 : cX0_number.data.toList.drop 47 = dktX0_number_2 := dk_seg dksX0_number_1 23 rfl rfl
theorem dksX0_number_3 : cX0_number.data.toList.drop 69 = dktX0_number_3 := dk_seg dksX0_number_2 22 rfl rfl
theorem dksX0_number_4 : cX0_number.data.toList.drop 92 = dktX0_number_4 := dk_seg dksX0_number_3 23 rfl rfl
theorem dX0_number_0 : decode cX0_number 0 = .ok (.aload_n 0, 1) := dk_42 (dk_at dksX0_number_0 0 rfl rfl)
theorem dX0_number_1 : decode cX0_number 1 = .ok (.aload_n 0, 1) := dk_42 (dk_at dksX0_number_0 1 rfl rfl)
theorem dX0_number_2 : decode cX0_number 2 = .ok (.getfield 187, 3) := dk_180 0 187 (dk_at dksX0_number_0 2 rfl rfl)
theorem dX0_number_5 : decode cX0_number 5 = .ok (.invokevirtual 323, 3) := dk_182 1 67 (dk_at dksX0_number_0 5 rfl rfl)
theorem dX0_number_8 : decode cX0_number 8 = .ok (.istore_n 1, 1) := dk_60 (dk_at dksX0_number_0 8 rfl rfl)
theorem dX0_number_9 : decode cX0_number 9 = .ok (.aload_n 0, 1) := dk_42 (dk_at dksX0_number_0 9 rfl rfl)
theorem dX0_number_10 : decode cX0_number 10 = .ok (.iload_n 1, 1) := dk_27 (dk_at dksX0_number_0 10 rfl rfl)
theorem dX0_number_11 : decode cX0_number 11 = .ok (.invokevirtual 308, 3) := dk_182 1 52 (dk_at dksX0_number_0 11 rfl rfl)
theorem dX0_number_14 : decode cX0_number 14 = .ok (.lconst 0, 1) := dk_9 (dk_at dksX0_number_0 14 rfl rfl)
theorem dX0_number_15 : decode cX0_number 15 = .ok (.lstore_n 2, 1) := dk_65 (dk_at dksX0_number_0 15 rfl rfl)
theorem dX0_number_16 : decode cX0_number 16 = .ok (.iconst 0, 1) := dk_3 (dk_at dksX0_number_0 16 rfl rfl)
theorem dX0_number_17 : decode cX0_number 17 = .ok (.istore 4, 2) := dk_54 4 (dk_at dksX0_number_0 17 rfl rfl)
theorem dX0_number_19 : decode cX0_number 19 = .ok (.iconst 0, 1) := dk_3 (dk_at dksX0_number_0 19 rfl rfl)
theorem dX0_number_20 : decode cX0_number 20 = .ok (.istore 5, 2) := dk_54 5 (dk_at dksX0_number_0 20 rfl rfl)
theorem dX0_number_22 : decode cX0_number 22 = .ok (.iload 5, 2) := dk_21 5 (dk_at dksX0_number_0 22 rfl rfl)
theorem dX0_number_24 : decode cX0_number 24 = .ok (.aload_n 0, 1) := dk_42 (dk_at dksX0_number_1 0 rfl rfl)
theorem dX0_number_25 : decode cX0_number 25 = .ok (.getfield 187, 3) := dk_180 0 187 (dk_at dksX0_number_1 1 rfl rfl)
theorem dX0_number_28 : decode cX0_number 28 = .ok (.if_icmp .ge 80, 3) := dk_162 0 80 (dk_at dksX0_number_1 4 rfl rfl)
theorem dX0_number_31 : decode cX0_number 31 = .ok (.iconst 0, 1) := dk_3 (dk_at dksX0_number_1 7 rfl rfl)
theorem dX0_number_32 : decode cX0_number 32 = .ok (.istore 6, 2) := dk_54 6 (dk_at dksX0_number_1 8 rfl rfl)
theorem dX0_number_34 : decode cX0_number 34 = .ok (.iload 6, 2) := dk_21 6 (dk_at dksX0_number_1 10 rfl rfl)
theorem dX0_number_36 : decode cX0_number 36 = .ok (.aload_n 0, 1) := dk_42 (dk_at dksX0_number_1 12 rfl rfl)
theorem dX0_number_37 : decode cX0_number 37 = .ok (.getfield 31, 3) := dk_180 0 31 (dk_at dksX0_number_1 13 rfl rfl)
theorem dX0_number_40 : decode cX0_number 40 = .ok (.iload 5, 2) := dk_21 5 (dk_at dksX0_number_1 16 rfl rfl)
theorem dX0_number_42 : decode cX0_number 42 = .ok (.iaload, 1) := dk_46 (dk_at dksX0_number_1 18 rfl rfl)
theorem dX0_number_43 : decode cX0_number 43 = .ok (.if_icmp .ge 45, 3) := dk_162 0 45 (dk_at dksX0_number_1 19 rfl rfl)
theorem dX0_number_46 : decode cX0_number 46 = .ok (.iload_n 1, 1) := dk_27 (dk_at dksX0_number_1 22 rfl rfl)
theorem dX0_number_47 : decode cX0_number 47 = .ok (.iload 6, 2) := dk_21 6 (dk_at dksX0_number_2 0 rfl rfl)
theorem dX0_number_49 : decode cX0_number 49 = .ok (.ishr, 1) := dk_122 (dk_at dksX0_number_2 2 rfl rfl)
theorem dX0_number_50 : decode cX0_number 50 = .ok (.iconst 1, 1) := dk_4 (dk_at dksX0_number_2 3 rfl rfl)
theorem dX0_number_51 : decode cX0_number 51 = .ok (.iand, 1) := dk_126 (dk_at dksX0_number_2 4 rfl rfl)
theorem dX0_number_52 : decode cX0_number 52 = .ok (.iconst 1, 1) := dk_4 (dk_at dksX0_number_2 5 rfl rfl)
theorem dX0_number_53 : decode cX0_number 53 = .ok (.if_icmp .ne 29, 3) := dk_160 0 29 (dk_at dksX0_number_2 6 rfl rfl)
theorem dX0_number_56 : decode cX0_number 56 = .ok (.aload_n 0, 1) := dk_42 (dk_at dksX0_number_2 9 rfl rfl)
theorem dX0_number_57 : decode cX0_number 57 = .ok (.iload 4, 2) := dk_21 4 (dk_at dksX0_number_2 10 rfl rfl)
theorem dX0_number_59 : decode cX0_number 59 = .ok (.iload 6, 2) := dk_21 6 (dk_at dksX0_number_2 12 rfl rfl)
theorem dX0_number_61 : decode cX0_number 61 = .ok (.invokevirtual 305, 3) := dk_182 1 49 (dk_at dksX0_number_2 14 rfl rfl)
theorem dX0_number_64 : decode cX0_number 64 = .ok (.ifCond .eq 18, 3) := dk_153 0 18 (dk_at dksX0_number_2 17 rfl rfl)
theorem dX0_number_67 : decode cX0_number 67 = .ok (.lload_n 2, 1) := dk_32 (dk_at dksX0_number_2 20 rfl rfl)
theorem dX0_number_68 : decode cX0_number 68 = .ok (.aload_n 0, 1) := dk_42 (dk_at dksX0_number_2 21 rfl rfl)
theorem dX0_number_69 : decode cX0_number 69 = .ok (.getfield 62, 3) := dk_180 0 62 (dk_at dksX0_number_3 0 rfl rfl)
theorem dX0_number_72 : decode cX0_number 72 = .ok (.iload 4, 2) := dk_21 4 (dk_at dksX0_number_3 3 rfl rfl)
theorem dX0_number_74 : decode cX0_number 74 = .ok (.iconst 1, 1) := dk_4 (dk_at dksX0_number_3 5 rfl rfl)
theorem dX0_number_75 : decode cX0_number 75 = .ok (.iload 6, 2) := dk_21 6 (dk_at dksX0_number_3 6 rfl rfl)
theorem dX0_number_77 : decode cX0_number 77 = .ok (.ishl, 1) := dk_120 (dk_at dksX0_number_3 8 rfl rfl)
theorem dX0_number_78 : decode cX0_number 78 = .ok (.ior, 1) := dk_128 (dk_at dksX0_number_3 9 rfl rfl)
theorem dX0_number_79 : decode cX0_number 79 = .ok (.laload, 1) := dk_47 (dk_at dksX0_number_3 10 rfl rfl)
theorem dX0_number_80 : decode cX0_number 80 = .ok (.ladd, 1) := dk_97 (dk_at dksX0_number_3 11 rfl rfl)
theorem dX0_number_81 : decode cX0_number 81 = .ok (.lstore_n 2, 1) := dk_65 (dk_at dksX0_number_3 12 rfl rfl)
theorem dX0_number_82 : decode cX0_number 82 = .ok (.iinc 6 1, 3) := dk_132 6 1 (dk_at dksX0_number_3 13 rfl rfl)
theorem dX0_number_85 : decode cX0_number 85 = .ok (.goto (-51), 3) := dk_167 255 205 (dk_at dksX0_number_3 16 rfl rfl)
theorem dX0_number_88 : decode cX0_number 88 = .ok (.iload 4, 2) := dk_21 4 (dk_at dksX0_number_3 19 rfl rfl)
theorem dX0_number_90 : decode cX0_number 90 = .ok (.iconst 1, 1) := dk_4 (dk_at dksX0_number_3 21 rfl rfl)
theorem dX0_number_91 : decode cX0_number 91 = .ok (.aload_n 0, 1) := dk_42 (dk_at dksX0_number_3 22 rfl rfl)
theorem dX0_number_92 : decode cX0_number 92 = .ok (.getfield 31, 3) := dk_180 0 31 (dk_at dksX0_number_4 0 rfl rfl)
theorem dX0_number_95 : decode cX0_number 95 = .ok (.iload 5, 2) := dk_21 5 (dk_at dksX0_number_4 3 rfl rfl)
theorem dX0_number_97 : decode cX0_number 97 = .ok (.iaload, 1) := dk_46 (dk_at dksX0_number_4 5 rfl rfl)
theorem dX0_number_98 : decode cX0_number 98 = .ok (.ishl, 1) := dk_120 (dk_at dksX0_number_4 6 rfl rfl)
theorem dX0_number_99 : decode cX0_number 99 = .ok (.ior, 1) := dk_128 (dk_at dksX0_number_4 7 rfl rfl)
theorem dX0_number_100 : decode cX0_number 100 = .ok (.istore 4, 2) := dk_54 4 (dk_at dksX0_number_4 8 rfl rfl)
theorem dX0_number_102 : decode cX0_number 102 = .ok (.iinc 5 1, 3) := dk_132 5 1 (dk_at dksX0_number_4 10 rfl rfl)
theorem dX0_number_105 : decode cX0_number 105 = .ok (.goto (-83), 3) := dk_167 255 173 (dk_at dksX0_number_4 13 rfl rfl)
theorem dX0_number_108 : decode cX0_number 108 = .ok (.aload_n 0, 1) := dk_42 (dk_at dksX0_number_4 16 rfl rfl)
theorem dX0_number_109 : decode cX0_number 109 = .ok (.iconst 0, 1) := dk_3 (dk_at dksX0_number_4 17 rfl rfl)
theorem dX0_number_110 : decode cX0_number 110 = .ok (.putfield 97, 3) := dk_181 0 97 (dk_at dksX0_number_4 18 rfl rfl)
theorem dX0_number_113 : decode cX0_number 113 = .ok (.lload_n 2, 1) := dk_32 (dk_at dksX0_number_4 21 rfl rfl)
theorem dX0_number_114 : decode cX0_number 114 = .ok (.lreturn, 1) := dk_173 (dk_at dksX0_number_4 22 rfl rfl)
abbrev cX0_upTo : ByteArray := prog_1_method_61_code
def yX0_upTo : MethodName := ⟨RX0, "upTo", "(I)I"⟩
def dkwX0_upTo_1 : List UInt8 := [167, 255, 237, 28, 172]
abbrev dktX0_upTo_1 : List UInt8 := dkwX0_upTo_1 ++ []
def dkwX0_upTo_0 : List UInt8 := [3, 61, 3, 62, 29, 27, 162, 0, 20, 28, 4, 42, 180, 0, 31, 29, 46, 120, 128, 61, 132, 3, 1]
abbrev dktX0_upTo_0 : List UInt8 := dkwX0_upTo_0 ++ dktX0_upTo_1
theorem dksX0_upTo_0 : cX0_upTo.data.toList.drop 0 = dktX0_upTo_0 := by decide +kernel
theorem dksX0_upTo_1 : cX0_upTo.data.toList.drop 23 = dktX0_upTo_1 := dk_seg dksX0_upTo_0 23 rfl rfl
theorem dX0_upTo_0 : decode cX0_upTo 0 = .ok (.iconst 0, 1) := dk_3 (dk_at dksX0_upTo_0 0 rfl rfl)
theorem dX0_upTo_1 : decode cX0_upTo 1 = .ok (.istore_n 2, 1) := dk_61 (dk_at dksX0_upTo_0 1 rfl rfl)
theorem dX0_upTo_2 : decode cX0_upTo 2 = .ok (.iconst 0, 1) := dk_3 (dk_at dksX0_upTo_0 2 rfl rfl)
theorem dX0_upTo_3 : decode cX0_upTo 3 = .ok (.istore_n 3, 1) := dk_62 (dk_at dksX0_upTo_0 3 rfl rfl)
theorem dX0_upTo_4 : decode cX0_upTo 4 = .ok (.iload_n 3, 1) := dk_29 (dk_at dksX0_upTo_0 4 rfl rfl)
theorem dX0_upTo_5 : decode cX0_upTo 5 = .ok (.iload_n 1, 1) := dk_27 (dk_at dksX0_upTo_0 5 rfl rfl)
theorem dX0_upTo_6 : decode cX0_upTo 6 = .ok (.if_icmp .ge 20, 3) := dk_162 0 20 (dk_at dksX0_upTo_0 6 rfl rfl)
theorem dX0_upTo_9 : decode cX0_upTo 9 = .ok (.iload_n 2, 1) := dk_28 (dk_at dksX0_upTo_0 9 rfl rfl)
theorem dX0_upTo_10 : decode cX0_upTo 10 = .ok (.iconst 1, 1) := dk_4 (dk_at dksX0_upTo_0 10 rfl rfl)
theorem dX0_upTo_11 : decode cX0_upTo 11 = .ok (.aload_n 0, 1) := dk_42 (dk_at dksX0_upTo_0 11 rfl rfl)
theorem dX0_upTo_12 : decode cX0_upTo 12 = .ok (.getfield 31, 3) := dk_180 0 31 (dk_at dksX0_upTo_0 12 rfl rfl)
theorem dX0_upTo_15 : decode cX0_upTo 15 = .ok (.iload_n 3, 1) := dk_29 (dk_at dksX0_upTo_0 15 rfl rfl)
theorem dX0_upTo_16 : decode cX0_upTo 16 = .ok (.iaload, 1) := dk_46 (dk_at dksX0_upTo_0 16 rfl rfl)
theorem dX0_upTo_17 : decode cX0_upTo 17 = .ok (.ishl, 1) := dk_120 (dk_at dksX0_upTo_0 17 rfl rfl)
theorem dX0_upTo_18 : decode cX0_upTo 18 = .ok (.ior, 1) := dk_128 (dk_at dksX0_upTo_0 18 rfl rfl)
theorem dX0_upTo_19 : decode cX0_upTo 19 = .ok (.istore_n 2, 1) := dk_61 (dk_at dksX0_upTo_0 19 rfl rfl)
theorem dX0_upTo_20 : decode cX0_upTo 20 = .ok (.iinc 3 1, 3) := dk_132 3 1 (dk_at dksX0_upTo_0 20 rfl rfl)
theorem dX0_upTo_23 : decode cX0_upTo 23 = .ok (.goto (-19), 3) := dk_167 255 237 (dk_at dksX0_upTo_1 0 rfl rfl)
theorem dX0_upTo_26 : decode cX0_upTo 26 = .ok (.iload_n 2, 1) := dk_28 (dk_at dksX0_upTo_1 3 rfl rfl)
theorem dX0_upTo_27 : decode cX0_upTo 27 = .ok (.ireturn, 1) := dk_172 (dk_at dksX0_upTo_1 4 rfl rfl)
abbrev cX0_orderAt : ByteArray := prog_1_method_63_code
def yX0_orderAt : MethodName := ⟨RX0, "orderAt", "(I)I"⟩
def dkwX0_orderAt_1 : List UInt8 := [180, 0, 31, 27, 46, 182, 0, 197, 172]
abbrev dktX0_orderAt_1 : List UInt8 := dkwX0_orderAt_1 ++ []
def dkwX0_orderAt_0 : List UInt8 := [27, 155, 0, 11, 27, 42, 180, 0, 187, 161, 0, 12, 42, 16, 8, 182, 0, 124, 167, 0, 13, 42, 42]
abbrev dktX0_orderAt_0 : List UInt8 := dkwX0_orderAt_0 ++ dktX0_orderAt_1
theorem dksX0_orderAt_0 : cX0_orderAt.data.toList.drop 0 = dktX0_orderAt_0 := by decide +kernel
theorem dksX0_orderAt_1 : cX0_orderAt.data.toList.drop 23 = dktX0_orderAt_1 := dk_seg dksX0_orderAt_0 23 rfl rfl
theorem dX0_orderAt_0 : decode cX0_orderAt 0 = .ok (.iload_n 1, 1) := dk_27 (dk_at dksX0_orderAt_0 0 rfl rfl)
theorem dX0_orderAt_1 : decode cX0_orderAt 1 = .ok (.ifCond .lt 11, 3) := dk_155 0 11 (dk_at dksX0_orderAt_0 1 rfl rfl)
theorem dX0_orderAt_4 : decode cX0_orderAt 4 = .ok (.iload_n 1, 1) := dk_27 (dk_at dksX0_orderAt_0 4 rfl rfl)
theorem dX0_orderAt_5 : decode cX0_orderAt 5 = .ok (.aload_n 0, 1) := dk_42 (dk_at dksX0_orderAt_0 5 rfl rfl)
theorem dX0_orderAt_6 : decode cX0_orderAt 6 = .ok (.getfield 187, 3) := dk_180 0 187 (dk_at dksX0_orderAt_0 6 rfl rfl)
theorem dX0_orderAt_9 : decode cX0_orderAt 9 = .ok (.if_icmp .lt 12, 3) := dk_161 0 12 (dk_at dksX0_orderAt_0 9 rfl rfl)
theorem dX0_orderAt_12 : decode cX0_orderAt 12 = .ok (.aload_n 0, 1) := dk_42 (dk_at dksX0_orderAt_0 12 rfl rfl)
theorem dX0_orderAt_13 : decode cX0_orderAt 13 = .ok (.bipush 8, 2) := dk_16 8 (dk_at dksX0_orderAt_0 13 rfl rfl)
theorem dX0_orderAt_15 : decode cX0_orderAt 15 = .ok (.invokevirtual 124, 3) := dk_182 0 124 (dk_at dksX0_orderAt_0 15 rfl rfl)
theorem dX0_orderAt_18 : decode cX0_orderAt 18 = .ok (.goto 13, 3) := dk_167 0 13 (dk_at dksX0_orderAt_0 18 rfl rfl)
theorem dX0_orderAt_21 : decode cX0_orderAt 21 = .ok (.aload_n 0, 1) := dk_42 (dk_at dksX0_orderAt_0 21 rfl rfl)
theorem dX0_orderAt_22 : decode cX0_orderAt 22 = .ok (.aload_n 0, 1) := dk_42 (dk_at dksX0_orderAt_0 22 rfl rfl)
theorem dX0_orderAt_23 : decode cX0_orderAt 23 = .ok (.getfield 31, 3) := dk_180 0 31 (dk_at dksX0_orderAt_1 0 rfl rfl)
theorem dX0_orderAt_26 : decode cX0_orderAt 26 = .ok (.iload_n 1, 1) := dk_27 (dk_at dksX0_orderAt_1 3 rfl rfl)
theorem dX0_orderAt_27 : decode cX0_orderAt 27 = .ok (.iaload, 1) := dk_46 (dk_at dksX0_orderAt_1 4 rfl rfl)
theorem dX0_orderAt_28 : decode cX0_orderAt 28 = .ok (.invokevirtual 197, 3) := dk_182 0 197 (dk_at dksX0_orderAt_1 5 rfl rfl)
theorem dX0_orderAt_31 : decode cX0_orderAt 31 = .ok (.ireturn, 1) := dk_172 (dk_at dksX0_orderAt_1 8 rfl rfl)
abbrev cX0_acts : ByteArray := prog_1_method_64_code
def yX0_acts : MethodName := ⟨RX0, "acts", "(I)I"⟩
def dkwX0_acts_3 : List UInt8 := [42, 44, 180, 0, 236, 182, 1, 20, 182, 0, 197, 172]
abbrev dktX0_acts_3 : List UInt8 := dkwX0_acts_3 ++ []
def dkwX0_acts_2 : List UInt8 := [172, 42, 42, 44, 182, 0, 212, 154, 0, 9, 27, 4, 96, 167, 0, 4, 27, 182, 1, 67, 182, 1, 17, 42]
abbrev dktX0_acts_2 : List UInt8 := dkwX0_acts_2 ++ dktX0_acts_3
def dkwX0_acts_1 : List UInt8 := [180, 0, 208, 42, 180, 0, 31, 27, 46, 50, 77, 44, 182, 0, 212, 7, 160, 0, 9, 42, 2, 182, 0, 197]
abbrev dktX0_acts_1 : List UInt8 := dkwX0_acts_1 ++ dktX0_acts_2
def dkwX0_acts_0 : List UInt8 := [27, 155, 0, 11, 27, 42, 180, 0, 187, 161, 0, 10, 42, 16, 8, 182, 0, 124, 172, 42, 180, 0, 37]
abbrev dktX0_acts_0 : List UInt8 := dkwX0_acts_0 ++ dktX0_acts_1
theorem dksX0_acts_0 : cX0_acts.data.toList.drop 0 = dktX0_acts_0 := by decide +kernel
theorem dksX0_acts_1 : cX0_acts.data.toList.drop 23 = dktX0_acts_1 := dk_seg dksX0_acts_0 23 rfl rfl
theorem dksX0_acts_2 : cX0_acts.data.toList.drop 47 = dktX0_acts_2 := dk_seg dksX0_acts_1 24 rfl rfl
theorem dksX0_acts_3 : cX0_acts.data.toList.drop 71 = dktX0_acts_3 := dk_seg dksX0_acts_2 24 rfl rfl
theorem dX0_acts_0 : decode cX0_acts 0 = .ok (.iload_n 1, 1) := dk_27 (dk_at dksX0_acts_0 0 rfl rfl)
theorem dX0_acts_1 : decode cX0_acts 1 = .ok (.ifCond .lt 11, 3) := dk_155 0 11 (dk_at dksX0_acts_0 1 rfl rfl)
theorem dX0_acts_4 : decode cX0_acts 4 = .ok (.iload_n 1, 1) := dk_27 (dk_at dksX0_acts_0 4 rfl rfl)
theorem dX0_acts_5 : decode cX0_acts 5 = .ok (.aload_n 0, 1) := dk_42 (dk_at dksX0_acts_0 5 rfl rfl)
theorem dX0_acts_6 : decode cX0_acts 6 = .ok (.getfield 187, 3) := dk_180 0 187 (dk_at dksX0_acts_0 6 rfl rfl)
theorem dX0_acts_9 : decode cX0_acts 9 = .ok (.if_icmp .lt 10, 3) := dk_161 0 10 (dk_at dksX0_acts_0 9 rfl rfl)
theorem dX0_acts_12 : decode cX0_acts 12 = .ok (.aload_n 0, 1) := dk_42 (dk_at dksX0_acts_0 12 rfl rfl)
theorem dX0_acts_13 : decode cX0_acts 13 = .ok (.bipush 8, 2) := dk_16 8 (dk_at dksX0_acts_0 13 rfl rfl)
theorem dX0_acts_15 : decode cX0_acts 15 = .ok (.invokevirtual 124, 3) := dk_182 0 124 (dk_at dksX0_acts_0 15 rfl rfl)
theorem dX0_acts_18 : decode cX0_acts 18 = .ok (.ireturn, 1) := dk_172 (dk_at dksX0_acts_0 18 rfl rfl)
theorem dX0_acts_19 : decode cX0_acts 19 = .ok (.aload_n 0, 1) := dk_42 (dk_at dksX0_acts_0 19 rfl rfl)
theorem dX0_acts_20 : decode cX0_acts 20 = .ok (.getfield 37, 3) := dk_180 0 37 (dk_at dksX0_acts_0 20 rfl rfl)
theorem dX0_acts_23 : decode cX0_acts 23 = .ok (.getfield 208, 3) := dk_180 0 208 (dk_at dksX0_acts_1 0 rfl rfl)
theorem dX0_acts_26 : decode cX0_acts 26 = .ok (.aload_n 0, 1) := dk_42 (dk_at dksX0_acts_1 3 rfl rfl)
theorem dX0_acts_27 : decode cX0_acts 27 = .ok (.getfield 31, 3) := dk_180 0 31 (dk_at dksX0_acts_1 4 rfl rfl)
theorem dX0_acts_30 : decode cX0_acts 30 = .ok (.iload_n 1, 1) := dk_27 (dk_at dksX0_acts_1 7 rfl rfl)
theorem dX0_acts_31 : decode cX0_acts 31 = .ok (.iaload, 1) := dk_46 (dk_at dksX0_acts_1 8 rfl rfl)
theorem dX0_acts_32 : decode cX0_acts 32 = .ok (.aaload, 1) := dk_50 (dk_at dksX0_acts_1 9 rfl rfl)
theorem dX0_acts_33 : decode cX0_acts 33 = .ok (.astore_n 2, 1) := dk_77 (dk_at dksX0_acts_1 10 rfl rfl)
theorem dX0_acts_34 : decode cX0_acts 34 = .ok (.aload_n 2, 1) := dk_44 (dk_at dksX0_acts_1 11 rfl rfl)
theorem dX0_acts_35 : decode cX0_acts 35 = .ok (.invokevirtual 212, 3) := dk_182 0 212 (dk_at dksX0_acts_1 12 rfl rfl)
theorem dX0_acts_38 : decode cX0_acts 38 = .ok (.iconst 4, 1) := dk_7 (dk_at dksX0_acts_1 15 rfl rfl)
theorem dX0_acts_39 : decode cX0_acts 39 = .ok (.if_icmp .ne 9, 3) := dk_160 0 9 (dk_at dksX0_acts_1 16 rfl rfl)
theorem dX0_acts_42 : decode cX0_acts 42 = .ok (.aload_n 0, 1) := dk_42 (dk_at dksX0_acts_1 19 rfl rfl)
theorem dX0_acts_43 : decode cX0_acts 43 = .ok (.iconst (-1), 1) := dk_2 (dk_at dksX0_acts_1 20 rfl rfl)
theorem dX0_acts_44 : decode cX0_acts 44 = .ok (.invokevirtual 197, 3) := dk_182 0 197 (dk_at dksX0_acts_1 21 rfl rfl)
theorem dX0_acts_47 : decode cX0_acts 47 = .ok (.ireturn, 1) := dk_172 (dk_at dksX0_acts_2 0 rfl rfl)
theorem dX0_acts_48 : decode cX0_acts 48 = .ok (.aload_n 0, 1) := dk_42 (dk_at dksX0_acts_2 1 rfl rfl)
theorem dX0_acts_49 : decode cX0_acts 49 = .ok (.aload_n 0, 1) := dk_42 (dk_at dksX0_acts_2 2 rfl rfl)
theorem dX0_acts_50 : decode cX0_acts 50 = .ok (.aload_n 2, 1) := dk_44 (dk_at dksX0_acts_2 3 rfl rfl)
theorem dX0_acts_51 : decode cX0_acts 51 = .ok (.invokevirtual 212, 3) := dk_182 0 212 (dk_at dksX0_acts_2 4 rfl rfl)
theorem dX0_acts_54 : decode cX0_acts 54 = .ok (.ifCond .ne 9, 3) := dk_154 0 9 (dk_at dksX0_acts_2 7 rfl rfl)
theorem dX0_acts_57 : decode cX0_acts 57 = .ok (.iload_n 1, 1) := dk_27 (dk_at dksX0_acts_2 10 rfl rfl)
theorem dX0_acts_58 : decode cX0_acts 58 = .ok (.iconst 1, 1) := dk_4 (dk_at dksX0_acts_2 11 rfl rfl)
theorem dX0_acts_59 : decode cX0_acts 59 = .ok (.iadd, 1) := dk_96 (dk_at dksX0_acts_2 12 rfl rfl)
theorem dX0_acts_60 : decode cX0_acts 60 = .ok (.goto 4, 3) := dk_167 0 4 (dk_at dksX0_acts_2 13 rfl rfl)
theorem dX0_acts_63 : decode cX0_acts 63 = .ok (.iload_n 1, 1) := dk_27 (dk_at dksX0_acts_2 16 rfl rfl)
theorem dX0_acts_64 : decode cX0_acts 64 = .ok (.invokevirtual 323, 3) := dk_182 1 67 (dk_at dksX0_acts_2 17 rfl rfl)
theorem dX0_acts_67 : decode cX0_acts 67 = .ok (.invokevirtual 273, 3) := dk_182 1 17 (dk_at dksX0_acts_2 20 rfl rfl)
theorem dX0_acts_70 : decode cX0_acts 70 = .ok (.aload_n 0, 1) := dk_42 (dk_at dksX0_acts_2 23 rfl rfl)
theorem dX0_acts_71 : decode cX0_acts 71 = .ok (.aload_n 0, 1) := dk_42 (dk_at dksX0_acts_3 0 rfl rfl)
theorem dX0_acts_72 : decode cX0_acts 72 = .ok (.aload_n 2, 1) := dk_44 (dk_at dksX0_acts_3 1 rfl rfl)
theorem dX0_acts_73 : decode cX0_acts 73 = .ok (.getfield 236, 3) := dk_180 0 236 (dk_at dksX0_acts_3 2 rfl rfl)
theorem dX0_acts_76 : decode cX0_acts 76 = .ok (.invokevirtual 276, 3) := dk_182 1 20 (dk_at dksX0_acts_3 5 rfl rfl)
theorem dX0_acts_79 : decode cX0_acts 79 = .ok (.invokevirtual 197, 3) := dk_182 0 197 (dk_at dksX0_acts_3 8 rfl rfl)
theorem dX0_acts_82 : decode cX0_acts 82 = .ok (.ireturn, 1) := dk_172 (dk_at dksX0_acts_3 11 rfl rfl)
abbrev cX0_swap : ByteArray := prog_1_method_67_code
def yX0_swap : MethodName := ⟨RX0, "swap", "(I)Z"⟩
def dkwX0_swap_1 : List UInt8 := [182, 1, 70, 154, 0, 10, 42, 16, 9, 182, 0, 103, 172, 42, 27, 182, 1, 73, 42, 3, 182, 0, 103, 172]
abbrev dktX0_swap_1 : List UInt8 := dkwX0_swap_1 ++ []
def dkwX0_swap_0 : List UInt8 := [27, 155, 0, 13, 27, 42, 180, 0, 187, 4, 100, 161, 0, 10, 42, 16, 8, 182, 0, 103, 172, 42, 27]
abbrev dktX0_swap_0 : List UInt8 := dkwX0_swap_0 ++ dktX0_swap_1
theorem dksX0_swap_0 : cX0_swap.data.toList.drop 0 = dktX0_swap_0 := by decide +kernel
theorem dksX0_swap_1 : cX0_swap.data.toList.drop 23 = dktX0_swap_1 := dk_seg dksX0_swap_0 23 rfl rfl
theorem dX0_swap_0 : decode cX0_swap 0 = .ok (.iload_n 1, 1) := dk_27 (dk_at dksX0_swap_0 0 rfl rfl)
theorem dX0_swap_1 : decode cX0_swap 1 = .ok (.ifCond .lt 13, 3) := dk_155 0 13 (dk_at dksX0_swap_0 1 rfl rfl)
theorem dX0_swap_4 : decode cX0_swap 4 = .ok (.iload_n 1, 1) := dk_27 (dk_at dksX0_swap_0 4 rfl rfl)
theorem dX0_swap_5 : decode cX0_swap 5 = .ok (.aload_n 0, 1) := dk_42 (dk_at dksX0_swap_0 5 rfl rfl)
theorem dX0_swap_6 : decode cX0_swap 6 = .ok (.getfield 187, 3) := dk_180 0 187 (dk_at dksX0_swap_0 6 rfl rfl)
theorem dX0_swap_9 : decode cX0_swap 9 = .ok (.iconst 1, 1) := dk_4 (dk_at dksX0_swap_0 9 rfl rfl)
theorem dX0_swap_10 : decode cX0_swap 10 = .ok (.isub, 1) := dk_100 (dk_at dksX0_swap_0 10 rfl rfl)
theorem dX0_swap_11 : decode cX0_swap 11 = .ok (.if_icmp .lt 10, 3) := dk_161 0 10 (dk_at dksX0_swap_0 11 rfl rfl)
theorem dX0_swap_14 : decode cX0_swap 14 = .ok (.aload_n 0, 1) := dk_42 (dk_at dksX0_swap_0 14 rfl rfl)
theorem dX0_swap_15 : decode cX0_swap 15 = .ok (.bipush 8, 2) := dk_16 8 (dk_at dksX0_swap_0 15 rfl rfl)
theorem dX0_swap_17 : decode cX0_swap 17 = .ok (.invokevirtual 103, 3) := dk_182 0 103 (dk_at dksX0_swap_0 17 rfl rfl)
theorem dX0_swap_20 : decode cX0_swap 20 = .ok (.ireturn, 1) := dk_172 (dk_at dksX0_swap_0 20 rfl rfl)
theorem dX0_swap_21 : decode cX0_swap 21 = .ok (.aload_n 0, 1) := dk_42 (dk_at dksX0_swap_0 21 rfl rfl)
theorem dX0_swap_22 : decode cX0_swap 22 = .ok (.iload_n 1, 1) := dk_27 (dk_at dksX0_swap_0 22 rfl rfl)
theorem dX0_swap_23 : decode cX0_swap 23 = .ok (.invokevirtual 326, 3) := dk_182 1 70 (dk_at dksX0_swap_1 0 rfl rfl)
theorem dX0_swap_26 : decode cX0_swap 26 = .ok (.ifCond .ne 10, 3) := dk_154 0 10 (dk_at dksX0_swap_1 3 rfl rfl)
theorem dX0_swap_29 : decode cX0_swap 29 = .ok (.aload_n 0, 1) := dk_42 (dk_at dksX0_swap_1 6 rfl rfl)
theorem dX0_swap_30 : decode cX0_swap 30 = .ok (.bipush 9, 2) := dk_16 9 (dk_at dksX0_swap_1 7 rfl rfl)
theorem dX0_swap_32 : decode cX0_swap 32 = .ok (.invokevirtual 103, 3) := dk_182 0 103 (dk_at dksX0_swap_1 9 rfl rfl)
theorem dX0_swap_35 : decode cX0_swap 35 = .ok (.ireturn, 1) := dk_172 (dk_at dksX0_swap_1 12 rfl rfl)
theorem dX0_swap_36 : decode cX0_swap 36 = .ok (.aload_n 0, 1) := dk_42 (dk_at dksX0_swap_1 13 rfl rfl)
theorem dX0_swap_37 : decode cX0_swap 37 = .ok (.iload_n 1, 1) := dk_27 (dk_at dksX0_swap_1 14 rfl rfl)
theorem dX0_swap_38 : decode cX0_swap 38 = .ok (.invokevirtual 329, 3) := dk_182 1 73 (dk_at dksX0_swap_1 15 rfl rfl)
theorem dX0_swap_41 : decode cX0_swap 41 = .ok (.aload_n 0, 1) := dk_42 (dk_at dksX0_swap_1 18 rfl rfl)
theorem dX0_swap_42 : decode cX0_swap 42 = .ok (.iconst 0, 1) := dk_3 (dk_at dksX0_swap_1 19 rfl rfl)
theorem dX0_swap_43 : decode cX0_swap 43 = .ok (.invokevirtual 103, 3) := dk_182 0 103 (dk_at dksX0_swap_1 20 rfl rfl)
theorem dX0_swap_46 : decode cX0_swap 46 = .ok (.ireturn, 1) := dk_172 (dk_at dksX0_swap_1 23 rfl rfl)
abbrev cX0_maySwap : ByteArray := prog_1_method_65_code
def yX0_maySwap : MethodName := ⟨RX0, "maySwap", "(I)Z"⟩
def dkwX0_maySwap_1 : List UInt8 := [46, 122, 4, 126, 154, 0, 7, 4, 167, 0, 4, 3, 172]
abbrev dktX0_maySwap_1 : List UInt8 := dkwX0_maySwap_1 ++ []
def dkwX0_maySwap_0 : List UInt8 := [42, 180, 0, 37, 180, 0, 208, 42, 180, 0, 31, 27, 4, 96, 46, 50, 180, 0, 245, 42, 180, 0, 31, 27]
abbrev dktX0_maySwap_0 : List UInt8 := dkwX0_maySwap_0 ++ dktX0_maySwap_1
theorem dksX0_maySwap_0 : cX0_maySwap.data.toList.drop 0 = dktX0_maySwap_0 := by decide +kernel
theorem dksX0_maySwap_1 : cX0_maySwap.data.toList.drop 24 = dktX0_maySwap_1 := dk_seg dksX0_maySwap_0 24 rfl rfl
theorem dX0_maySwap_0 : decode cX0_maySwap 0 = .ok (.aload_n 0, 1) := dk_42 (dk_at dksX0_maySwap_0 0 rfl rfl)
theorem dX0_maySwap_1 : decode cX0_maySwap 1 = .ok (.getfield 37, 3) := dk_180 0 37 (dk_at dksX0_maySwap_0 1 rfl rfl)
theorem dX0_maySwap_4 : decode cX0_maySwap 4 = .ok (.getfield 208, 3) := dk_180 0 208 (dk_at dksX0_maySwap_0 4 rfl rfl)
theorem dX0_maySwap_7 : decode cX0_maySwap 7 = .ok (.aload_n 0, 1) := dk_42 (dk_at dksX0_maySwap_0 7 rfl rfl)
theorem dX0_maySwap_8 : decode cX0_maySwap 8 = .ok (.getfield 31, 3) := dk_180 0 31 (dk_at dksX0_maySwap_0 8 rfl rfl)
theorem dX0_maySwap_11 : decode cX0_maySwap 11 = .ok (.iload_n 1, 1) := dk_27 (dk_at dksX0_maySwap_0 11 rfl rfl)
theorem dX0_maySwap_12 : decode cX0_maySwap 12 = .ok (.iconst 1, 1) := dk_4 (dk_at dksX0_maySwap_0 12 rfl rfl)
theorem dX0_maySwap_13 : decode cX0_maySwap 13 = .ok (.iadd, 1) := dk_96 (dk_at dksX0_maySwap_0 13 rfl rfl)
theorem dX0_maySwap_14 : decode cX0_maySwap 14 = .ok (.iaload, 1) := dk_46 (dk_at dksX0_maySwap_0 14 rfl rfl)
theorem dX0_maySwap_15 : decode cX0_maySwap 15 = .ok (.aaload, 1) := dk_50 (dk_at dksX0_maySwap_0 15 rfl rfl)
theorem dX0_maySwap_16 : decode cX0_maySwap 16 = .ok (.getfield 245, 3) := dk_180 0 245 (dk_at dksX0_maySwap_0 16 rfl rfl)
theorem dX0_maySwap_19 : decode cX0_maySwap 19 = .ok (.aload_n 0, 1) := dk_42 (dk_at dksX0_maySwap_0 19 rfl rfl)
theorem dX0_maySwap_20 : decode cX0_maySwap 20 = .ok (.getfield 31, 3) := dk_180 0 31 (dk_at dksX0_maySwap_0 20 rfl rfl)
theorem dX0_maySwap_23 : decode cX0_maySwap 23 = .ok (.iload_n 1, 1) := dk_27 (dk_at dksX0_maySwap_0 23 rfl rfl)
theorem dX0_maySwap_24 : decode cX0_maySwap 24 = .ok (.iaload, 1) := dk_46 (dk_at dksX0_maySwap_1 0 rfl rfl)
theorem dX0_maySwap_25 : decode cX0_maySwap 25 = .ok (.ishr, 1) := dk_122 (dk_at dksX0_maySwap_1 1 rfl rfl)
theorem dX0_maySwap_26 : decode cX0_maySwap 26 = .ok (.iconst 1, 1) := dk_4 (dk_at dksX0_maySwap_1 2 rfl rfl)
theorem dX0_maySwap_27 : decode cX0_maySwap 27 = .ok (.iand, 1) := dk_126 (dk_at dksX0_maySwap_1 3 rfl rfl)
theorem dX0_maySwap_28 : decode cX0_maySwap 28 = .ok (.ifCond .ne 7, 3) := dk_154 0 7 (dk_at dksX0_maySwap_1 4 rfl rfl)
theorem dX0_maySwap_31 : decode cX0_maySwap 31 = .ok (.iconst 1, 1) := dk_4 (dk_at dksX0_maySwap_1 7 rfl rfl)
theorem dX0_maySwap_32 : decode cX0_maySwap 32 = .ok (.goto 4, 3) := dk_167 0 4 (dk_at dksX0_maySwap_1 8 rfl rfl)
theorem dX0_maySwap_35 : decode cX0_maySwap 35 = .ok (.iconst 0, 1) := dk_3 (dk_at dksX0_maySwap_1 11 rfl rfl)
theorem dX0_maySwap_36 : decode cX0_maySwap 36 = .ok (.ireturn, 1) := dk_172 (dk_at dksX0_maySwap_1 12 rfl rfl)
abbrev cX0_swaps : ByteArray := prog_1_method_66_code
def yX0_swaps : MethodName := ⟨RX0, "swaps", "(I)V"⟩
def dkwX0_swaps_1 : List UInt8 := [180, 0, 31, 27, 4, 96, 28, 79, 177]
abbrev dktX0_swaps_1 : List UInt8 := dkwX0_swaps_1 ++ []
def dkwX0_swaps_0 : List UInt8 := [42, 180, 0, 31, 27, 46, 61, 42, 180, 0, 31, 27, 42, 180, 0, 31, 27, 4, 96, 46, 79, 42]
abbrev dktX0_swaps_0 : List UInt8 := dkwX0_swaps_0 ++ dktX0_swaps_1
theorem dksX0_swaps_0 : cX0_swaps.data.toList.drop 0 = dktX0_swaps_0 := by decide +kernel
theorem dksX0_swaps_1 : cX0_swaps.data.toList.drop 22 = dktX0_swaps_1 := dk_seg dksX0_swaps_0 22 rfl rfl
theorem dX0_swaps_0 : decode cX0_swaps 0 = .ok (.aload_n 0, 1) := dk_42 (dk_at dksX0_swaps_0 0 rfl rfl)
theorem dX0_swaps_1 : decode cX0_swaps 1 = .ok (.getfield 31, 3) := dk_180 0 31 (dk_at dksX0_swaps_0 1 rfl rfl)
theorem dX0_swaps_4 : decode cX0_swaps 4 = .ok (.iload_n 1, 1) := dk_27 (dk_at dksX0_swaps_0 4 rfl rfl)
theorem dX0_swaps_5 : decode cX0_swaps 5 = .ok (.iaload, 1) := dk_46 (dk_at dksX0_swaps_0 5 rfl rfl)
theorem dX0_swaps_6 : decode cX0_swaps 6 = .ok (.istore_n 2, 1) := dk_61 (dk_at dksX0_swaps_0 6 rfl rfl)
theorem dX0_swaps_7 : decode cX0_swaps 7 = .ok (.aload_n 0, 1) := dk_42 (dk_at dksX0_swaps_0 7 rfl rfl)
theorem dX0_swaps_8 : decode cX0_swaps 8 = .ok (.getfield 31, 3) := dk_180 0 31 (dk_at dksX0_swaps_0 8 rfl rfl)
theorem dX0_swaps_11 : decode cX0_swaps 11 = .ok (.iload_n 1, 1) := dk_27 (dk_at dksX0_swaps_0 11 rfl rfl)
theorem dX0_swaps_12 : decode cX0_swaps 12 = .ok (.aload_n 0, 1) := dk_42 (dk_at dksX0_swaps_0 12 rfl rfl)
theorem dX0_swaps_13 : decode cX0_swaps 13 = .ok (.getfield 31, 3) := dk_180 0 31 (dk_at dksX0_swaps_0 13 rfl rfl)
theorem dX0_swaps_16 : decode cX0_swaps 16 = .ok (.iload_n 1, 1) := dk_27 (dk_at dksX0_swaps_0 16 rfl rfl)
theorem dX0_swaps_17 : decode cX0_swaps 17 = .ok (.iconst 1, 1) := dk_4 (dk_at dksX0_swaps_0 17 rfl rfl)
theorem dX0_swaps_18 : decode cX0_swaps 18 = .ok (.iadd, 1) := dk_96 (dk_at dksX0_swaps_0 18 rfl rfl)
theorem dX0_swaps_19 : decode cX0_swaps 19 = .ok (.iaload, 1) := dk_46 (dk_at dksX0_swaps_0 19 rfl rfl)
theorem dX0_swaps_20 : decode cX0_swaps 20 = .ok (.iastore, 1) := dk_79 (dk_at dksX0_swaps_0 20 rfl rfl)
theorem dX0_swaps_21 : decode cX0_swaps 21 = .ok (.aload_n 0, 1) := dk_42 (dk_at dksX0_swaps_0 21 rfl rfl)
theorem dX0_swaps_22 : decode cX0_swaps 22 = .ok (.getfield 31, 3) := dk_180 0 31 (dk_at dksX0_swaps_1 0 rfl rfl)
theorem dX0_swaps_25 : decode cX0_swaps 25 = .ok (.iload_n 1, 1) := dk_27 (dk_at dksX0_swaps_1 3 rfl rfl)
theorem dX0_swaps_26 : decode cX0_swaps 26 = .ok (.iconst 1, 1) := dk_4 (dk_at dksX0_swaps_1 4 rfl rfl)
theorem dX0_swaps_27 : decode cX0_swaps 27 = .ok (.iadd, 1) := dk_96 (dk_at dksX0_swaps_1 5 rfl rfl)
theorem dX0_swaps_28 : decode cX0_swaps 28 = .ok (.iload_n 2, 1) := dk_28 (dk_at dksX0_swaps_1 6 rfl rfl)
theorem dX0_swaps_29 : decode cX0_swaps 29 = .ok (.iastore, 1) := dk_79 (dk_at dksX0_swaps_1 7 rfl rfl)
theorem dX0_swaps_30 : decode cX0_swaps 30 = .ok (.return_, 1) := dk_177 (dk_at dksX0_swaps_1 8 rfl rfl)
abbrev cX0_forward : ByteArray := prog_1_method_68_code
def yX0_forward : MethodName := ⟨RX0, "forward", "(I)I"⟩
def dkwX0_forward_3 : List UInt8 := [42, 28, 4, 100, 182, 1, 73, 132, 2, 255, 167, 255, 232, 42, 28, 182, 0, 197, 172]
abbrev dktX0_forward_3 : List UInt8 := dkwX0_forward_3 ++ []
def dkwX0_forward_2 : List UInt8 := [160, 0, 10, 42, 16, 8, 182, 0, 124, 172, 28, 158, 0, 26, 42, 28, 4, 100, 182, 1, 70, 153, 0, 16]
abbrev dktX0_forward_2 : List UInt8 := dkwX0_forward_2 ++ dktX0_forward_3
def dkwX0_forward_1 : List UInt8 := [162, 0, 19, 42, 180, 0, 31, 28, 46, 27, 159, 0, 9, 132, 2, 1, 167, 255, 235, 28, 42, 180, 0, 187]
abbrev dktX0_forward_1 : List UInt8 := dkwX0_forward_1 ++ dktX0_forward_2
def dkwX0_forward_0 : List UInt8 := [42, 27, 133, 182, 0, 224, 154, 0, 9, 42, 5, 182, 0, 124, 172, 3, 61, 28, 42, 180, 0, 187]
abbrev dktX0_forward_0 : List UInt8 := dkwX0_forward_0 ++ dktX0_forward_1
theorem dksX0_forward_0 : cX0_forward.data.toList.drop 0 = dktX0_forward_0 := by decide +kernel
theorem dksX0_forward_1 : cX0_forward.data.toList.drop 22 = dktX0_forward_1 := dk_seg dksX0_forward_0 22 rfl rfl
theorem dksX0_forward_2 : cX0_forward.data.toList.drop 46 = dktX0_forward_2 := dk_seg dksX0_forward_1 24 rfl rfl
theorem dksX0_forward_3 : cX0_forward.data.toList.drop 70 = dktX0_forward_3 := dk_seg dksX0_forward_2 24 rfl rfl
theorem dX0_forward_0 : decode cX0_forward 0 = .ok (.aload_n 0, 1) := dk_42 (dk_at dksX0_forward_0 0 rfl rfl)
theorem dX0_forward_1 : decode cX0_forward 1 = .ok (.iload_n 1, 1) := dk_27 (dk_at dksX0_forward_0 1 rfl rfl)
theorem dX0_forward_2 : decode cX0_forward 2 = .ok (.i2l, 1) := dk_133 (dk_at dksX0_forward_0 2 rfl rfl)
theorem dX0_forward_3 : decode cX0_forward 3 = .ok (.invokevirtual 224, 3) := dk_182 0 224 (dk_at dksX0_forward_0 3 rfl rfl)
theorem dX0_forward_6 : decode cX0_forward 6 = .ok (.ifCond .ne 9, 3) := dk_154 0 9 (dk_at dksX0_forward_0 6 rfl rfl)
theorem dX0_forward_9 : decode cX0_forward 9 = .ok (.aload_n 0, 1) := dk_42 (dk_at dksX0_forward_0 9 rfl rfl)
theorem dX0_forward_10 : decode cX0_forward 10 = .ok (.iconst 2, 1) := dk_5 (dk_at dksX0_forward_0 10 rfl rfl)
theorem dX0_forward_11 : decode cX0_forward 11 = .ok (.invokevirtual 124, 3) := dk_182 0 124 (dk_at dksX0_forward_0 11 rfl rfl)
theorem dX0_forward_14 : decode cX0_forward 14 = .ok (.ireturn, 1) := dk_172 (dk_at dksX0_forward_0 14 rfl rfl)
theorem dX0_forward_15 : decode cX0_forward 15 = .ok (.iconst 0, 1) := dk_3 (dk_at dksX0_forward_0 15 rfl rfl)
theorem dX0_forward_16 : decode cX0_forward 16 = .ok (.istore_n 2, 1) := dk_61 (dk_at dksX0_forward_0 16 rfl rfl)
theorem dX0_forward_17 : decode cX0_forward 17 = .ok (.iload_n 2, 1) := dk_28 (dk_at dksX0_forward_0 17 rfl rfl)
theorem dX0_forward_18 : decode cX0_forward 18 = .ok (.aload_n 0, 1) := dk_42 (dk_at dksX0_forward_0 18 rfl rfl)
theorem dX0_forward_19 : decode cX0_forward 19 = .ok (.getfield 187, 3) := dk_180 0 187 (dk_at dksX0_forward_0 19 rfl rfl)
theorem dX0_forward_22 : decode cX0_forward 22 = .ok (.if_icmp .ge 19, 3) := dk_162 0 19 (dk_at dksX0_forward_1 0 rfl rfl)
theorem dX0_forward_25 : decode cX0_forward 25 = .ok (.aload_n 0, 1) := dk_42 (dk_at dksX0_forward_1 3 rfl rfl)
theorem dX0_forward_26 : decode cX0_forward 26 = .ok (.getfield 31, 3) := dk_180 0 31 (dk_at dksX0_forward_1 4 rfl rfl)
theorem dX0_forward_29 : decode cX0_forward 29 = .ok (.iload_n 2, 1) := dk_28 (dk_at dksX0_forward_1 7 rfl rfl)
theorem dX0_forward_30 : decode cX0_forward 30 = .ok (.iaload, 1) := dk_46 (dk_at dksX0_forward_1 8 rfl rfl)
theorem dX0_forward_31 : decode cX0_forward 31 = .ok (.iload_n 1, 1) := dk_27 (dk_at dksX0_forward_1 9 rfl rfl)
theorem dX0_forward_32 : decode cX0_forward 32 = .ok (.if_icmp .eq 9, 3) := dk_159 0 9 (dk_at dksX0_forward_1 10 rfl rfl)
theorem dX0_forward_35 : decode cX0_forward 35 = .ok (.iinc 2 1, 3) := dk_132 2 1 (dk_at dksX0_forward_1 13 rfl rfl)
theorem dX0_forward_38 : decode cX0_forward 38 = .ok (.goto (-21), 3) := dk_167 255 235 (dk_at dksX0_forward_1 16 rfl rfl)
theorem dX0_forward_41 : decode cX0_forward 41 = .ok (.iload_n 2, 1) := dk_28 (dk_at dksX0_forward_1 19 rfl rfl)
theorem dX0_forward_42 : decode cX0_forward 42 = .ok (.aload_n 0, 1) := dk_42 (dk_at dksX0_forward_1 20 rfl rfl)
theorem dX0_forward_43 : decode cX0_forward 43 = .ok (.getfield 187, 3) := dk_180 0 187 (dk_at dksX0_forward_1 21 rfl rfl)
theorem dX0_forward_46 : decode cX0_forward 46 = .ok (.if_icmp .ne 10, 3) := dk_160 0 10 (dk_at dksX0_forward_2 0 rfl rfl)
theorem dX0_forward_49 : decode cX0_forward 49 = .ok (.aload_n 0, 1) := dk_42 (dk_at dksX0_forward_2 3 rfl rfl)
theorem dX0_forward_50 : decode cX0_forward 50 = .ok (.bipush 8, 2) := dk_16 8 (dk_at dksX0_forward_2 4 rfl rfl)
theorem dX0_forward_52 : decode cX0_forward 52 = .ok (.invokevirtual 124, 3) := dk_182 0 124 (dk_at dksX0_forward_2 6 rfl rfl)
theorem dX0_forward_55 : decode cX0_forward 55 = .ok (.ireturn, 1) := dk_172 (dk_at dksX0_forward_2 9 rfl rfl)
theorem dX0_forward_56 : decode cX0_forward 56 = .ok (.iload_n 2, 1) := dk_28 (dk_at dksX0_forward_2 10 rfl rfl)
theorem dX0_forward_57 : decode cX0_forward 57 = .ok (.ifCond .le 26, 3) := dk_158 0 26 (dk_at dksX0_forward_2 11 rfl rfl)
theorem dX0_forward_60 : decode cX0_forward 60 = .ok (.aload_n 0, 1) := dk_42 (dk_at dksX0_forward_2 14 rfl rfl)
theorem dX0_forward_61 : decode cX0_forward 61 = .ok (.iload_n 2, 1) := dk_28 (dk_at dksX0_forward_2 15 rfl rfl)
theorem dX0_forward_62 : decode cX0_forward 62 = .ok (.iconst 1, 1) := dk_4 (dk_at dksX0_forward_2 16 rfl rfl)
theorem dX0_forward_63 : decode cX0_forward 63 = .ok (.isub, 1) := dk_100 (dk_at dksX0_forward_2 17 rfl rfl)
theorem dX0_forward_64 : decode cX0_forward 64 = .ok (.invokevirtual 326, 3) := dk_182 1 70 (dk_at dksX0_forward_2 18 rfl rfl)
theorem dX0_forward_67 : decode cX0_forward 67 = .ok (.ifCond .eq 16, 3) := dk_153 0 16 (dk_at dksX0_forward_2 21 rfl rfl)
theorem dX0_forward_70 : decode cX0_forward 70 = .ok (.aload_n 0, 1) := dk_42 (dk_at dksX0_forward_3 0 rfl rfl)
theorem dX0_forward_71 : decode cX0_forward 71 = .ok (.iload_n 2, 1) := dk_28 (dk_at dksX0_forward_3 1 rfl rfl)
theorem dX0_forward_72 : decode cX0_forward 72 = .ok (.iconst 1, 1) := dk_4 (dk_at dksX0_forward_3 2 rfl rfl)
theorem dX0_forward_73 : decode cX0_forward 73 = .ok (.isub, 1) := dk_100 (dk_at dksX0_forward_3 3 rfl rfl)
theorem dX0_forward_74 : decode cX0_forward 74 = .ok (.invokevirtual 329, 3) := dk_182 1 73 (dk_at dksX0_forward_3 4 rfl rfl)
theorem dX0_forward_77 : decode cX0_forward 77 = .ok (.iinc 2 (-1), 3) := dk_132 2 255 (dk_at dksX0_forward_3 7 rfl rfl)
theorem dX0_forward_80 : decode cX0_forward 80 = .ok (.goto (-24), 3) := dk_167 255 232 (dk_at dksX0_forward_3 10 rfl rfl)
theorem dX0_forward_83 : decode cX0_forward 83 = .ok (.aload_n 0, 1) := dk_42 (dk_at dksX0_forward_3 13 rfl rfl)
theorem dX0_forward_84 : decode cX0_forward 84 = .ok (.iload_n 2, 1) := dk_28 (dk_at dksX0_forward_3 14 rfl rfl)
theorem dX0_forward_85 : decode cX0_forward 85 = .ok (.invokevirtual 197, 3) := dk_182 0 197 (dk_at dksX0_forward_3 15 rfl rfl)
theorem dX0_forward_88 : decode cX0_forward 88 = .ok (.ireturn, 1) := dk_172 (dk_at dksX0_forward_3 18 rfl rfl)
abbrev cX0_swaps_2 : ByteArray := prog_1_method_69_code
def yX0_swaps_2 : MethodName := ⟨RX0, "swaps", "()I"⟩
def dkwX0_swaps_2_6 : List UInt8 := [132, 5, 1, 167, 255, 209, 132, 4, 1, 167, 255, 188, 42, 29, 182, 0, 197, 172]
abbrev dktX0_swaps_2_6 : List UInt8 := dkwX0_swaps_2_6 ++ []
def dkwX0_swaps_2_5 : List UInt8 := [42, 180, 0, 69, 42, 180, 0, 31, 21, 5, 46, 46, 164, 0, 7, 4, 167, 0, 4, 3, 96, 62]
abbrev dktX0_swaps_2_5 : List UInt8 := dkwX0_swaps_2_5 ++ dktX0_swaps_2_6
def dkwX0_swaps_2_4 : List UInt8 := [54, 5, 21, 5, 42, 180, 0, 187, 162, 0, 44, 29, 42, 180, 0, 69, 42, 180, 0, 31, 21, 4, 46, 46]
abbrev dktX0_swaps_2_4 : List UInt8 := dkwX0_swaps_2_4 ++ dktX0_swaps_2_5
def dkwX0_swaps_2_3 : List UInt8 := [61, 132, 4, 1, 167, 255, 200, 3, 54, 4, 21, 4, 42, 180, 0, 187, 162, 0, 65, 21, 4, 4, 96]
abbrev dktX0_swaps_2_3 : List UInt8 := dkwX0_swaps_2_3 ++ dktX0_swaps_2_4
def dkwX0_swaps_2_2 : List UInt8 := [154, 0, 9, 132, 5, 1, 167, 255, 234, 42, 180, 0, 69, 21, 5, 21, 4, 79, 28, 4, 21, 5, 120, 128]
abbrev dktX0_swaps_2_2 : List UInt8 := dkwX0_swaps_2_2 ++ dktX0_swaps_2_3
def dkwX0_swaps_2_1 : List UInt8 := [162, 0, 53, 3, 54, 5, 27, 21, 5, 122, 4, 126, 153, 0, 13, 42, 28, 21, 5, 182, 1, 49]
abbrev dktX0_swaps_2_1 : List UInt8 := dkwX0_swaps_2_1 ++ dktX0_swaps_2_2
def dkwX0_swaps_2_0 : List UInt8 := [42, 42, 180, 0, 187, 182, 1, 67, 60, 3, 61, 3, 62, 3, 54, 4, 21, 4, 42, 180, 0, 187]
abbrev dktX0_swaps_2_0 : List UInt8 := dkwX0_swaps_2_0 ++ dktX0_swaps_2_1
theorem dksX0_swaps_2_0 : cX0_swaps_2.data.toList.drop 0 = dktX0_swaps_2_0 := by decide +kernel
theorem dksX0_swaps_2_1 : cX0_swaps_2.data.toList.drop 22 = dktX0_swaps_2_1 := dk_seg dksX0_swaps_2_0 22 rfl rfl
theorem dksX0_swaps_2_2 : cX0_swaps_2.data.toList.drop 44 = dktX0_swaps_2_2 := dk_seg dksX0_swaps_2_1 22 rfl rfl
theorem dksX0_swaps_2_3 : cX0_swaps_2.data.toList.drop 68 = dktX0_swaps_2_3 := dk_seg dksX0_swaps_2_2 24 rfl rfl
theorem dksX0_swaps_2_4 : cX0_swaps_2.data.toList.drop 91 = dktX0_swaps_2_4 := dk_seg dksX0_swaps_2_3 23 rfl rfl
theorem dksX0_swaps_2_5 : cX0_swaps_2.data.toList.drop 115 = dktX0_swaps_2_5 := dk_seg dksX0_swaps_2_4 24 rfl rfl
theorem dksX0_swaps_2_6 : cX0_swaps_2.data.toList.drop 137 = dktX0_swaps_2_6 := dk_seg dksX0_swaps_2_5 22 rfl rfl
theorem dX0_swaps_2_0 : decode cX0_swaps_2 0 = .ok (.aload_n 0, 1) := dk_42 (dk_at dksX0_swaps_2_0 0 rfl rfl)
theorem dX0_swaps_2_1 : decode cX0_swaps_2 1 = .ok (.aload_n 0, 1) := dk_42 (dk_at dksX0_swaps_2_0 1 rfl rfl)
theorem dX0_swaps_2_2 : decode cX0_swaps_2 2 = .ok (.getfield 187, 3) := dk_180 0 187 (dk_at dksX0_swaps_2_0 2 rfl rfl)
theorem dX0_swaps_2_5 : decode cX0_swaps_2 5 = .ok (.invokevirtual 323, 3) := dk_182 1 67 (dk_at dksX0_swaps_2_0 5 rfl rfl)
theorem dX0_swaps_2_8 : decode cX0_swaps_2 8 = .ok (.istore_n 1, 1) := dk_60 (dk_at dksX0_swaps_2_0 8 rfl rfl)
theorem dX0_swaps_2_9 : decode cX0_swaps_2 9 = .ok (.iconst 0, 1) := dk_3 (dk_at dksX0_swaps_2_0 9 rfl rfl)
theorem dX0_swaps_2_10 : decode cX0_swaps_2 10 = .ok (.istore_n 2, 1) := dk_61 (dk_at dksX0_swaps_2_0 10 rfl rfl)
theorem dX0_swaps_2_11 : decode cX0_swaps_2 11 = .ok (.iconst 0, 1) := dk_3 (dk_at dksX0_swaps_2_0 11 rfl rfl)
theorem dX0_swaps_2_12 : decode cX0_swaps_2 12 = .ok (.istore_n 3, 1) := dk_62 (dk_at dksX0_swaps_2_0 12 rfl rfl)
theorem dX0_swaps_2_13 : decode cX0_swaps_2 13 = .ok (.iconst 0, 1) := dk_3 (dk_at dksX0_swaps_2_0 13 rfl rfl)
theorem dX0_swaps_2_14 : decode cX0_swaps_2 14 = .ok (.istore 4, 2) := dk_54 4 (dk_at dksX0_swaps_2_0 14 rfl rfl)
theorem dX0_swaps_2_16 : decode cX0_swaps_2 16 = .ok (.iload 4, 2) := dk_21 4 (dk_at dksX0_swaps_2_0 16 rfl rfl)
theorem dX0_swaps_2_18 : decode cX0_swaps_2 18 = .ok (.aload_n 0, 1) := dk_42 (dk_at dksX0_swaps_2_0 18 rfl rfl)
theorem dX0_swaps_2_19 : decode cX0_swaps_2 19 = .ok (.getfield 187, 3) := dk_180 0 187 (dk_at dksX0_swaps_2_0 19 rfl rfl)
theorem dX0_swaps_2_22 : decode cX0_swaps_2 22 = .ok (.if_icmp .ge 53, 3) := dk_162 0 53 (dk_at dksX0_swaps_2_1 0 rfl rfl)
theorem dX0_swaps_2_25 : decode cX0_swaps_2 25 = .ok (.iconst 0, 1) := dk_3 (dk_at dksX0_swaps_2_1 3 rfl rfl)
theorem dX0_swaps_2_26 : decode cX0_swaps_2 26 = .ok (.istore 5, 2) := dk_54 5 (dk_at dksX0_swaps_2_1 4 rfl rfl)
theorem dX0_swaps_2_28 : decode cX0_swaps_2 28 = .ok (.iload_n 1, 1) := dk_27 (dk_at dksX0_swaps_2_1 6 rfl rfl)
theorem dX0_swaps_2_29 : decode cX0_swaps_2 29 = .ok (.iload 5, 2) := dk_21 5 (dk_at dksX0_swaps_2_1 7 rfl rfl)
theorem dX0_swaps_2_31 : decode cX0_swaps_2 31 = .ok (.ishr, 1) := dk_122 (dk_at dksX0_swaps_2_1 9 rfl rfl)
theorem dX0_swaps_2_32 : decode cX0_swaps_2 32 = .ok (.iconst 1, 1) := dk_4 (dk_at dksX0_swaps_2_1 10 rfl rfl)
theorem dX0_swaps_2_33 : decode cX0_swaps_2 33 = .ok (.iand, 1) := dk_126 (dk_at dksX0_swaps_2_1 11 rfl rfl)
theorem dX0_swaps_2_34 : decode cX0_swaps_2 34 = .ok (.ifCond .eq 13, 3) := dk_153 0 13 (dk_at dksX0_swaps_2_1 12 rfl rfl)
theorem dX0_swaps_2_37 : decode cX0_swaps_2 37 = .ok (.aload_n 0, 1) := dk_42 (dk_at dksX0_swaps_2_1 15 rfl rfl)
theorem dX0_swaps_2_38 : decode cX0_swaps_2 38 = .ok (.iload_n 2, 1) := dk_28 (dk_at dksX0_swaps_2_1 16 rfl rfl)
theorem dX0_swaps_2_39 : decode cX0_swaps_2 39 = .ok (.iload 5, 2) := dk_21 5 (dk_at dksX0_swaps_2_1 17 rfl rfl)
theorem dX0_swaps_2_41 : decode cX0_swaps_2 41 = .ok (.invokevirtual 305, 3) := dk_182 1 49 (dk_at dksX0_swaps_2_1 19 rfl rfl)
theorem dX0_swaps_2_44 : decode cX0_swaps_2 44 = .ok (.ifCond .ne 9, 3) := dk_154 0 9 (dk_at dksX0_swaps_2_2 0 rfl rfl)
theorem dX0_swaps_2_47 : decode cX0_swaps_2 47 = .ok (.iinc 5 1, 3) := dk_132 5 1 (dk_at dksX0_swaps_2_2 3 rfl rfl)
theorem dX0_swaps_2_50 : decode cX0_swaps_2 50 = .ok (.goto (-22), 3) := dk_167 255 234 (dk_at dksX0_swaps_2_2 6 rfl rfl)
theorem dX0_swaps_2_53 : decode cX0_swaps_2 53 = .ok (.aload_n 0, 1) := dk_42 (dk_at dksX0_swaps_2_2 9 rfl rfl)
theorem dX0_swaps_2_54 : decode cX0_swaps_2 54 = .ok (.getfield 69, 3) := dk_180 0 69 (dk_at dksX0_swaps_2_2 10 rfl rfl)
theorem dX0_swaps_2_57 : decode cX0_swaps_2 57 = .ok (.iload 5, 2) := dk_21 5 (dk_at dksX0_swaps_2_2 13 rfl rfl)
theorem dX0_swaps_2_59 : decode cX0_swaps_2 59 = .ok (.iload 4, 2) := dk_21 4 (dk_at dksX0_swaps_2_2 15 rfl rfl)
theorem dX0_swaps_2_61 : decode cX0_swaps_2 61 = .ok (.iastore, 1) := dk_79 (dk_at dksX0_swaps_2_2 17 rfl rfl)
theorem dX0_swaps_2_62 : decode cX0_swaps_2 62 = .ok (.iload_n 2, 1) := dk_28 (dk_at dksX0_swaps_2_2 18 rfl rfl)
theorem dX0_swaps_2_63 : decode cX0_swaps_2 63 = .ok (.iconst 1, 1) := dk_4 (dk_at dksX0_swaps_2_2 19 rfl rfl)
theorem dX0_swaps_2_64 : decode cX0_swaps_2 64 = .ok (.iload 5, 2) := dk_21 5 (dk_at dksX0_swaps_2_2 20 rfl rfl)
theorem dX0_swaps_2_66 : decode cX0_swaps_2 66 = .ok (.ishl, 1) := dk_120 (dk_at dksX0_swaps_2_2 22 rfl rfl)
theorem dX0_swaps_2_67 : decode cX0_swaps_2 67 = .ok (.ior, 1) := dk_128 (dk_at dksX0_swaps_2_2 23 rfl rfl)
theorem dX0_swaps_2_68 : decode cX0_swaps_2 68 = .ok (.istore_n 2, 1) := dk_61 (dk_at dksX0_swaps_2_3 0 rfl rfl)
theorem dX0_swaps_2_69 : decode cX0_swaps_2 69 = .ok (.iinc 4 1, 3) := dk_132 4 1 (dk_at dksX0_swaps_2_3 1 rfl rfl)
theorem dX0_swaps_2_72 : decode cX0_swaps_2 72 = .ok (.goto (-56), 3) := dk_167 255 200 (dk_at dksX0_swaps_2_3 4 rfl rfl)
theorem dX0_swaps_2_75 : decode cX0_swaps_2 75 = .ok (.iconst 0, 1) := dk_3 (dk_at dksX0_swaps_2_3 7 rfl rfl)
theorem dX0_swaps_2_76 : decode cX0_swaps_2 76 = .ok (.istore 4, 2) := dk_54 4 (dk_at dksX0_swaps_2_3 8 rfl rfl)
theorem dX0_swaps_2_78 : decode cX0_swaps_2 78 = .ok (.iload 4, 2) := dk_21 4 (dk_at dksX0_swaps_2_3 10 rfl rfl)
theorem dX0_swaps_2_80 : decode cX0_swaps_2 80 = .ok (.aload_n 0, 1) := dk_42 (dk_at dksX0_swaps_2_3 12 rfl rfl)
theorem dX0_swaps_2_81 : decode cX0_swaps_2 81 = .ok (.getfield 187, 3) := dk_180 0 187 (dk_at dksX0_swaps_2_3 13 rfl rfl)
theorem dX0_swaps_2_84 : decode cX0_swaps_2 84 = .ok (.if_icmp .ge 65, 3) := dk_162 0 65 (dk_at dksX0_swaps_2_3 16 rfl rfl)
theorem dX0_swaps_2_87 : decode cX0_swaps_2 87 = .ok (.iload 4, 2) := dk_21 4 (dk_at dksX0_swaps_2_3 19 rfl rfl)
theorem dX0_swaps_2_89 : decode cX0_swaps_2 89 = .ok (.iconst 1, 1) := dk_4 (dk_at dksX0_swaps_2_3 21 rfl rfl)
theorem dX0_swaps_2_90 : decode cX0_swaps_2 90 = .ok (.iadd, 1) := dk_96 (dk_at dksX0_swaps_2_3 22 rfl rfl)
theorem dX0_swaps_2_91 : decode cX0_swaps_2 91 = .ok (.istore 5, 2) := dk_54 5 (dk_at dksX0_swaps_2_4 0 rfl rfl)
theorem dX0_swaps_2_93 : decode cX0_swaps_2 93 = .ok (.iload 5, 2) := dk_21 5 (dk_at dksX0_swaps_2_4 2 rfl rfl)
theorem dX0_swaps_2_95 : decode cX0_swaps_2 95 = .ok (.aload_n 0, 1) := dk_42 (dk_at dksX0_swaps_2_4 4 rfl rfl)
theorem dX0_swaps_2_96 : decode cX0_swaps_2 96 = .ok (.getfield 187, 3) := dk_180 0 187 (dk_at dksX0_swaps_2_4 5 rfl rfl)
theorem dX0_swaps_2_99 : decode cX0_swaps_2 99 = .ok (.if_icmp .ge 44, 3) := dk_162 0 44 (dk_at dksX0_swaps_2_4 8 rfl rfl)
theorem dX0_swaps_2_102 : decode cX0_swaps_2 102 = .ok (.iload_n 3, 1) := dk_29 (dk_at dksX0_swaps_2_4 11 rfl rfl)
theorem dX0_swaps_2_103 : decode cX0_swaps_2 103 = .ok (.aload_n 0, 1) := dk_42 (dk_at dksX0_swaps_2_4 12 rfl rfl)
theorem dX0_swaps_2_104 : decode cX0_swaps_2 104 = .ok (.getfield 69, 3) := dk_180 0 69 (dk_at dksX0_swaps_2_4 13 rfl rfl)
theorem dX0_swaps_2_107 : decode cX0_swaps_2 107 = .ok (.aload_n 0, 1) := dk_42 (dk_at dksX0_swaps_2_4 16 rfl rfl)
theorem dX0_swaps_2_108 : decode cX0_swaps_2 108 = .ok (.getfield 31, 3) := dk_180 0 31 (dk_at dksX0_swaps_2_4 17 rfl rfl)
theorem dX0_swaps_2_111 : decode cX0_swaps_2 111 = .ok (.iload 4, 2) := dk_21 4 (dk_at dksX0_swaps_2_4 20 rfl rfl)
theorem dX0_swaps_2_113 : decode cX0_swaps_2 113 = .ok (.iaload, 1) := dk_46 (dk_at dksX0_swaps_2_4 22 rfl rfl)
theorem dX0_swaps_2_114 : decode cX0_swaps_2 114 = .ok (.iaload, 1) := dk_46 (dk_at dksX0_swaps_2_4 23 rfl rfl)
theorem dX0_swaps_2_115 : decode cX0_swaps_2 115 = .ok (.aload_n 0, 1) := dk_42 (dk_at dksX0_swaps_2_5 0 rfl rfl)
theorem dX0_swaps_2_116 : decode cX0_swaps_2 116 = .ok (.getfield 69, 3) := dk_180 0 69 (dk_at dksX0_swaps_2_5 1 rfl rfl)
theorem dX0_swaps_2_119 : decode cX0_swaps_2 119 = .ok (.aload_n 0, 1) := dk_42 (dk_at dksX0_swaps_2_5 4 rfl rfl)
theorem dX0_swaps_2_120 : decode cX0_swaps_2 120 = .ok (.getfield 31, 3) := dk_180 0 31 (dk_at dksX0_swaps_2_5 5 rfl rfl)
theorem dX0_swaps_2_123 : decode cX0_swaps_2 123 = .ok (.iload 5, 2) := dk_21 5 (dk_at dksX0_swaps_2_5 8 rfl rfl)
theorem dX0_swaps_2_125 : decode cX0_swaps_2 125 = .ok (.iaload, 1) := dk_46 (dk_at dksX0_swaps_2_5 10 rfl rfl)
theorem dX0_swaps_2_126 : decode cX0_swaps_2 126 = .ok (.iaload, 1) := dk_46 (dk_at dksX0_swaps_2_5 11 rfl rfl)
theorem dX0_swaps_2_127 : decode cX0_swaps_2 127 = .ok (.if_icmp .le 7, 3) := dk_164 0 7 (dk_at dksX0_swaps_2_5 12 rfl rfl)
theorem dX0_swaps_2_130 : decode cX0_swaps_2 130 = .ok (.iconst 1, 1) := dk_4 (dk_at dksX0_swaps_2_5 15 rfl rfl)
theorem dX0_swaps_2_131 : decode cX0_swaps_2 131 = .ok (.goto 4, 3) := dk_167 0 4 (dk_at dksX0_swaps_2_5 16 rfl rfl)
theorem dX0_swaps_2_134 : decode cX0_swaps_2 134 = .ok (.iconst 0, 1) := dk_3 (dk_at dksX0_swaps_2_5 19 rfl rfl)
theorem dX0_swaps_2_135 : decode cX0_swaps_2 135 = .ok (.iadd, 1) := dk_96 (dk_at dksX0_swaps_2_5 20 rfl rfl)
theorem dX0_swaps_2_136 : decode cX0_swaps_2 136 = .ok (.istore_n 3, 1) := dk_62 (dk_at dksX0_swaps_2_5 21 rfl rfl)
theorem dX0_swaps_2_137 : decode cX0_swaps_2 137 = .ok (.iinc 5 1, 3) := dk_132 5 1 (dk_at dksX0_swaps_2_6 0 rfl rfl)
theorem dX0_swaps_2_140 : decode cX0_swaps_2 140 = .ok (.goto (-47), 3) := dk_167 255 209 (dk_at dksX0_swaps_2_6 3 rfl rfl)
theorem dX0_swaps_2_143 : decode cX0_swaps_2 143 = .ok (.iinc 4 1, 3) := dk_132 4 1 (dk_at dksX0_swaps_2_6 6 rfl rfl)
theorem dX0_swaps_2_146 : decode cX0_swaps_2 146 = .ok (.goto (-68), 3) := dk_167 255 188 (dk_at dksX0_swaps_2_6 9 rfl rfl)
theorem dX0_swaps_2_149 : decode cX0_swaps_2 149 = .ok (.aload_n 0, 1) := dk_42 (dk_at dksX0_swaps_2_6 12 rfl rfl)
theorem dX0_swaps_2_150 : decode cX0_swaps_2 150 = .ok (.iload_n 3, 1) := dk_29 (dk_at dksX0_swaps_2_6 13 rfl rfl)
theorem dX0_swaps_2_151 : decode cX0_swaps_2 151 = .ok (.invokevirtual 197, 3) := dk_182 0 197 (dk_at dksX0_swaps_2_6 14 rfl rfl)
theorem dX0_swaps_2_154 : decode cX0_swaps_2 154 = .ok (.ireturn, 1) := dk_172 (dk_at dksX0_swaps_2_6 17 rfl rfl)
abbrev cX0_has : ByteArray := prog_1_method_70_code
def yX0_has : MethodName := ⟨RX0, "has", "(I)I"⟩
def dkwX0_has_1 : List UInt8 := [182, 0, 124, 172]
abbrev dktX0_has_1 : List UInt8 := dkwX0_has_1 ++ []
def dkwX0_has_0 : List UInt8 := [42, 27, 182, 1, 76, 153, 0, 16, 42, 42, 180, 0, 27, 27, 46, 182, 0, 197, 167, 0, 8, 42, 5]
abbrev dktX0_has_0 : List UInt8 := dkwX0_has_0 ++ dktX0_has_1
theorem dksX0_has_0 : cX0_has.data.toList.drop 0 = dktX0_has_0 := by decide +kernel
theorem dksX0_has_1 : cX0_has.data.toList.drop 23 = dktX0_has_1 := dk_seg dksX0_has_0 23 rfl rfl
theorem dX0_has_0 : decode cX0_has 0 = .ok (.aload_n 0, 1) := dk_42 (dk_at dksX0_has_0 0 rfl rfl)
theorem dX0_has_1 : decode cX0_has 1 = .ok (.iload_n 1, 1) := dk_27 (dk_at dksX0_has_0 1 rfl rfl)
theorem dX0_has_2 : decode cX0_has 2 = .ok (.invokevirtual 332, 3) := dk_182 1 76 (dk_at dksX0_has_0 2 rfl rfl)
theorem dX0_has_5 : decode cX0_has 5 = .ok (.ifCond .eq 16, 3) := dk_153 0 16 (dk_at dksX0_has_0 5 rfl rfl)
theorem dX0_has_8 : decode cX0_has 8 = .ok (.aload_n 0, 1) := dk_42 (dk_at dksX0_has_0 8 rfl rfl)
theorem dX0_has_9 : decode cX0_has 9 = .ok (.aload_n 0, 1) := dk_42 (dk_at dksX0_has_0 9 rfl rfl)
theorem dX0_has_10 : decode cX0_has 10 = .ok (.getfield 27, 3) := dk_180 0 27 (dk_at dksX0_has_0 10 rfl rfl)
theorem dX0_has_13 : decode cX0_has 13 = .ok (.iload_n 1, 1) := dk_27 (dk_at dksX0_has_0 13 rfl rfl)
theorem dX0_has_14 : decode cX0_has 14 = .ok (.iaload, 1) := dk_46 (dk_at dksX0_has_0 14 rfl rfl)
theorem dX0_has_15 : decode cX0_has 15 = .ok (.invokevirtual 197, 3) := dk_182 0 197 (dk_at dksX0_has_0 15 rfl rfl)
theorem dX0_has_18 : decode cX0_has 18 = .ok (.goto 8, 3) := dk_167 0 8 (dk_at dksX0_has_0 18 rfl rfl)
theorem dX0_has_21 : decode cX0_has 21 = .ok (.aload_n 0, 1) := dk_42 (dk_at dksX0_has_0 21 rfl rfl)
theorem dX0_has_22 : decode cX0_has 22 = .ok (.iconst 2, 1) := dk_5 (dk_at dksX0_has_0 22 rfl rfl)
theorem dX0_has_23 : decode cX0_has 23 = .ok (.invokevirtual 124, 3) := dk_182 0 124 (dk_at dksX0_has_1 0 rfl rfl)
theorem dX0_has_26 : decode cX0_has 26 = .ok (.ireturn, 1) := dk_172 (dk_at dksX0_has_1 3 rfl rfl)
abbrev cX0_isIsland : ByteArray := prog_1_method_16_code
def yX0_isIsland : MethodName := ⟨RX0, "isIsland", "(I)Z"⟩
def dkwX0_isIsland_0 : List UInt8 := [27, 155, 0, 18, 27, 42, 180, 0, 37, 180, 0, 152, 162, 0, 7, 4, 167, 0, 4, 3, 172]
abbrev dktX0_isIsland_0 : List UInt8 := dkwX0_isIsland_0 ++ []
theorem dksX0_isIsland_0 : cX0_isIsland.data.toList.drop 0 = dktX0_isIsland_0 := by decide +kernel
theorem dX0_isIsland_0 : decode cX0_isIsland 0 = .ok (.iload_n 1, 1) := dk_27 (dk_at dksX0_isIsland_0 0 rfl rfl)
theorem dX0_isIsland_1 : decode cX0_isIsland 1 = .ok (.ifCond .lt 18, 3) := dk_155 0 18 (dk_at dksX0_isIsland_0 1 rfl rfl)
theorem dX0_isIsland_4 : decode cX0_isIsland 4 = .ok (.iload_n 1, 1) := dk_27 (dk_at dksX0_isIsland_0 4 rfl rfl)
theorem dX0_isIsland_5 : decode cX0_isIsland 5 = .ok (.aload_n 0, 1) := dk_42 (dk_at dksX0_isIsland_0 5 rfl rfl)
theorem dX0_isIsland_6 : decode cX0_isIsland 6 = .ok (.getfield 37, 3) := dk_180 0 37 (dk_at dksX0_isIsland_0 6 rfl rfl)
theorem dX0_isIsland_9 : decode cX0_isIsland 9 = .ok (.getfield 152, 3) := dk_180 0 152 (dk_at dksX0_isIsland_0 9 rfl rfl)
theorem dX0_isIsland_12 : decode cX0_isIsland 12 = .ok (.if_icmp .ge 7, 3) := dk_162 0 7 (dk_at dksX0_isIsland_0 12 rfl rfl)
theorem dX0_isIsland_15 : decode cX0_isIsland 15 = .ok (.iconst 1, 1) := dk_4 (dk_at dksX0_isIsland_0 15 rfl rfl)
theorem dX0_isIsland_16 : decode cX0_isIsland 16 = .ok (.goto 4, 3) := dk_167 0 4 (dk_at dksX0_isIsland_0 16 rfl rfl)
theorem dX0_isIsland_19 : decode cX0_isIsland 19 = .ok (.iconst 0, 1) := dk_3 (dk_at dksX0_isIsland_0 19 rfl rfl)
theorem dX0_isIsland_20 : decode cX0_isIsland 20 = .ok (.ireturn, 1) := dk_172 (dk_at dksX0_isIsland_0 20 rfl rfl)
abbrev cX0_give : ByteArray := prog_1_method_71_code
def yX0_give : MethodName := ⟨RX0, "give", "(II)Z"⟩
def dkwX0_give_2 : List UInt8 := [42, 3, 182, 0, 103, 172]
abbrev dktX0_give_2 : List UInt8 := dkwX0_give_2 ++ []
def dkwX0_give_1 : List UInt8 := [180, 0, 37, 28, 182, 0, 254, 154, 0, 10, 42, 16, 9, 182, 0, 103, 172, 42, 180, 0, 27, 27, 28, 79]
abbrev dktX0_give_1 : List UInt8 := dkwX0_give_1 ++ dktX0_give_2
def dkwX0_give_0 : List UInt8 := [42, 27, 182, 1, 76, 153, 0, 11, 42, 28, 182, 0, 251, 154, 0, 9, 42, 5, 182, 0, 103, 172, 42]
abbrev dktX0_give_0 : List UInt8 := dkwX0_give_0 ++ dktX0_give_1
theorem dksX0_give_0 : cX0_give.data.toList.drop 0 = dktX0_give_0 := by decide +kernel
theorem dksX0_give_1 : cX0_give.data.toList.drop 23 = dktX0_give_1 := dk_seg dksX0_give_0 23 rfl rfl
theorem dksX0_give_2 : cX0_give.data.toList.drop 47 = dktX0_give_2 := dk_seg dksX0_give_1 24 rfl rfl
theorem dX0_give_0 : decode cX0_give 0 = .ok (.aload_n 0, 1) := dk_42 (dk_at dksX0_give_0 0 rfl rfl)
theorem dX0_give_1 : decode cX0_give 1 = .ok (.iload_n 1, 1) := dk_27 (dk_at dksX0_give_0 1 rfl rfl)
theorem dX0_give_2 : decode cX0_give 2 = .ok (.invokevirtual 332, 3) := dk_182 1 76 (dk_at dksX0_give_0 2 rfl rfl)
theorem dX0_give_5 : decode cX0_give 5 = .ok (.ifCond .eq 11, 3) := dk_153 0 11 (dk_at dksX0_give_0 5 rfl rfl)
theorem dX0_give_8 : decode cX0_give 8 = .ok (.aload_n 0, 1) := dk_42 (dk_at dksX0_give_0 8 rfl rfl)
theorem dX0_give_9 : decode cX0_give 9 = .ok (.iload_n 2, 1) := dk_28 (dk_at dksX0_give_0 9 rfl rfl)
theorem dX0_give_10 : decode cX0_give 10 = .ok (.invokevirtual 251, 3) := dk_182 0 251 (dk_at dksX0_give_0 10 rfl rfl)
theorem dX0_give_13 : decode cX0_give 13 = .ok (.ifCond .ne 9, 3) := dk_154 0 9 (dk_at dksX0_give_0 13 rfl rfl)
theorem dX0_give_16 : decode cX0_give 16 = .ok (.aload_n 0, 1) := dk_42 (dk_at dksX0_give_0 16 rfl rfl)
theorem dX0_give_17 : decode cX0_give 17 = .ok (.iconst 2, 1) := dk_5 (dk_at dksX0_give_0 17 rfl rfl)
theorem dX0_give_18 : decode cX0_give 18 = .ok (.invokevirtual 103, 3) := dk_182 0 103 (dk_at dksX0_give_0 18 rfl rfl)
theorem dX0_give_21 : decode cX0_give 21 = .ok (.ireturn, 1) := dk_172 (dk_at dksX0_give_0 21 rfl rfl)
theorem dX0_give_22 : decode cX0_give 22 = .ok (.aload_n 0, 1) := dk_42 (dk_at dksX0_give_0 22 rfl rfl)
theorem dX0_give_23 : decode cX0_give 23 = .ok (.getfield 37, 3) := dk_180 0 37 (dk_at dksX0_give_1 0 rfl rfl)
theorem dX0_give_26 : decode cX0_give 26 = .ok (.iload_n 2, 1) := dk_28 (dk_at dksX0_give_1 3 rfl rfl)
theorem dX0_give_27 : decode cX0_give 27 = .ok (.invokevirtual 254, 3) := dk_182 0 254 (dk_at dksX0_give_1 4 rfl rfl)
theorem dX0_give_30 : decode cX0_give 30 = .ok (.ifCond .ne 10, 3) := dk_154 0 10 (dk_at dksX0_give_1 7 rfl rfl)
theorem dX0_give_33 : decode cX0_give 33 = .ok (.aload_n 0, 1) := dk_42 (dk_at dksX0_give_1 10 rfl rfl)
theorem dX0_give_34 : decode cX0_give 34 = .ok (.bipush 9, 2) := dk_16 9 (dk_at dksX0_give_1 11 rfl rfl)
theorem dX0_give_36 : decode cX0_give 36 = .ok (.invokevirtual 103, 3) := dk_182 0 103 (dk_at dksX0_give_1 13 rfl rfl)
theorem dX0_give_39 : decode cX0_give 39 = .ok (.ireturn, 1) := dk_172 (dk_at dksX0_give_1 16 rfl rfl)
theorem dX0_give_40 : decode cX0_give 40 = .ok (.aload_n 0, 1) := dk_42 (dk_at dksX0_give_1 17 rfl rfl)
theorem dX0_give_41 : decode cX0_give 41 = .ok (.getfield 27, 3) := dk_180 0 27 (dk_at dksX0_give_1 18 rfl rfl)
theorem dX0_give_44 : decode cX0_give 44 = .ok (.iload_n 1, 1) := dk_27 (dk_at dksX0_give_1 21 rfl rfl)
theorem dX0_give_45 : decode cX0_give 45 = .ok (.iload_n 2, 1) := dk_28 (dk_at dksX0_give_1 22 rfl rfl)
theorem dX0_give_46 : decode cX0_give 46 = .ok (.iastore, 1) := dk_79 (dk_at dksX0_give_1 23 rfl rfl)
theorem dX0_give_47 : decode cX0_give 47 = .ok (.aload_n 0, 1) := dk_42 (dk_at dksX0_give_2 0 rfl rfl)
theorem dX0_give_48 : decode cX0_give 48 = .ok (.iconst 0, 1) := dk_3 (dk_at dksX0_give_2 1 rfl rfl)
theorem dX0_give_49 : decode cX0_give 49 = .ok (.invokevirtual 103, 3) := dk_182 0 103 (dk_at dksX0_give_2 2 rfl rfl)
theorem dX0_give_52 : decode cX0_give 52 = .ok (.ireturn, 1) := dk_172 (dk_at dksX0_give_2 5 rfl rfl)
abbrev cX0_sail : ByteArray := prog_1_method_81_code
def yX0_sail : MethodName := ⟨RX0, "sail", "(I)I"⟩
def dkwX0_sail_4 : List UInt8 := [42, 42, 180, 1, 144, 182, 0, 197, 172]
abbrev dktX0_sail_4 : List UInt8 := dkwX0_sail_4 ++ []
def dkwX0_sail_3 : List UInt8 := [180, 0, 84, 6, 42, 180, 1, 116, 79, 42, 180, 0, 84, 7, 42, 180, 1, 79, 79, 42, 4, 181, 1, 160]
abbrev dktX0_sail_3 : List UInt8 := dkwX0_sail_3 ++ dktX0_sail_4
def dkwX0_sail_2 : List UInt8 := [79, 42, 180, 0, 84, 4, 42, 180, 1, 141, 79, 42, 180, 0, 84, 5, 42, 180, 1, 88, 79, 42]
abbrev dktX0_sail_2 : List UInt8 := dkwX0_sail_2 ++ dktX0_sail_3
def dkwX0_sail_1 : List UInt8 := [199, 0, 10, 42, 16, 8, 182, 0, 124, 172, 42, 27, 182, 1, 157, 42, 180, 0, 84, 3, 42, 180, 1, 85]
abbrev dktX0_sail_1 : List UInt8 := dkwX0_sail_1 ++ dktX0_sail_2
def dkwX0_sail_0 : List UInt8 := [27, 133, 9, 20, 1, 155, 184, 1, 61, 154, 0, 9, 42, 8, 182, 0, 124, 172, 42, 180, 0, 190]
abbrev dktX0_sail_0 : List UInt8 := dkwX0_sail_0 ++ dktX0_sail_1
theorem dksX0_sail_0 : cX0_sail.data.toList.drop 0 = dktX0_sail_0 := by decide +kernel
theorem dksX0_sail_1 : cX0_sail.data.toList.drop 22 = dktX0_sail_1 := dk_seg dksX0_sail_0 22 rfl rfl
theorem dksX0_sail_2 : cX0_sail.data.toList.drop 46 = dktX0_sail_2 := dk_seg dksX0_sail_1 24 rfl rfl
theorem dksX0_sail_3 : cX0_sail.data.toList.drop 68 = dktX0_sail_3 := dk_seg dksX0_sail_2 22 rfl rfl
theorem dksX0_sail_4 : cX0_sail.data.toList.drop 92 = dktX0_sail_4 := dk_seg dksX0_sail_3 24 rfl rfl
theorem dX0_sail_0 : decode cX0_sail 0 = .ok (.iload_n 1, 1) := dk_27 (dk_at dksX0_sail_0 0 rfl rfl)
theorem dX0_sail_1 : decode cX0_sail 1 = .ok (.i2l, 1) := dk_133 (dk_at dksX0_sail_0 1 rfl rfl)
theorem dX0_sail_2 : decode cX0_sail 2 = .ok (.lconst 0, 1) := dk_9 (dk_at dksX0_sail_0 2 rfl rfl)
theorem dX0_sail_3 : decode cX0_sail 3 = .ok (.ldc2_w 411, 3) := dk_20 1 155 (dk_at dksX0_sail_0 3 rfl rfl)
theorem dX0_sail_6 : decode cX0_sail 6 = .ok (.invokestatic 317, 3) := dk_184 1 61 (dk_at dksX0_sail_0 6 rfl rfl)
theorem dX0_sail_9 : decode cX0_sail 9 = .ok (.ifCond .ne 9, 3) := dk_154 0 9 (dk_at dksX0_sail_0 9 rfl rfl)
theorem dX0_sail_12 : decode cX0_sail 12 = .ok (.aload_n 0, 1) := dk_42 (dk_at dksX0_sail_0 12 rfl rfl)
theorem dX0_sail_13 : decode cX0_sail 13 = .ok (.iconst 5, 1) := dk_8 (dk_at dksX0_sail_0 13 rfl rfl)
theorem dX0_sail_14 : decode cX0_sail 14 = .ok (.invokevirtual 124, 3) := dk_182 0 124 (dk_at dksX0_sail_0 14 rfl rfl)
theorem dX0_sail_17 : decode cX0_sail 17 = .ok (.ireturn, 1) := dk_172 (dk_at dksX0_sail_0 17 rfl rfl)
theorem dX0_sail_18 : decode cX0_sail 18 = .ok (.aload_n 0, 1) := dk_42 (dk_at dksX0_sail_0 18 rfl rfl)
theorem dX0_sail_19 : decode cX0_sail 19 = .ok (.getfield 190, 3) := dk_180 0 190 (dk_at dksX0_sail_0 19 rfl rfl)
theorem dX0_sail_22 : decode cX0_sail 22 = .ok (.ifnonnull 10, 3) := dk_199 0 10 (dk_at dksX0_sail_1 0 rfl rfl)
theorem dX0_sail_25 : decode cX0_sail 25 = .ok (.aload_n 0, 1) := dk_42 (dk_at dksX0_sail_1 3 rfl rfl)
theorem dX0_sail_26 : decode cX0_sail 26 = .ok (.bipush 8, 2) := dk_16 8 (dk_at dksX0_sail_1 4 rfl rfl)
theorem dX0_sail_28 : decode cX0_sail 28 = .ok (.invokevirtual 124, 3) := dk_182 0 124 (dk_at dksX0_sail_1 6 rfl rfl)
theorem dX0_sail_31 : decode cX0_sail 31 = .ok (.ireturn, 1) := dk_172 (dk_at dksX0_sail_1 9 rfl rfl)
theorem dX0_sail_32 : decode cX0_sail 32 = .ok (.aload_n 0, 1) := dk_42 (dk_at dksX0_sail_1 10 rfl rfl)
theorem dX0_sail_33 : decode cX0_sail 33 = .ok (.iload_n 1, 1) := dk_27 (dk_at dksX0_sail_1 11 rfl rfl)
theorem dX0_sail_34 : decode cX0_sail 34 = .ok (.invokevirtual 413, 3) := dk_182 1 157 (dk_at dksX0_sail_1 12 rfl rfl)
theorem dX0_sail_37 : decode cX0_sail 37 = .ok (.aload_n 0, 1) := dk_42 (dk_at dksX0_sail_1 15 rfl rfl)
theorem dX0_sail_38 : decode cX0_sail 38 = .ok (.getfield 84, 3) := dk_180 0 84 (dk_at dksX0_sail_1 16 rfl rfl)
theorem dX0_sail_41 : decode cX0_sail 41 = .ok (.iconst 0, 1) := dk_3 (dk_at dksX0_sail_1 19 rfl rfl)
theorem dX0_sail_42 : decode cX0_sail 42 = .ok (.aload_n 0, 1) := dk_42 (dk_at dksX0_sail_1 20 rfl rfl)
theorem dX0_sail_43 : decode cX0_sail 43 = .ok (.getfield 341, 3) := dk_180 1 85 (dk_at dksX0_sail_1 21 rfl rfl)
theorem dX0_sail_46 : decode cX0_sail 46 = .ok (.iastore, 1) := dk_79 (dk_at dksX0_sail_2 0 rfl rfl)
theorem dX0_sail_47 : decode cX0_sail 47 = .ok (.aload_n 0, 1) := dk_42 (dk_at dksX0_sail_2 1 rfl rfl)
theorem dX0_sail_48 : decode cX0_sail 48 = .ok (.getfield 84, 3) := dk_180 0 84 (dk_at dksX0_sail_2 2 rfl rfl)
theorem dX0_sail_51 : decode cX0_sail 51 = .ok (.iconst 1, 1) := dk_4 (dk_at dksX0_sail_2 5 rfl rfl)
theorem dX0_sail_52 : decode cX0_sail 52 = .ok (.aload_n 0, 1) := dk_42 (dk_at dksX0_sail_2 6 rfl rfl)
theorem dX0_sail_53 : decode cX0_sail 53 = .ok (.getfield 397, 3) := dk_180 1 141 (dk_at dksX0_sail_2 7 rfl rfl)
theorem dX0_sail_56 : decode cX0_sail 56 = .ok (.iastore, 1) := dk_79 (dk_at dksX0_sail_2 10 rfl rfl)
theorem dX0_sail_57 : decode cX0_sail 57 = .ok (.aload_n 0, 1) := dk_42 (dk_at dksX0_sail_2 11 rfl rfl)
theorem dX0_sail_58 : decode cX0_sail 58 = .ok (.getfield 84, 3) := dk_180 0 84 (dk_at dksX0_sail_2 12 rfl rfl)
theorem dX0_sail_61 : decode cX0_sail 61 = .ok (.iconst 2, 1) := dk_5 (dk_at dksX0_sail_2 15 rfl rfl)
theorem dX0_sail_62 : decode cX0_sail 62 = .ok (.aload_n 0, 1) := dk_42 (dk_at dksX0_sail_2 16 rfl rfl)
theorem dX0_sail_63 : decode cX0_sail 63 = .ok (.getfield 344, 3) := dk_180 1 88 (dk_at dksX0_sail_2 17 rfl rfl)
theorem dX0_sail_66 : decode cX0_sail 66 = .ok (.iastore, 1) := dk_79 (dk_at dksX0_sail_2 20 rfl rfl)
theorem dX0_sail_67 : decode cX0_sail 67 = .ok (.aload_n 0, 1) := dk_42 (dk_at dksX0_sail_2 21 rfl rfl)
theorem dX0_sail_68 : decode cX0_sail 68 = .ok (.getfield 84, 3) := dk_180 0 84 (dk_at dksX0_sail_3 0 rfl rfl)
theorem dX0_sail_71 : decode cX0_sail 71 = .ok (.iconst 3, 1) := dk_6 (dk_at dksX0_sail_3 3 rfl rfl)
theorem dX0_sail_72 : decode cX0_sail 72 = .ok (.aload_n 0, 1) := dk_42 (dk_at dksX0_sail_3 4 rfl rfl)
theorem dX0_sail_73 : decode cX0_sail 73 = .ok (.getfield 372, 3) := dk_180 1 116 (dk_at dksX0_sail_3 5 rfl rfl)
theorem dX0_sail_76 : decode cX0_sail 76 = .ok (.iastore, 1) := dk_79 (dk_at dksX0_sail_3 8 rfl rfl)
theorem dX0_sail_77 : decode cX0_sail 77 = .ok (.aload_n 0, 1) := dk_42 (dk_at dksX0_sail_3 9 rfl rfl)
theorem dX0_sail_78 : decode cX0_sail 78 = .ok (.getfield 84, 3) := dk_180 0 84 (dk_at dksX0_sail_3 10 rfl rfl)
theorem dX0_sail_81 : decode cX0_sail 81 = .ok (.iconst 4, 1) := dk_7 (dk_at dksX0_sail_3 13 rfl rfl)
theorem dX0_sail_82 : decode cX0_sail 82 = .ok (.aload_n 0, 1) := dk_42 (dk_at dksX0_sail_3 14 rfl rfl)
theorem dX0_sail_83 : decode cX0_sail 83 = .ok (.getfield 335, 3) := dk_180 1 79 (dk_at dksX0_sail_3 15 rfl rfl)
theorem dX0_sail_86 : decode cX0_sail 86 = .ok (.iastore, 1) := dk_79 (dk_at dksX0_sail_3 18 rfl rfl)
theorem dX0_sail_87 : decode cX0_sail 87 = .ok (.aload_n 0, 1) := dk_42 (dk_at dksX0_sail_3 19 rfl rfl)
theorem dX0_sail_88 : decode cX0_sail 88 = .ok (.iconst 1, 1) := dk_4 (dk_at dksX0_sail_3 20 rfl rfl)
theorem dX0_sail_89 : decode cX0_sail 89 = .ok (.putfield 416, 3) := dk_181 1 160 (dk_at dksX0_sail_3 21 rfl rfl)
theorem dX0_sail_92 : decode cX0_sail 92 = .ok (.aload_n 0, 1) := dk_42 (dk_at dksX0_sail_4 0 rfl rfl)
theorem dX0_sail_93 : decode cX0_sail 93 = .ok (.aload_n 0, 1) := dk_42 (dk_at dksX0_sail_4 1 rfl rfl)
theorem dX0_sail_94 : decode cX0_sail 94 = .ok (.getfield 400, 3) := dk_180 1 144 (dk_at dksX0_sail_4 2 rfl rfl)
theorem dX0_sail_97 : decode cX0_sail 97 = .ok (.invokevirtual 197, 3) := dk_182 0 197 (dk_at dksX0_sail_4 5 rfl rfl)
theorem dX0_sail_100 : decode cX0_sail 100 = .ok (.ireturn, 1) := dk_172 (dk_at dksX0_sail_4 8 rfl rfl)
abbrev cX0_sails : ByteArray := prog_1_method_80_code
def yX0_sails : MethodName := ⟨RX0, "sails", "(I)V"⟩
def dkwX0_sails_7 : List UInt8 := [167, 255, 138, 177]
abbrev dktX0_sails_7 : List UInt8 := dkwX0_sails_7 ++ []
def dkwX0_sails_6 : List UInt8 := [182, 1, 150, 154, 0, 12, 45, 180, 1, 135, 4, 96, 167, 0, 6, 28, 4, 96, 182, 1, 152, 61]
abbrev dktX0_sails_6 : List UInt8 := dkwX0_sails_6 ++ dktX0_sails_7
def dkwX0_sails_5 : List UInt8 := [160, 0, 11, 45, 45, 180, 1, 123, 181, 1, 138, 42, 45, 180, 1, 119, 16, 17, 160, 0, 20, 42, 45]
abbrev dktX0_sails_5 : List UInt8 := dkwX0_sails_5 ++ dktX0_sails_6
def dkwX0_sails_4 : List UInt8 := [42, 45, 182, 1, 147, 153, 0, 7, 3, 167, 0, 4, 4, 96, 181, 1, 141, 45, 180, 1, 119, 16, 18]
abbrev dktX0_sails_4 : List UInt8 := dkwX0_sails_4 ++ dktX0_sails_5
def dkwX0_sails_3 : List UInt8 := [89, 180, 1, 144, 4, 96, 181, 1, 144, 45, 180, 1, 119, 16, 19, 160, 0, 4, 177, 42, 89, 180, 1, 141]
abbrev dktX0_sails_3 : List UInt8 := dkwX0_sails_3 ++ dktX0_sails_4
def dkwX0_sails_2 : List UInt8 := [180, 0, 194, 162, 0, 116, 42, 180, 1, 144, 17, 1, 44, 162, 0, 106, 42, 180, 0, 190, 28, 50, 78, 42]
abbrev dktX0_sails_2 : List UInt8 := dkwX0_sails_2 ++ dktX0_sails_3
def dkwX0_sails_1 : List UInt8 := [181, 1, 116, 42, 3, 181, 1, 82, 42, 3, 181, 1, 79, 42, 3, 181, 1, 144, 3, 61, 28, 42]
abbrev dktX0_sails_1 : List UInt8 := dkwX0_sails_1 ++ dktX0_sails_2
def dkwX0_sails_0 : List UInt8 := [42, 27, 181, 1, 113, 42, 3, 181, 1, 85, 42, 3, 181, 1, 141, 42, 3, 181, 1, 88, 42, 3]
abbrev dktX0_sails_0 : List UInt8 := dkwX0_sails_0 ++ dktX0_sails_1
theorem dksX0_sails_0 : cX0_sails.data.toList.drop 0 = dktX0_sails_0 := by decide +kernel
theorem dksX0_sails_1 : cX0_sails.data.toList.drop 22 = dktX0_sails_1 := dk_seg dksX0_sails_0 22 rfl rfl
theorem dksX0_sails_2 : cX0_sails.data.toList.drop 44 = dktX0_sails_2 := dk_seg dksX0_sails_1 22 rfl rfl
theorem dksX0_sails_3 : cX0_sails.data.toList.drop 68 = dktX0_sails_3 := dk_seg dksX0_sails_2 24 rfl rfl
theorem dksX0_sails_4 : cX0_sails.data.toList.drop 92 = dktX0_sails_4 := dk_seg dksX0_sails_3 24 rfl rfl
theorem dksX0_sails_5 : cX0_sails.data.toList.drop 115 = dktX0_sails_5 := dk_seg dksX0_sails_4 23 rfl rfl
theorem dksX0_sails_6 : cX0_sails.data.toList.drop 138 = dktX0_sails_6 := dk_seg dksX0_sails_5 23 rfl rfl
theorem dksX0_sails_7 : cX0_sails.data.toList.drop 160 = dktX0_sails_7 := dk_seg dksX0_sails_6 22 rfl rfl
theorem dX0_sails_0 : decode cX0_sails 0 = .ok (.aload_n 0, 1) := dk_42 (dk_at dksX0_sails_0 0 rfl rfl)
theorem dX0_sails_1 : decode cX0_sails 1 = .ok (.iload_n 1, 1) := dk_27 (dk_at dksX0_sails_0 1 rfl rfl)
theorem dX0_sails_2 : decode cX0_sails 2 = .ok (.putfield 369, 3) := dk_181 1 113 (dk_at dksX0_sails_0 2 rfl rfl)
theorem dX0_sails_5 : decode cX0_sails 5 = .ok (.aload_n 0, 1) := dk_42 (dk_at dksX0_sails_0 5 rfl rfl)
theorem dX0_sails_6 : decode cX0_sails 6 = .ok (.iconst 0, 1) := dk_3 (dk_at dksX0_sails_0 6 rfl rfl)
theorem dX0_sails_7 : decode cX0_sails 7 = .ok (.putfield 341, 3) := dk_181 1 85 (dk_at dksX0_sails_0 7 rfl rfl)
theorem dX0_sails_10 : decode cX0_sails 10 = .ok (.aload_n 0, 1) := dk_42 (dk_at dksX0_sails_0 10 rfl rfl)
theorem dX0_sails_11 : decode cX0_sails 11 = .ok (.iconst 0, 1) := dk_3 (dk_at dksX0_sails_0 11 rfl rfl)
theorem dX0_sails_12 : decode cX0_sails 12 = .ok (.putfield 397, 3) := dk_181 1 141 (dk_at dksX0_sails_0 12 rfl rfl)
theorem dX0_sails_15 : decode cX0_sails 15 = .ok (.aload_n 0, 1) := dk_42 (dk_at dksX0_sails_0 15 rfl rfl)
theorem dX0_sails_16 : decode cX0_sails 16 = .ok (.iconst 0, 1) := dk_3 (dk_at dksX0_sails_0 16 rfl rfl)
theorem dX0_sails_17 : decode cX0_sails 17 = .ok (.putfield 344, 3) := dk_181 1 88 (dk_at dksX0_sails_0 17 rfl rfl)
theorem dX0_sails_20 : decode cX0_sails 20 = .ok (.aload_n 0, 1) := dk_42 (dk_at dksX0_sails_0 20 rfl rfl)
theorem dX0_sails_21 : decode cX0_sails 21 = .ok (.iconst 0, 1) := dk_3 (dk_at dksX0_sails_0 21 rfl rfl)
theorem dX0_sails_22 : decode cX0_sails 22 = .ok (.putfield 372, 3) := dk_181 1 116 (dk_at dksX0_sails_1 0 rfl rfl)
theorem dX0_sails_25 : decode cX0_sails 25 = .ok (.aload_n 0, 1) := dk_42 (dk_at dksX0_sails_1 3 rfl rfl)
theorem dX0_sails_26 : decode cX0_sails 26 = .ok (.iconst 0, 1) := dk_3 (dk_at dksX0_sails_1 4 rfl rfl)
theorem dX0_sails_27 : decode cX0_sails 27 = .ok (.putfield 338, 3) := dk_181 1 82 (dk_at dksX0_sails_1 5 rfl rfl)
theorem dX0_sails_30 : decode cX0_sails 30 = .ok (.aload_n 0, 1) := dk_42 (dk_at dksX0_sails_1 8 rfl rfl)
theorem dX0_sails_31 : decode cX0_sails 31 = .ok (.iconst 0, 1) := dk_3 (dk_at dksX0_sails_1 9 rfl rfl)
theorem dX0_sails_32 : decode cX0_sails 32 = .ok (.putfield 335, 3) := dk_181 1 79 (dk_at dksX0_sails_1 10 rfl rfl)
theorem dX0_sails_35 : decode cX0_sails 35 = .ok (.aload_n 0, 1) := dk_42 (dk_at dksX0_sails_1 13 rfl rfl)
theorem dX0_sails_36 : decode cX0_sails 36 = .ok (.iconst 0, 1) := dk_3 (dk_at dksX0_sails_1 14 rfl rfl)
theorem dX0_sails_37 : decode cX0_sails 37 = .ok (.putfield 400, 3) := dk_181 1 144 (dk_at dksX0_sails_1 15 rfl rfl)
theorem dX0_sails_40 : decode cX0_sails 40 = .ok (.iconst 0, 1) := dk_3 (dk_at dksX0_sails_1 18 rfl rfl)
theorem dX0_sails_41 : decode cX0_sails 41 = .ok (.istore_n 2, 1) := dk_61 (dk_at dksX0_sails_1 19 rfl rfl)
theorem dX0_sails_42 : decode cX0_sails 42 = .ok (.iload_n 2, 1) := dk_28 (dk_at dksX0_sails_1 20 rfl rfl)
theorem dX0_sails_43 : decode cX0_sails 43 = .ok (.aload_n 0, 1) := dk_42 (dk_at dksX0_sails_1 21 rfl rfl)
theorem dX0_sails_44 : decode cX0_sails 44 = .ok (.getfield 194, 3) := dk_180 0 194 (dk_at dksX0_sails_2 0 rfl rfl)
theorem dX0_sails_47 : decode cX0_sails 47 = .ok (.if_icmp .ge 116, 3) := dk_162 0 116 (dk_at dksX0_sails_2 3 rfl rfl)
theorem dX0_sails_50 : decode cX0_sails 50 = .ok (.aload_n 0, 1) := dk_42 (dk_at dksX0_sails_2 6 rfl rfl)
theorem dX0_sails_51 : decode cX0_sails 51 = .ok (.getfield 400, 3) := dk_180 1 144 (dk_at dksX0_sails_2 7 rfl rfl)
theorem dX0_sails_54 : decode cX0_sails 54 = .ok (.sipush 300, 3) := dk_17 1 44 (dk_at dksX0_sails_2 10 rfl rfl)
theorem dX0_sails_57 : decode cX0_sails 57 = .ok (.if_icmp .ge 106, 3) := dk_162 0 106 (dk_at dksX0_sails_2 13 rfl rfl)
theorem dX0_sails_60 : decode cX0_sails 60 = .ok (.aload_n 0, 1) := dk_42 (dk_at dksX0_sails_2 16 rfl rfl)
theorem dX0_sails_61 : decode cX0_sails 61 = .ok (.getfield 190, 3) := dk_180 0 190 (dk_at dksX0_sails_2 17 rfl rfl)
theorem dX0_sails_64 : decode cX0_sails 64 = .ok (.iload_n 2, 1) := dk_28 (dk_at dksX0_sails_2 20 rfl rfl)
theorem dX0_sails_65 : decode cX0_sails 65 = .ok (.aaload, 1) := dk_50 (dk_at dksX0_sails_2 21 rfl rfl)
theorem dX0_sails_66 : decode cX0_sails 66 = .ok (.astore_n 3, 1) := dk_78 (dk_at dksX0_sails_2 22 rfl rfl)
theorem dX0_sails_67 : decode cX0_sails 67 = .ok (.aload_n 0, 1) := dk_42 (dk_at dksX0_sails_2 23 rfl rfl)
theorem dX0_sails_68 : decode cX0_sails 68 = .ok (.dup, 1) := dk_89 (dk_at dksX0_sails_3 0 rfl rfl)
theorem dX0_sails_69 : decode cX0_sails 69 = .ok (.getfield 400, 3) := dk_180 1 144 (dk_at dksX0_sails_3 1 rfl rfl)
theorem dX0_sails_72 : decode cX0_sails 72 = .ok (.iconst 1, 1) := dk_4 (dk_at dksX0_sails_3 4 rfl rfl)
theorem dX0_sails_73 : decode cX0_sails 73 = .ok (.iadd, 1) := dk_96 (dk_at dksX0_sails_3 5 rfl rfl)
theorem dX0_sails_74 : decode cX0_sails 74 = .ok (.putfield 400, 3) := dk_181 1 144 (dk_at dksX0_sails_3 6 rfl rfl)
theorem dX0_sails_77 : decode cX0_sails 77 = .ok (.aload_n 3, 1) := dk_45 (dk_at dksX0_sails_3 9 rfl rfl)
theorem dX0_sails_78 : decode cX0_sails 78 = .ok (.getfield 375, 3) := dk_180 1 119 (dk_at dksX0_sails_3 10 rfl rfl)
theorem dX0_sails_81 : decode cX0_sails 81 = .ok (.bipush 19, 2) := dk_16 19 (dk_at dksX0_sails_3 13 rfl rfl)
theorem dX0_sails_83 : decode cX0_sails 83 = .ok (.if_icmp .ne 4, 3) := dk_160 0 4 (dk_at dksX0_sails_3 15 rfl rfl)
theorem dX0_sails_86 : decode cX0_sails 86 = .ok (.return_, 1) := dk_177 (dk_at dksX0_sails_3 18 rfl rfl)
theorem dX0_sails_87 : decode cX0_sails 87 = .ok (.aload_n 0, 1) := dk_42 (dk_at dksX0_sails_3 19 rfl rfl)
theorem dX0_sails_88 : decode cX0_sails 88 = .ok (.dup, 1) := dk_89 (dk_at dksX0_sails_3 20 rfl rfl)
theorem dX0_sails_89 : decode cX0_sails 89 = .ok (.getfield 397, 3) := dk_180 1 141 (dk_at dksX0_sails_3 21 rfl rfl)
theorem dX0_sails_92 : decode cX0_sails 92 = .ok (.aload_n 0, 1) := dk_42 (dk_at dksX0_sails_4 0 rfl rfl)
theorem dX0_sails_93 : decode cX0_sails 93 = .ok (.aload_n 3, 1) := dk_45 (dk_at dksX0_sails_4 1 rfl rfl)
theorem dX0_sails_94 : decode cX0_sails 94 = .ok (.invokevirtual 403, 3) := dk_182 1 147 (dk_at dksX0_sails_4 2 rfl rfl)
theorem dX0_sails_97 : decode cX0_sails 97 = .ok (.ifCond .eq 7, 3) := dk_153 0 7 (dk_at dksX0_sails_4 5 rfl rfl)
theorem dX0_sails_100 : decode cX0_sails 100 = .ok (.iconst 0, 1) := dk_3 (dk_at dksX0_sails_4 8 rfl rfl)
theorem dX0_sails_101 : decode cX0_sails 101 = .ok (.goto 4, 3) := dk_167 0 4 (dk_at dksX0_sails_4 9 rfl rfl)
theorem dX0_sails_104 : decode cX0_sails 104 = .ok (.iconst 1, 1) := dk_4 (dk_at dksX0_sails_4 12 rfl rfl)
theorem dX0_sails_105 : decode cX0_sails 105 = .ok (.iadd, 1) := dk_96 (dk_at dksX0_sails_4 13 rfl rfl)
theorem dX0_sails_106 : decode cX0_sails 106 = .ok (.putfield 397, 3) := dk_181 1 141 (dk_at dksX0_sails_4 14 rfl rfl)
theorem dX0_sails_109 : decode cX0_sails 109 = .ok (.aload_n 3, 1) := dk_45 (dk_at dksX0_sails_4 17 rfl rfl)
theorem dX0_sails_110 : decode cX0_sails 110 = .ok (.getfield 375, 3) := dk_180 1 119 (dk_at dksX0_sails_4 18 rfl rfl)
theorem dX0_sails_113 : decode cX0_sails 113 = .ok (.bipush 18, 2) := dk_16 18 (dk_at dksX0_sails_4 21 rfl rfl)
theorem dX0_sails_115 : decode cX0_sails 115 = .ok (.if_icmp .ne 11, 3) := dk_160 0 11 (dk_at dksX0_sails_5 0 rfl rfl)
theorem dX0_sails_118 : decode cX0_sails 118 = .ok (.aload_n 3, 1) := dk_45 (dk_at dksX0_sails_5 3 rfl rfl)
theorem dX0_sails_119 : decode cX0_sails 119 = .ok (.aload_n 3, 1) := dk_45 (dk_at dksX0_sails_5 4 rfl rfl)
theorem dX0_sails_120 : decode cX0_sails 120 = .ok (.getfield 379, 3) := dk_180 1 123 (dk_at dksX0_sails_5 5 rfl rfl)
theorem dX0_sails_123 : decode cX0_sails 123 = .ok (.putfield 394, 3) := dk_181 1 138 (dk_at dksX0_sails_5 8 rfl rfl)
theorem dX0_sails_126 : decode cX0_sails 126 = .ok (.aload_n 0, 1) := dk_42 (dk_at dksX0_sails_5 11 rfl rfl)
theorem dX0_sails_127 : decode cX0_sails 127 = .ok (.aload_n 3, 1) := dk_45 (dk_at dksX0_sails_5 12 rfl rfl)
theorem dX0_sails_128 : decode cX0_sails 128 = .ok (.getfield 375, 3) := dk_180 1 119 (dk_at dksX0_sails_5 13 rfl rfl)
theorem dX0_sails_131 : decode cX0_sails 131 = .ok (.bipush 17, 2) := dk_16 17 (dk_at dksX0_sails_5 16 rfl rfl)
theorem dX0_sails_133 : decode cX0_sails 133 = .ok (.if_icmp .ne 20, 3) := dk_160 0 20 (dk_at dksX0_sails_5 18 rfl rfl)
theorem dX0_sails_136 : decode cX0_sails 136 = .ok (.aload_n 0, 1) := dk_42 (dk_at dksX0_sails_5 21 rfl rfl)
theorem dX0_sails_137 : decode cX0_sails 137 = .ok (.aload_n 3, 1) := dk_45 (dk_at dksX0_sails_5 22 rfl rfl)
theorem dX0_sails_138 : decode cX0_sails 138 = .ok (.invokevirtual 406, 3) := dk_182 1 150 (dk_at dksX0_sails_6 0 rfl rfl)
theorem dX0_sails_141 : decode cX0_sails 141 = .ok (.ifCond .ne 12, 3) := dk_154 0 12 (dk_at dksX0_sails_6 3 rfl rfl)
theorem dX0_sails_144 : decode cX0_sails 144 = .ok (.aload_n 3, 1) := dk_45 (dk_at dksX0_sails_6 6 rfl rfl)
theorem dX0_sails_145 : decode cX0_sails 145 = .ok (.getfield 391, 3) := dk_180 1 135 (dk_at dksX0_sails_6 7 rfl rfl)
theorem dX0_sails_148 : decode cX0_sails 148 = .ok (.iconst 1, 1) := dk_4 (dk_at dksX0_sails_6 10 rfl rfl)
theorem dX0_sails_149 : decode cX0_sails 149 = .ok (.iadd, 1) := dk_96 (dk_at dksX0_sails_6 11 rfl rfl)
theorem dX0_sails_150 : decode cX0_sails 150 = .ok (.goto 6, 3) := dk_167 0 6 (dk_at dksX0_sails_6 12 rfl rfl)
theorem dX0_sails_153 : decode cX0_sails 153 = .ok (.iload_n 2, 1) := dk_28 (dk_at dksX0_sails_6 15 rfl rfl)
theorem dX0_sails_154 : decode cX0_sails 154 = .ok (.iconst 1, 1) := dk_4 (dk_at dksX0_sails_6 16 rfl rfl)
theorem dX0_sails_155 : decode cX0_sails 155 = .ok (.iadd, 1) := dk_96 (dk_at dksX0_sails_6 17 rfl rfl)
theorem dX0_sails_156 : decode cX0_sails 156 = .ok (.invokevirtual 408, 3) := dk_182 1 152 (dk_at dksX0_sails_6 18 rfl rfl)
theorem dX0_sails_159 : decode cX0_sails 159 = .ok (.istore_n 2, 1) := dk_61 (dk_at dksX0_sails_6 21 rfl rfl)
theorem dX0_sails_160 : decode cX0_sails 160 = .ok (.goto (-118), 3) := dk_167 255 138 (dk_at dksX0_sails_7 0 rfl rfl)
theorem dX0_sails_163 : decode cX0_sails 163 = .ok (.return_, 1) := dk_177 (dk_at dksX0_sails_7 3 rfl rfl)
abbrev cX0_does : ByteArray := prog_1_method_77_code
def yX0_does : MethodName := ⟨RX0, "does", "(LSwapBook$Step;)Z"⟩
def dkwX0_does_12 : List UInt8 := [182, 1, 126, 132, 4, 1, 167, 255, 230, 4, 172, 42, 43, 180, 1, 123, 182, 1, 129, 4, 172, 4, 172]
abbrev dktX0_does_12 : List UInt8 := dkwX0_does_12 ++ []
def dkwX0_does_11 : List UInt8 := [172, 3, 54, 4, 21, 4, 43, 180, 1, 123, 162, 0, 23, 42, 89, 180, 1, 85, 4, 96, 181, 1, 85, 42]
abbrev dktX0_does_11 : List UInt8 := dkwX0_does_11 ++ dktX0_does_12
def dkwX0_does_10 : List UInt8 := [180, 0, 37, 180, 0, 208, 43, 180, 1, 94, 50, 180, 0, 242, 128, 128, 79, 29, 172, 42, 43, 182, 1, 120]
abbrev dktX0_does_10 : List UInt8 := dkwX0_does_10 ++ dktX0_does_11
def dkwX0_does_9 : List UInt8 := [167, 255, 209, 29, 153, 0, 37, 42, 180, 0, 27, 43, 180, 1, 99, 92, 46, 4, 43, 180, 1, 94, 120, 42]
abbrev dktX0_does_9 : List UInt8 := dkwX0_does_9 ++ dktX0_does_10
def dkwX0_does_8 : List UInt8 := [21, 4, 46, 43, 180, 1, 94, 122, 4, 126, 4, 160, 0, 7, 4, 167, 0, 4, 3, 62, 132, 4, 1]
abbrev dktX0_does_8 : List UInt8 := dkwX0_does_8 ++ dktX0_does_9
def dkwX0_does_7 : List UInt8 := [21, 4, 42, 180, 0, 37, 180, 0, 152, 162, 0, 41, 28, 153, 0, 37, 29, 154, 0, 21, 42, 180, 0, 27]
abbrev dktX0_does_7 : List UInt8 := dkwX0_does_7 ++ dktX0_does_8
def dkwX0_does_6 : List UInt8 := [180, 0, 27, 43, 180, 1, 99, 46, 43, 180, 1, 94, 182, 1, 1, 79, 28, 172, 3, 62, 3, 54, 4]
abbrev dktX0_does_6 : List UInt8 := dkwX0_does_6 ++ dktX0_does_7
def dkwX0_does_5 : List UInt8 := [180, 1, 94, 120, 128, 79, 4, 172, 28, 153, 0, 29, 42, 180, 0, 27, 43, 180, 1, 99, 42, 42]
abbrev dktX0_does_5 : List UInt8 := dkwX0_does_5 ++ dktX0_does_6
def dkwX0_does_4 : List UInt8 := [180, 1, 99, 46, 2, 130, 126, 153, 0, 5, 3, 172, 42, 180, 0, 27, 43, 180, 1, 99, 92, 46, 4, 43]
abbrev dktX0_does_4 : List UInt8 := dkwX0_does_4 ++ dktX0_does_5
def dkwX0_does_3 : List UInt8 := [28, 153, 0, 33, 42, 180, 0, 37, 180, 0, 208, 43, 180, 1, 94, 50, 180, 0, 242, 42, 180, 0, 27, 43]
abbrev dktX0_does_3 : List UInt8 := dkwX0_does_3 ++ dktX0_does_4
def dkwX0_does_2 : List UInt8 := [170, 0, 0, 0, 0, 1, 16, 0, 0, 0, 11, 0, 0, 0, 16, 0, 0, 0, 39, 0, 0, 0, 222, 0, 0, 0, 95, 0, 0, 0, 127, 0, 0, 0, 228, 0, 0, 1, 6]
abbrev dktX0_does_2 : List UInt8 := dkwX0_does_2 ++ dktX0_does_3
def dkwX0_does_1 : List UInt8 := [167, 0, 4, 3, 61, 43, 180, 1, 119]
abbrev dktX0_does_1 : List UInt8 := dkwX0_does_1 ++ dktX0_does_2
def dkwX0_does_0 : List UInt8 := [42, 43, 180, 1, 94, 133, 182, 0, 224, 153, 0, 18, 42, 43, 180, 1, 99, 182, 1, 76, 153, 0, 7, 4]
abbrev dktX0_does_0 : List UInt8 := dkwX0_does_0 ++ dktX0_does_1
theorem dksX0_does_0 : cX0_does.data.toList.drop 0 = dktX0_does_0 := by decide +kernel
theorem dksX0_does_1 : cX0_does.data.toList.drop 24 = dktX0_does_1 := dk_seg dksX0_does_0 24 rfl rfl
theorem dksX0_does_2 : cX0_does.data.toList.drop 33 = dktX0_does_2 := dk_seg dksX0_does_1 9 rfl rfl
theorem dksX0_does_3 : cX0_does.data.toList.drop 72 = dktX0_does_3 := dk_seg dksX0_does_2 39 rfl rfl
theorem dksX0_does_4 : cX0_does.data.toList.drop 96 = dktX0_does_4 := dk_seg dksX0_does_3 24 rfl rfl
theorem dksX0_does_5 : cX0_does.data.toList.drop 120 = dktX0_does_5 := dk_seg dksX0_does_4 24 rfl rfl
theorem dksX0_does_6 : cX0_does.data.toList.drop 142 = dktX0_does_6 := dk_seg dksX0_does_5 22 rfl rfl
theorem dksX0_does_7 : cX0_does.data.toList.drop 165 = dktX0_does_7 := dk_seg dksX0_does_6 23 rfl rfl
theorem dksX0_does_8 : cX0_does.data.toList.drop 189 = dktX0_does_8 := dk_seg dksX0_does_7 24 rfl rfl
theorem dksX0_does_9 : cX0_does.data.toList.drop 212 = dktX0_does_9 := dk_seg dksX0_does_8 23 rfl rfl
theorem dksX0_does_10 : cX0_does.data.toList.drop 236 = dktX0_does_10 := dk_seg dksX0_does_9 24 rfl rfl
theorem dksX0_does_11 : cX0_does.data.toList.drop 260 = dktX0_does_11 := dk_seg dksX0_does_10 24 rfl rfl
theorem dksX0_does_12 : cX0_does.data.toList.drop 284 = dktX0_does_12 := dk_seg dksX0_does_11 24 rfl rfl
theorem dX0_does_0 : decode cX0_does 0 = .ok (.aload_n 0, 1) := dk_42 (dk_at dksX0_does_0 0 rfl rfl)
theorem dX0_does_1 : decode cX0_does 1 = .ok (.aload_n 1, 1) := dk_43 (dk_at dksX0_does_0 1 rfl rfl)
theorem dX0_does_2 : decode cX0_does 2 = .ok (.getfield 350, 3) := dk_180 1 94 (dk_at dksX0_does_0 2 rfl rfl)
theorem dX0_does_5 : decode cX0_does 5 = .ok (.i2l, 1) := dk_133 (dk_at dksX0_does_0 5 rfl rfl)
theorem dX0_does_6 : decode cX0_does 6 = .ok (.invokevirtual 224, 3) := dk_182 0 224 (dk_at dksX0_does_0 6 rfl rfl)
theorem dX0_does_9 : decode cX0_does 9 = .ok (.ifCond .eq 18, 3) := dk_153 0 18 (dk_at dksX0_does_0 9 rfl rfl)
theorem dX0_does_12 : decode cX0_does 12 = .ok (.aload_n 0, 1) := dk_42 (dk_at dksX0_does_0 12 rfl rfl)
theorem dX0_does_13 : decode cX0_does 13 = .ok (.aload_n 1, 1) := dk_43 (dk_at dksX0_does_0 13 rfl rfl)
theorem dX0_does_14 : decode cX0_does 14 = .ok (.getfield 355, 3) := dk_180 1 99 (dk_at dksX0_does_0 14 rfl rfl)
theorem dX0_does_17 : decode cX0_does 17 = .ok (.invokevirtual 332, 3) := dk_182 1 76 (dk_at dksX0_does_0 17 rfl rfl)
theorem dX0_does_20 : decode cX0_does 20 = .ok (.ifCond .eq 7, 3) := dk_153 0 7 (dk_at dksX0_does_0 20 rfl rfl)
theorem dX0_does_23 : decode cX0_does 23 = .ok (.iconst 1, 1) := dk_4 (dk_at dksX0_does_0 23 rfl rfl)
theorem dX0_does_24 : decode cX0_does 24 = .ok (.goto 4, 3) := dk_167 0 4 (dk_at dksX0_does_1 0 rfl rfl)
theorem dX0_does_27 : decode cX0_does 27 = .ok (.iconst 0, 1) := dk_3 (dk_at dksX0_does_1 3 rfl rfl)
theorem dX0_does_28 : decode cX0_does 28 = .ok (.istore_n 2, 1) := dk_61 (dk_at dksX0_does_1 4 rfl rfl)
theorem dX0_does_29 : decode cX0_does 29 = .ok (.aload_n 1, 1) := dk_43 (dk_at dksX0_does_1 5 rfl rfl)
theorem dX0_does_30 : decode cX0_does 30 = .ok (.getfield 375, 3) := dk_180 1 119 (dk_at dksX0_does_1 6 rfl rfl)
theorem dX0_does_33 : decode cX0_does 33 = .ok (.tableswitch 272 11 16 #[39, 222, 95, 127, 228, 262], 39) := by decide +kernel
theorem dX0_does_72 : decode cX0_does 72 = .ok (.iload_n 2, 1) := dk_28 (dk_at dksX0_does_3 0 rfl rfl)
theorem dX0_does_73 : decode cX0_does 73 = .ok (.ifCond .eq 33, 3) := dk_153 0 33 (dk_at dksX0_does_3 1 rfl rfl)
theorem dX0_does_76 : decode cX0_does 76 = .ok (.aload_n 0, 1) := dk_42 (dk_at dksX0_does_3 4 rfl rfl)
theorem dX0_does_77 : decode cX0_does 77 = .ok (.getfield 37, 3) := dk_180 0 37 (dk_at dksX0_does_3 5 rfl rfl)
theorem dX0_does_80 : decode cX0_does 80 = .ok (.getfield 208, 3) := dk_180 0 208 (dk_at dksX0_does_3 8 rfl rfl)
theorem dX0_does_83 : decode cX0_does 83 = .ok (.aload_n 1, 1) := dk_43 (dk_at dksX0_does_3 11 rfl rfl)
theorem dX0_does_84 : decode cX0_does 84 = .ok (.getfield 350, 3) := dk_180 1 94 (dk_at dksX0_does_3 12 rfl rfl)
theorem dX0_does_87 : decode cX0_does 87 = .ok (.aaload, 1) := dk_50 (dk_at dksX0_does_3 15 rfl rfl)
theorem dX0_does_88 : decode cX0_does 88 = .ok (.getfield 242, 3) := dk_180 0 242 (dk_at dksX0_does_3 16 rfl rfl)
theorem dX0_does_91 : decode cX0_does 91 = .ok (.aload_n 0, 1) := dk_42 (dk_at dksX0_does_3 19 rfl rfl)
theorem dX0_does_92 : decode cX0_does 92 = .ok (.getfield 27, 3) := dk_180 0 27 (dk_at dksX0_does_3 20 rfl rfl)
theorem dX0_does_95 : decode cX0_does 95 = .ok (.aload_n 1, 1) := dk_43 (dk_at dksX0_does_3 23 rfl rfl)
theorem dX0_does_96 : decode cX0_does 96 = .ok (.getfield 355, 3) := dk_180 1 99 (dk_at dksX0_does_4 0 rfl rfl)
theorem dX0_does_99 : decode cX0_does 99 = .ok (.iaload, 1) := dk_46 (dk_at dksX0_does_4 3 rfl rfl)
theorem dX0_does_100 : decode cX0_does 100 = .ok (.iconst (-1), 1) := dk_2 (dk_at dksX0_does_4 4 rfl rfl)
theorem dX0_does_101 : decode cX0_does 101 = .ok (.ixor, 1) := dk_130 (dk_at dksX0_does_4 5 rfl rfl)
theorem dX0_does_102 : decode cX0_does 102 = .ok (.iand, 1) := dk_126 (dk_at dksX0_does_4 6 rfl rfl)
theorem dX0_does_103 : decode cX0_does 103 = .ok (.ifCond .eq 5, 3) := dk_153 0 5 (dk_at dksX0_does_4 7 rfl rfl)
theorem dX0_does_106 : decode cX0_does 106 = .ok (.iconst 0, 1) := dk_3 (dk_at dksX0_does_4 10 rfl rfl)
theorem dX0_does_107 : decode cX0_does 107 = .ok (.ireturn, 1) := dk_172 (dk_at dksX0_does_4 11 rfl rfl)
theorem dX0_does_108 : decode cX0_does 108 = .ok (.aload_n 0, 1) := dk_42 (dk_at dksX0_does_4 12 rfl rfl)
theorem dX0_does_109 : decode cX0_does 109 = .ok (.getfield 27, 3) := dk_180 0 27 (dk_at dksX0_does_4 13 rfl rfl)
theorem dX0_does_112 : decode cX0_does 112 = .ok (.aload_n 1, 1) := dk_43 (dk_at dksX0_does_4 16 rfl rfl)
theorem dX0_does_113 : decode cX0_does 113 = .ok (.getfield 355, 3) := dk_180 1 99 (dk_at dksX0_does_4 17 rfl rfl)
theorem dX0_does_116 : decode cX0_does 116 = .ok (.dup2, 1) := dk_92 (dk_at dksX0_does_4 20 rfl rfl)
theorem dX0_does_117 : decode cX0_does 117 = .ok (.iaload, 1) := dk_46 (dk_at dksX0_does_4 21 rfl rfl)
theorem dX0_does_118 : decode cX0_does 118 = .ok (.iconst 1, 1) := dk_4 (dk_at dksX0_does_4 22 rfl rfl)
theorem dX0_does_119 : decode cX0_does 119 = .ok (.aload_n 1, 1) := dk_43 (dk_at dksX0_does_4 23 rfl rfl)
theorem dX0_does_120 : decode cX0_does 120 = .ok (.getfield 350, 3) := dk_180 1 94 (dk_at dksX0_does_5 0 rfl rfl)
theorem dX0_does_123 : decode cX0_does 123 = .ok (.ishl, 1) := dk_120 (dk_at dksX0_does_5 3 rfl rfl)
theorem dX0_does_124 : decode cX0_does 124 = .ok (.ior, 1) := dk_128 (dk_at dksX0_does_5 4 rfl rfl)
theorem dX0_does_125 : decode cX0_does 125 = .ok (.iastore, 1) := dk_79 (dk_at dksX0_does_5 5 rfl rfl)
theorem dX0_does_126 : decode cX0_does 126 = .ok (.iconst 1, 1) := dk_4 (dk_at dksX0_does_5 6 rfl rfl)
theorem dX0_does_127 : decode cX0_does 127 = .ok (.ireturn, 1) := dk_172 (dk_at dksX0_does_5 7 rfl rfl)
theorem dX0_does_128 : decode cX0_does 128 = .ok (.iload_n 2, 1) := dk_28 (dk_at dksX0_does_5 8 rfl rfl)
theorem dX0_does_129 : decode cX0_does 129 = .ok (.ifCond .eq 29, 3) := dk_153 0 29 (dk_at dksX0_does_5 9 rfl rfl)
theorem dX0_does_132 : decode cX0_does 132 = .ok (.aload_n 0, 1) := dk_42 (dk_at dksX0_does_5 12 rfl rfl)
theorem dX0_does_133 : decode cX0_does 133 = .ok (.getfield 27, 3) := dk_180 0 27 (dk_at dksX0_does_5 13 rfl rfl)
theorem dX0_does_136 : decode cX0_does 136 = .ok (.aload_n 1, 1) := dk_43 (dk_at dksX0_does_5 16 rfl rfl)
theorem dX0_does_137 : decode cX0_does 137 = .ok (.getfield 355, 3) := dk_180 1 99 (dk_at dksX0_does_5 17 rfl rfl)
theorem dX0_does_140 : decode cX0_does 140 = .ok (.aload_n 0, 1) := dk_42 (dk_at dksX0_does_5 20 rfl rfl)
theorem dX0_does_141 : decode cX0_does 141 = .ok (.aload_n 0, 1) := dk_42 (dk_at dksX0_does_5 21 rfl rfl)
theorem dX0_does_142 : decode cX0_does 142 = .ok (.getfield 27, 3) := dk_180 0 27 (dk_at dksX0_does_6 0 rfl rfl)
theorem dX0_does_145 : decode cX0_does 145 = .ok (.aload_n 1, 1) := dk_43 (dk_at dksX0_does_6 3 rfl rfl)
theorem dX0_does_146 : decode cX0_does 146 = .ok (.getfield 355, 3) := dk_180 1 99 (dk_at dksX0_does_6 4 rfl rfl)
theorem dX0_does_149 : decode cX0_does 149 = .ok (.iaload, 1) := dk_46 (dk_at dksX0_does_6 7 rfl rfl)
theorem dX0_does_150 : decode cX0_does 150 = .ok (.aload_n 1, 1) := dk_43 (dk_at dksX0_does_6 8 rfl rfl)
theorem dX0_does_151 : decode cX0_does 151 = .ok (.getfield 350, 3) := dk_180 1 94 (dk_at dksX0_does_6 9 rfl rfl)
theorem dX0_does_154 : decode cX0_does 154 = .ok (.invokevirtual 257, 3) := dk_182 1 1 (dk_at dksX0_does_6 12 rfl rfl)
theorem dX0_does_157 : decode cX0_does 157 = .ok (.iastore, 1) := dk_79 (dk_at dksX0_does_6 15 rfl rfl)
theorem dX0_does_158 : decode cX0_does 158 = .ok (.iload_n 2, 1) := dk_28 (dk_at dksX0_does_6 16 rfl rfl)
theorem dX0_does_159 : decode cX0_does 159 = .ok (.ireturn, 1) := dk_172 (dk_at dksX0_does_6 17 rfl rfl)
theorem dX0_does_160 : decode cX0_does 160 = .ok (.iconst 0, 1) := dk_3 (dk_at dksX0_does_6 18 rfl rfl)
theorem dX0_does_161 : decode cX0_does 161 = .ok (.istore_n 3, 1) := dk_62 (dk_at dksX0_does_6 19 rfl rfl)
theorem dX0_does_162 : decode cX0_does 162 = .ok (.iconst 0, 1) := dk_3 (dk_at dksX0_does_6 20 rfl rfl)
theorem dX0_does_163 : decode cX0_does 163 = .ok (.istore 4, 2) := dk_54 4 (dk_at dksX0_does_6 21 rfl rfl)
theorem dX0_does_165 : decode cX0_does 165 = .ok (.iload 4, 2) := dk_21 4 (dk_at dksX0_does_7 0 rfl rfl)
theorem dX0_does_167 : decode cX0_does 167 = .ok (.aload_n 0, 1) := dk_42 (dk_at dksX0_does_7 2 rfl rfl)
theorem dX0_does_168 : decode cX0_does 168 = .ok (.getfield 37, 3) := dk_180 0 37 (dk_at dksX0_does_7 3 rfl rfl)
theorem dX0_does_171 : decode cX0_does 171 = .ok (.getfield 152, 3) := dk_180 0 152 (dk_at dksX0_does_7 6 rfl rfl)
theorem dX0_does_174 : decode cX0_does 174 = .ok (.if_icmp .ge 41, 3) := dk_162 0 41 (dk_at dksX0_does_7 9 rfl rfl)
theorem dX0_does_177 : decode cX0_does 177 = .ok (.iload_n 2, 1) := dk_28 (dk_at dksX0_does_7 12 rfl rfl)
theorem dX0_does_178 : decode cX0_does 178 = .ok (.ifCond .eq 37, 3) := dk_153 0 37 (dk_at dksX0_does_7 13 rfl rfl)
theorem dX0_does_181 : decode cX0_does 181 = .ok (.iload_n 3, 1) := dk_29 (dk_at dksX0_does_7 16 rfl rfl)
theorem dX0_does_182 : decode cX0_does 182 = .ok (.ifCond .ne 21, 3) := dk_154 0 21 (dk_at dksX0_does_7 17 rfl rfl)
theorem dX0_does_185 : decode cX0_does 185 = .ok (.aload_n 0, 1) := dk_42 (dk_at dksX0_does_7 20 rfl rfl)
theorem dX0_does_186 : decode cX0_does 186 = .ok (.getfield 27, 3) := dk_180 0 27 (dk_at dksX0_does_7 21 rfl rfl)
theorem dX0_does_189 : decode cX0_does 189 = .ok (.iload 4, 2) := dk_21 4 (dk_at dksX0_does_8 0 rfl rfl)
theorem dX0_does_191 : decode cX0_does 191 = .ok (.iaload, 1) := dk_46 (dk_at dksX0_does_8 2 rfl rfl)
theorem dX0_does_192 : decode cX0_does 192 = .ok (.aload_n 1, 1) := dk_43 (dk_at dksX0_does_8 3 rfl rfl)
theorem dX0_does_193 : decode cX0_does 193 = .ok (.getfield 350, 3) := dk_180 1 94 (dk_at dksX0_does_8 4 rfl rfl)
theorem dX0_does_196 : decode cX0_does 196 = .ok (.ishr, 1) := dk_122 (dk_at dksX0_does_8 7 rfl rfl)
theorem dX0_does_197 : decode cX0_does 197 = .ok (.iconst 1, 1) := dk_4 (dk_at dksX0_does_8 8 rfl rfl)
theorem dX0_does_198 : decode cX0_does 198 = .ok (.iand, 1) := dk_126 (dk_at dksX0_does_8 9 rfl rfl)
theorem dX0_does_199 : decode cX0_does 199 = .ok (.iconst 1, 1) := dk_4 (dk_at dksX0_does_8 10 rfl rfl)
theorem dX0_does_200 : decode cX0_does 200 = .ok (.if_icmp .ne 7, 3) := dk_160 0 7 (dk_at dksX0_does_8 11 rfl rfl)
theorem dX0_does_203 : decode cX0_does 203 = .ok (.iconst 1, 1) := dk_4 (dk_at dksX0_does_8 14 rfl rfl)
theorem dX0_does_204 : decode cX0_does 204 = .ok (.goto 4, 3) := dk_167 0 4 (dk_at dksX0_does_8 15 rfl rfl)
theorem dX0_does_207 : decode cX0_does 207 = .ok (.iconst 0, 1) := dk_3 (dk_at dksX0_does_8 18 rfl rfl)
theorem dX0_does_208 : decode cX0_does 208 = .ok (.istore_n 3, 1) := dk_62 (dk_at dksX0_does_8 19 rfl rfl)
theorem dX0_does_209 : decode cX0_does 209 = .ok (.iinc 4 1, 3) := dk_132 4 1 (dk_at dksX0_does_8 20 rfl rfl)
theorem dX0_does_212 : decode cX0_does 212 = .ok (.goto (-47), 3) := dk_167 255 209 (dk_at dksX0_does_9 0 rfl rfl)
theorem dX0_does_215 : decode cX0_does 215 = .ok (.iload_n 3, 1) := dk_29 (dk_at dksX0_does_9 3 rfl rfl)
theorem dX0_does_216 : decode cX0_does 216 = .ok (.ifCond .eq 37, 3) := dk_153 0 37 (dk_at dksX0_does_9 4 rfl rfl)
theorem dX0_does_219 : decode cX0_does 219 = .ok (.aload_n 0, 1) := dk_42 (dk_at dksX0_does_9 7 rfl rfl)
theorem dX0_does_220 : decode cX0_does 220 = .ok (.getfield 27, 3) := dk_180 0 27 (dk_at dksX0_does_9 8 rfl rfl)
theorem dX0_does_223 : decode cX0_does 223 = .ok (.aload_n 1, 1) := dk_43 (dk_at dksX0_does_9 11 rfl rfl)
theorem dX0_does_224 : decode cX0_does 224 = .ok (.getfield 355, 3) := dk_180 1 99 (dk_at dksX0_does_9 12 rfl rfl)
theorem dX0_does_227 : decode cX0_does 227 = .ok (.dup2, 1) := dk_92 (dk_at dksX0_does_9 15 rfl rfl)
theorem dX0_does_228 : decode cX0_does 228 = .ok (.iaload, 1) := dk_46 (dk_at dksX0_does_9 16 rfl rfl)
theorem dX0_does_229 : decode cX0_does 229 = .ok (.iconst 1, 1) := dk_4 (dk_at dksX0_does_9 17 rfl rfl)
theorem dX0_does_230 : decode cX0_does 230 = .ok (.aload_n 1, 1) := dk_43 (dk_at dksX0_does_9 18 rfl rfl)
theorem dX0_does_231 : decode cX0_does 231 = .ok (.getfield 350, 3) := dk_180 1 94 (dk_at dksX0_does_9 19 rfl rfl)
theorem dX0_does_234 : decode cX0_does 234 = .ok (.ishl, 1) := dk_120 (dk_at dksX0_does_9 22 rfl rfl)
theorem dX0_does_235 : decode cX0_does 235 = .ok (.aload_n 0, 1) := dk_42 (dk_at dksX0_does_9 23 rfl rfl)
theorem dX0_does_236 : decode cX0_does 236 = .ok (.getfield 37, 3) := dk_180 0 37 (dk_at dksX0_does_10 0 rfl rfl)
theorem dX0_does_239 : decode cX0_does 239 = .ok (.getfield 208, 3) := dk_180 0 208 (dk_at dksX0_does_10 3 rfl rfl)
theorem dX0_does_242 : decode cX0_does 242 = .ok (.aload_n 1, 1) := dk_43 (dk_at dksX0_does_10 6 rfl rfl)
theorem dX0_does_243 : decode cX0_does 243 = .ok (.getfield 350, 3) := dk_180 1 94 (dk_at dksX0_does_10 7 rfl rfl)
theorem dX0_does_246 : decode cX0_does 246 = .ok (.aaload, 1) := dk_50 (dk_at dksX0_does_10 10 rfl rfl)
theorem dX0_does_247 : decode cX0_does 247 = .ok (.getfield 242, 3) := dk_180 0 242 (dk_at dksX0_does_10 11 rfl rfl)
theorem dX0_does_250 : decode cX0_does 250 = .ok (.ior, 1) := dk_128 (dk_at dksX0_does_10 14 rfl rfl)
theorem dX0_does_251 : decode cX0_does 251 = .ok (.ior, 1) := dk_128 (dk_at dksX0_does_10 15 rfl rfl)
theorem dX0_does_252 : decode cX0_does 252 = .ok (.iastore, 1) := dk_79 (dk_at dksX0_does_10 16 rfl rfl)
theorem dX0_does_253 : decode cX0_does 253 = .ok (.iload_n 3, 1) := dk_29 (dk_at dksX0_does_10 17 rfl rfl)
theorem dX0_does_254 : decode cX0_does 254 = .ok (.ireturn, 1) := dk_172 (dk_at dksX0_does_10 18 rfl rfl)
theorem dX0_does_255 : decode cX0_does 255 = .ok (.aload_n 0, 1) := dk_42 (dk_at dksX0_does_10 19 rfl rfl)
theorem dX0_does_256 : decode cX0_does 256 = .ok (.aload_n 1, 1) := dk_43 (dk_at dksX0_does_10 20 rfl rfl)
theorem dX0_does_257 : decode cX0_does 257 = .ok (.invokevirtual 376, 3) := dk_182 1 120 (dk_at dksX0_does_10 21 rfl rfl)
theorem dX0_does_260 : decode cX0_does 260 = .ok (.ireturn, 1) := dk_172 (dk_at dksX0_does_11 0 rfl rfl)
theorem dX0_does_261 : decode cX0_does 261 = .ok (.iconst 0, 1) := dk_3 (dk_at dksX0_does_11 1 rfl rfl)
theorem dX0_does_262 : decode cX0_does 262 = .ok (.istore 4, 2) := dk_54 4 (dk_at dksX0_does_11 2 rfl rfl)
theorem dX0_does_264 : decode cX0_does 264 = .ok (.iload 4, 2) := dk_21 4 (dk_at dksX0_does_11 4 rfl rfl)
theorem dX0_does_266 : decode cX0_does 266 = .ok (.aload_n 1, 1) := dk_43 (dk_at dksX0_does_11 6 rfl rfl)
theorem dX0_does_267 : decode cX0_does 267 = .ok (.getfield 379, 3) := dk_180 1 123 (dk_at dksX0_does_11 7 rfl rfl)
theorem dX0_does_270 : decode cX0_does 270 = .ok (.if_icmp .ge 23, 3) := dk_162 0 23 (dk_at dksX0_does_11 10 rfl rfl)
theorem dX0_does_273 : decode cX0_does 273 = .ok (.aload_n 0, 1) := dk_42 (dk_at dksX0_does_11 13 rfl rfl)
theorem dX0_does_274 : decode cX0_does 274 = .ok (.dup, 1) := dk_89 (dk_at dksX0_does_11 14 rfl rfl)
theorem dX0_does_275 : decode cX0_does 275 = .ok (.getfield 341, 3) := dk_180 1 85 (dk_at dksX0_does_11 15 rfl rfl)
theorem dX0_does_278 : decode cX0_does 278 = .ok (.iconst 1, 1) := dk_4 (dk_at dksX0_does_11 18 rfl rfl)
theorem dX0_does_279 : decode cX0_does 279 = .ok (.iadd, 1) := dk_96 (dk_at dksX0_does_11 19 rfl rfl)
theorem dX0_does_280 : decode cX0_does 280 = .ok (.putfield 341, 3) := dk_181 1 85 (dk_at dksX0_does_11 20 rfl rfl)
theorem dX0_does_283 : decode cX0_does 283 = .ok (.aload_n 0, 1) := dk_42 (dk_at dksX0_does_11 23 rfl rfl)
theorem dX0_does_284 : decode cX0_does 284 = .ok (.invokevirtual 382, 3) := dk_182 1 126 (dk_at dksX0_does_12 0 rfl rfl)
theorem dX0_does_287 : decode cX0_does 287 = .ok (.iinc 4 1, 3) := dk_132 4 1 (dk_at dksX0_does_12 3 rfl rfl)
theorem dX0_does_290 : decode cX0_does 290 = .ok (.goto (-26), 3) := dk_167 255 230 (dk_at dksX0_does_12 6 rfl rfl)
theorem dX0_does_293 : decode cX0_does 293 = .ok (.iconst 1, 1) := dk_4 (dk_at dksX0_does_12 9 rfl rfl)
theorem dX0_does_294 : decode cX0_does 294 = .ok (.ireturn, 1) := dk_172 (dk_at dksX0_does_12 10 rfl rfl)
theorem dX0_does_295 : decode cX0_does 295 = .ok (.aload_n 0, 1) := dk_42 (dk_at dksX0_does_12 11 rfl rfl)
theorem dX0_does_296 : decode cX0_does 296 = .ok (.aload_n 1, 1) := dk_43 (dk_at dksX0_does_12 12 rfl rfl)
theorem dX0_does_297 : decode cX0_does 297 = .ok (.getfield 379, 3) := dk_180 1 123 (dk_at dksX0_does_12 13 rfl rfl)
theorem dX0_does_300 : decode cX0_does 300 = .ok (.invokevirtual 385, 3) := dk_182 1 129 (dk_at dksX0_does_12 16 rfl rfl)
theorem dX0_does_303 : decode cX0_does 303 = .ok (.iconst 1, 1) := dk_4 (dk_at dksX0_does_12 19 rfl rfl)
theorem dX0_does_304 : decode cX0_does 304 = .ok (.ireturn, 1) := dk_172 (dk_at dksX0_does_12 20 rfl rfl)
theorem dX0_does_305 : decode cX0_does 305 = .ok (.iconst 1, 1) := dk_4 (dk_at dksX0_does_12 21 rfl rfl)
theorem dX0_does_306 : decode cX0_does 306 = .ok (.ireturn, 1) := dk_172 (dk_at dksX0_does_12 22 rfl rfl)
abbrev cX0_ships : ByteArray := prog_1_method_75_code
def yX0_ships : MethodName := ⟨RX0, "ships", "(LSwapBook$Step;)Z"⟩
def dkwX0_ships_7 : List UInt8 := [43, 180, 1, 102, 96, 4, 96, 182, 1, 109, 4, 172]
abbrev dktX0_ships_7 : List UInt8 := dkwX0_ships_7 ++ []
def dkwX0_ships_6 : List UInt8 := [180, 1, 102, 96, 182, 1, 109, 43, 180, 1, 105, 153, 0, 23, 42, 29, 43, 180, 1, 99, 42, 180, 1, 85]
abbrev dktX0_ships_6 : List UInt8 := dkwX0_ships_6 ++ dktX0_ships_7
def dkwX0_ships_5 : List UInt8 := [180, 1, 88, 4, 96, 181, 1, 88, 167, 0, 21, 42, 29, 43, 180, 1, 99, 42, 180, 1, 85, 43]
abbrev dktX0_ships_5 : List UInt8 := dkwX0_ships_5 ++ dktX0_ships_6
def dkwX0_ships_4 : List UInt8 := [62, 43, 180, 1, 102, 154, 0, 29, 42, 180, 0, 27, 43, 180, 1, 99, 92, 46, 29, 128, 79, 42, 89]
abbrev dktX0_ships_4 : List UInt8 := dkwX0_ships_4 ++ dktX0_ships_5
def dkwX0_ships_3 : List UInt8 := [164, 0, 5, 3, 172, 42, 89, 180, 1, 82, 4, 96, 181, 1, 82, 42, 180, 0, 27, 43, 180, 1, 94, 46]
abbrev dktX0_ships_3 : List UInt8 := dkwX0_ships_3 ++ dktX0_ships_4
def dkwX0_ships_2 : List UInt8 := [43, 180, 1, 105, 153, 0, 7, 4, 167, 0, 4, 3, 96, 61, 42, 180, 1, 79, 28, 96, 16, 20]
abbrev dktX0_ships_2 : List UInt8 := dkwX0_ships_2 ++ dktX0_ships_3
def dkwX0_ships_1 : List UInt8 := [180, 1, 94, 43, 180, 1, 99, 160, 0, 5, 3, 172, 43, 180, 1, 102, 158, 0, 7, 4, 167, 0, 4, 3]
abbrev dktX0_ships_1 : List UInt8 := dkwX0_ships_1 ++ dktX0_ships_2
def dkwX0_ships_0 : List UInt8 := [42, 43, 180, 1, 94, 182, 1, 76, 153, 0, 25, 42, 43, 180, 1, 99, 182, 1, 76, 153, 0, 14, 43]
abbrev dktX0_ships_0 : List UInt8 := dkwX0_ships_0 ++ dktX0_ships_1
theorem dksX0_ships_0 : cX0_ships.data.toList.drop 0 = dktX0_ships_0 := by decide +kernel
theorem dksX0_ships_1 : cX0_ships.data.toList.drop 23 = dktX0_ships_1 := dk_seg dksX0_ships_0 23 rfl rfl
theorem dksX0_ships_2 : cX0_ships.data.toList.drop 47 = dktX0_ships_2 := dk_seg dksX0_ships_1 24 rfl rfl
theorem dksX0_ships_3 : cX0_ships.data.toList.drop 69 = dktX0_ships_3 := dk_seg dksX0_ships_2 22 rfl rfl
theorem dksX0_ships_4 : cX0_ships.data.toList.drop 93 = dktX0_ships_4 := dk_seg dksX0_ships_3 24 rfl rfl
theorem dksX0_ships_5 : cX0_ships.data.toList.drop 116 = dktX0_ships_5 := dk_seg dksX0_ships_4 23 rfl rfl
theorem dksX0_ships_6 : cX0_ships.data.toList.drop 138 = dktX0_ships_6 := dk_seg dksX0_ships_5 22 rfl rfl
theorem dksX0_ships_7 : cX0_ships.data.toList.drop 162 = dktX0_ships_7 := dk_seg dksX0_ships_6 24 rfl rfl
theorem dX0_ships_0 : decode cX0_ships 0 = .ok (.aload_n 0, 1) := dk_42 (dk_at dksX0_ships_0 0 rfl rfl)
theorem dX0_ships_1 : decode cX0_ships 1 = .ok (.aload_n 1, 1) := dk_43 (dk_at dksX0_ships_0 1 rfl rfl)
theorem dX0_ships_2 : decode cX0_ships 2 = .ok (.getfield 350, 3) := dk_180 1 94 (dk_at dksX0_ships_0 2 rfl rfl)
theorem dX0_ships_5 : decode cX0_ships 5 = .ok (.invokevirtual 332, 3) := dk_182 1 76 (dk_at dksX0_ships_0 5 rfl rfl)
theorem dX0_ships_8 : decode cX0_ships 8 = .ok (.ifCond .eq 25, 3) := dk_153 0 25 (dk_at dksX0_ships_0 8 rfl rfl)
theorem dX0_ships_11 : decode cX0_ships 11 = .ok (.aload_n 0, 1) := dk_42 (dk_at dksX0_ships_0 11 rfl rfl)
theorem dX0_ships_12 : decode cX0_ships 12 = .ok (.aload_n 1, 1) := dk_43 (dk_at dksX0_ships_0 12 rfl rfl)
theorem dX0_ships_13 : decode cX0_ships 13 = .ok (.getfield 355, 3) := dk_180 1 99 (dk_at dksX0_ships_0 13 rfl rfl)
theorem dX0_ships_16 : decode cX0_ships 16 = .ok (.invokevirtual 332, 3) := dk_182 1 76 (dk_at dksX0_ships_0 16 rfl rfl)
theorem dX0_ships_19 : decode cX0_ships 19 = .ok (.ifCond .eq 14, 3) := dk_153 0 14 (dk_at dksX0_ships_0 19 rfl rfl)
theorem dX0_ships_22 : decode cX0_ships 22 = .ok (.aload_n 1, 1) := dk_43 (dk_at dksX0_ships_0 22 rfl rfl)
theorem dX0_ships_23 : decode cX0_ships 23 = .ok (.getfield 350, 3) := dk_180 1 94 (dk_at dksX0_ships_1 0 rfl rfl)
theorem dX0_ships_26 : decode cX0_ships 26 = .ok (.aload_n 1, 1) := dk_43 (dk_at dksX0_ships_1 3 rfl rfl)
theorem dX0_ships_27 : decode cX0_ships 27 = .ok (.getfield 355, 3) := dk_180 1 99 (dk_at dksX0_ships_1 4 rfl rfl)
theorem dX0_ships_30 : decode cX0_ships 30 = .ok (.if_icmp .ne 5, 3) := dk_160 0 5 (dk_at dksX0_ships_1 7 rfl rfl)
theorem dX0_ships_33 : decode cX0_ships 33 = .ok (.iconst 0, 1) := dk_3 (dk_at dksX0_ships_1 10 rfl rfl)
theorem dX0_ships_34 : decode cX0_ships 34 = .ok (.ireturn, 1) := dk_172 (dk_at dksX0_ships_1 11 rfl rfl)
theorem dX0_ships_35 : decode cX0_ships 35 = .ok (.aload_n 1, 1) := dk_43 (dk_at dksX0_ships_1 12 rfl rfl)
theorem dX0_ships_36 : decode cX0_ships 36 = .ok (.getfield 358, 3) := dk_180 1 102 (dk_at dksX0_ships_1 13 rfl rfl)
theorem dX0_ships_39 : decode cX0_ships 39 = .ok (.ifCond .le 7, 3) := dk_158 0 7 (dk_at dksX0_ships_1 16 rfl rfl)
theorem dX0_ships_42 : decode cX0_ships 42 = .ok (.iconst 1, 1) := dk_4 (dk_at dksX0_ships_1 19 rfl rfl)
theorem dX0_ships_43 : decode cX0_ships 43 = .ok (.goto 4, 3) := dk_167 0 4 (dk_at dksX0_ships_1 20 rfl rfl)
theorem dX0_ships_46 : decode cX0_ships 46 = .ok (.iconst 0, 1) := dk_3 (dk_at dksX0_ships_1 23 rfl rfl)
theorem dX0_ships_47 : decode cX0_ships 47 = .ok (.aload_n 1, 1) := dk_43 (dk_at dksX0_ships_2 0 rfl rfl)
theorem dX0_ships_48 : decode cX0_ships 48 = .ok (.getfield 361, 3) := dk_180 1 105 (dk_at dksX0_ships_2 1 rfl rfl)
theorem dX0_ships_51 : decode cX0_ships 51 = .ok (.ifCond .eq 7, 3) := dk_153 0 7 (dk_at dksX0_ships_2 4 rfl rfl)
theorem dX0_ships_54 : decode cX0_ships 54 = .ok (.iconst 1, 1) := dk_4 (dk_at dksX0_ships_2 7 rfl rfl)
theorem dX0_ships_55 : decode cX0_ships 55 = .ok (.goto 4, 3) := dk_167 0 4 (dk_at dksX0_ships_2 8 rfl rfl)
theorem dX0_ships_58 : decode cX0_ships 58 = .ok (.iconst 0, 1) := dk_3 (dk_at dksX0_ships_2 11 rfl rfl)
theorem dX0_ships_59 : decode cX0_ships 59 = .ok (.iadd, 1) := dk_96 (dk_at dksX0_ships_2 12 rfl rfl)
theorem dX0_ships_60 : decode cX0_ships 60 = .ok (.istore_n 2, 1) := dk_61 (dk_at dksX0_ships_2 13 rfl rfl)
theorem dX0_ships_61 : decode cX0_ships 61 = .ok (.aload_n 0, 1) := dk_42 (dk_at dksX0_ships_2 14 rfl rfl)
theorem dX0_ships_62 : decode cX0_ships 62 = .ok (.getfield 335, 3) := dk_180 1 79 (dk_at dksX0_ships_2 15 rfl rfl)
theorem dX0_ships_65 : decode cX0_ships 65 = .ok (.iload_n 2, 1) := dk_28 (dk_at dksX0_ships_2 18 rfl rfl)
theorem dX0_ships_66 : decode cX0_ships 66 = .ok (.iadd, 1) := dk_96 (dk_at dksX0_ships_2 19 rfl rfl)
theorem dX0_ships_67 : decode cX0_ships 67 = .ok (.bipush 20, 2) := dk_16 20 (dk_at dksX0_ships_2 20 rfl rfl)
theorem dX0_ships_69 : decode cX0_ships 69 = .ok (.if_icmp .le 5, 3) := dk_164 0 5 (dk_at dksX0_ships_3 0 rfl rfl)
theorem dX0_ships_72 : decode cX0_ships 72 = .ok (.iconst 0, 1) := dk_3 (dk_at dksX0_ships_3 3 rfl rfl)
theorem dX0_ships_73 : decode cX0_ships 73 = .ok (.ireturn, 1) := dk_172 (dk_at dksX0_ships_3 4 rfl rfl)
theorem dX0_ships_74 : decode cX0_ships 74 = .ok (.aload_n 0, 1) := dk_42 (dk_at dksX0_ships_3 5 rfl rfl)
theorem dX0_ships_75 : decode cX0_ships 75 = .ok (.dup, 1) := dk_89 (dk_at dksX0_ships_3 6 rfl rfl)
theorem dX0_ships_76 : decode cX0_ships 76 = .ok (.getfield 338, 3) := dk_180 1 82 (dk_at dksX0_ships_3 7 rfl rfl)
theorem dX0_ships_79 : decode cX0_ships 79 = .ok (.iconst 1, 1) := dk_4 (dk_at dksX0_ships_3 10 rfl rfl)
theorem dX0_ships_80 : decode cX0_ships 80 = .ok (.iadd, 1) := dk_96 (dk_at dksX0_ships_3 11 rfl rfl)
theorem dX0_ships_81 : decode cX0_ships 81 = .ok (.putfield 338, 3) := dk_181 1 82 (dk_at dksX0_ships_3 12 rfl rfl)
theorem dX0_ships_84 : decode cX0_ships 84 = .ok (.aload_n 0, 1) := dk_42 (dk_at dksX0_ships_3 15 rfl rfl)
theorem dX0_ships_85 : decode cX0_ships 85 = .ok (.getfield 27, 3) := dk_180 0 27 (dk_at dksX0_ships_3 16 rfl rfl)
theorem dX0_ships_88 : decode cX0_ships 88 = .ok (.aload_n 1, 1) := dk_43 (dk_at dksX0_ships_3 19 rfl rfl)
theorem dX0_ships_89 : decode cX0_ships 89 = .ok (.getfield 350, 3) := dk_180 1 94 (dk_at dksX0_ships_3 20 rfl rfl)
theorem dX0_ships_92 : decode cX0_ships 92 = .ok (.iaload, 1) := dk_46 (dk_at dksX0_ships_3 23 rfl rfl)
theorem dX0_ships_93 : decode cX0_ships 93 = .ok (.istore_n 3, 1) := dk_62 (dk_at dksX0_ships_4 0 rfl rfl)
theorem dX0_ships_94 : decode cX0_ships 94 = .ok (.aload_n 1, 1) := dk_43 (dk_at dksX0_ships_4 1 rfl rfl)
theorem dX0_ships_95 : decode cX0_ships 95 = .ok (.getfield 358, 3) := dk_180 1 102 (dk_at dksX0_ships_4 2 rfl rfl)
theorem dX0_ships_98 : decode cX0_ships 98 = .ok (.ifCond .ne 29, 3) := dk_154 0 29 (dk_at dksX0_ships_4 5 rfl rfl)
theorem dX0_ships_101 : decode cX0_ships 101 = .ok (.aload_n 0, 1) := dk_42 (dk_at dksX0_ships_4 8 rfl rfl)
theorem dX0_ships_102 : decode cX0_ships 102 = .ok (.getfield 27, 3) := dk_180 0 27 (dk_at dksX0_ships_4 9 rfl rfl)
theorem dX0_ships_105 : decode cX0_ships 105 = .ok (.aload_n 1, 1) := dk_43 (dk_at dksX0_ships_4 12 rfl rfl)
theorem dX0_ships_106 : decode cX0_ships 106 = .ok (.getfield 355, 3) := dk_180 1 99 (dk_at dksX0_ships_4 13 rfl rfl)
theorem dX0_ships_109 : decode cX0_ships 109 = .ok (.dup2, 1) := dk_92 (dk_at dksX0_ships_4 16 rfl rfl)
theorem dX0_ships_110 : decode cX0_ships 110 = .ok (.iaload, 1) := dk_46 (dk_at dksX0_ships_4 17 rfl rfl)
theorem dX0_ships_111 : decode cX0_ships 111 = .ok (.iload_n 3, 1) := dk_29 (dk_at dksX0_ships_4 18 rfl rfl)
theorem dX0_ships_112 : decode cX0_ships 112 = .ok (.ior, 1) := dk_128 (dk_at dksX0_ships_4 19 rfl rfl)
theorem dX0_ships_113 : decode cX0_ships 113 = .ok (.iastore, 1) := dk_79 (dk_at dksX0_ships_4 20 rfl rfl)
theorem dX0_ships_114 : decode cX0_ships 114 = .ok (.aload_n 0, 1) := dk_42 (dk_at dksX0_ships_4 21 rfl rfl)
theorem dX0_ships_115 : decode cX0_ships 115 = .ok (.dup, 1) := dk_89 (dk_at dksX0_ships_4 22 rfl rfl)
theorem dX0_ships_116 : decode cX0_ships 116 = .ok (.getfield 344, 3) := dk_180 1 88 (dk_at dksX0_ships_5 0 rfl rfl)
theorem dX0_ships_119 : decode cX0_ships 119 = .ok (.iconst 1, 1) := dk_4 (dk_at dksX0_ships_5 3 rfl rfl)
theorem dX0_ships_120 : decode cX0_ships 120 = .ok (.iadd, 1) := dk_96 (dk_at dksX0_ships_5 4 rfl rfl)
theorem dX0_ships_121 : decode cX0_ships 121 = .ok (.putfield 344, 3) := dk_181 1 88 (dk_at dksX0_ships_5 5 rfl rfl)
theorem dX0_ships_124 : decode cX0_ships 124 = .ok (.goto 21, 3) := dk_167 0 21 (dk_at dksX0_ships_5 8 rfl rfl)
theorem dX0_ships_127 : decode cX0_ships 127 = .ok (.aload_n 0, 1) := dk_42 (dk_at dksX0_ships_5 11 rfl rfl)
theorem dX0_ships_128 : decode cX0_ships 128 = .ok (.iload_n 3, 1) := dk_29 (dk_at dksX0_ships_5 12 rfl rfl)
theorem dX0_ships_129 : decode cX0_ships 129 = .ok (.aload_n 1, 1) := dk_43 (dk_at dksX0_ships_5 13 rfl rfl)
theorem dX0_ships_130 : decode cX0_ships 130 = .ok (.getfield 355, 3) := dk_180 1 99 (dk_at dksX0_ships_5 14 rfl rfl)
theorem dX0_ships_133 : decode cX0_ships 133 = .ok (.aload_n 0, 1) := dk_42 (dk_at dksX0_ships_5 17 rfl rfl)
theorem dX0_ships_134 : decode cX0_ships 134 = .ok (.getfield 341, 3) := dk_180 1 85 (dk_at dksX0_ships_5 18 rfl rfl)
theorem dX0_ships_137 : decode cX0_ships 137 = .ok (.aload_n 1, 1) := dk_43 (dk_at dksX0_ships_5 21 rfl rfl)
theorem dX0_ships_138 : decode cX0_ships 138 = .ok (.getfield 358, 3) := dk_180 1 102 (dk_at dksX0_ships_6 0 rfl rfl)
theorem dX0_ships_141 : decode cX0_ships 141 = .ok (.iadd, 1) := dk_96 (dk_at dksX0_ships_6 3 rfl rfl)
theorem dX0_ships_142 : decode cX0_ships 142 = .ok (.invokevirtual 365, 3) := dk_182 1 109 (dk_at dksX0_ships_6 4 rfl rfl)
theorem dX0_ships_145 : decode cX0_ships 145 = .ok (.aload_n 1, 1) := dk_43 (dk_at dksX0_ships_6 7 rfl rfl)
theorem dX0_ships_146 : decode cX0_ships 146 = .ok (.getfield 361, 3) := dk_180 1 105 (dk_at dksX0_ships_6 8 rfl rfl)
theorem dX0_ships_149 : decode cX0_ships 149 = .ok (.ifCond .eq 23, 3) := dk_153 0 23 (dk_at dksX0_ships_6 11 rfl rfl)
theorem dX0_ships_152 : decode cX0_ships 152 = .ok (.aload_n 0, 1) := dk_42 (dk_at dksX0_ships_6 14 rfl rfl)
theorem dX0_ships_153 : decode cX0_ships 153 = .ok (.iload_n 3, 1) := dk_29 (dk_at dksX0_ships_6 15 rfl rfl)
theorem dX0_ships_154 : decode cX0_ships 154 = .ok (.aload_n 1, 1) := dk_43 (dk_at dksX0_ships_6 16 rfl rfl)
theorem dX0_ships_155 : decode cX0_ships 155 = .ok (.getfield 355, 3) := dk_180 1 99 (dk_at dksX0_ships_6 17 rfl rfl)
theorem dX0_ships_158 : decode cX0_ships 158 = .ok (.aload_n 0, 1) := dk_42 (dk_at dksX0_ships_6 20 rfl rfl)
theorem dX0_ships_159 : decode cX0_ships 159 = .ok (.getfield 341, 3) := dk_180 1 85 (dk_at dksX0_ships_6 21 rfl rfl)
theorem dX0_ships_162 : decode cX0_ships 162 = .ok (.aload_n 1, 1) := dk_43 (dk_at dksX0_ships_7 0 rfl rfl)
theorem dX0_ships_163 : decode cX0_ships 163 = .ok (.getfield 358, 3) := dk_180 1 102 (dk_at dksX0_ships_7 1 rfl rfl)
theorem dX0_ships_166 : decode cX0_ships 166 = .ok (.iadd, 1) := dk_96 (dk_at dksX0_ships_7 4 rfl rfl)
theorem dX0_ships_167 : decode cX0_ships 167 = .ok (.iconst 1, 1) := dk_4 (dk_at dksX0_ships_7 5 rfl rfl)
theorem dX0_ships_168 : decode cX0_ships 168 = .ok (.iadd, 1) := dk_96 (dk_at dksX0_ships_7 6 rfl rfl)
theorem dX0_ships_169 : decode cX0_ships 169 = .ok (.invokevirtual 365, 3) := dk_182 1 109 (dk_at dksX0_ships_7 7 rfl rfl)
theorem dX0_ships_172 : decode cX0_ships 172 = .ok (.iconst 1, 1) := dk_4 (dk_at dksX0_ships_7 10 rfl rfl)
theorem dX0_ships_173 : decode cX0_ships 173 = .ok (.ireturn, 1) := dk_172 (dk_at dksX0_ships_7 11 rfl rfl)
abbrev cX0_sets : ByteArray := prog_1_method_72_code
def yX0_sets : MethodName := ⟨RX0, "sets", "(III)V"⟩
def dkwX0_sets_2 : List UInt8 := [4, 96, 181, 1, 79, 177]
abbrev dktX0_sets_2 : List UInt8 := dkwX0_sets_2 ++ []
def dkwX0_sets_1 : List UInt8 := [42, 180, 1, 79, 29, 79, 42, 180, 0, 81, 42, 180, 1, 79, 42, 180, 1, 82, 79, 42, 89, 180, 1, 79]
abbrev dktX0_sets_1 : List UInt8 := dkwX0_sets_1 ++ dktX0_sets_2
def dkwX0_sets_0 : List UInt8 := [42, 180, 0, 72, 42, 180, 1, 79, 27, 79, 42, 180, 0, 75, 42, 180, 1, 79, 28, 79, 42, 180, 0, 78]
abbrev dktX0_sets_0 : List UInt8 := dkwX0_sets_0 ++ dktX0_sets_1
theorem dksX0_sets_0 : cX0_sets.data.toList.drop 0 = dktX0_sets_0 := by decide +kernel
theorem dksX0_sets_1 : cX0_sets.data.toList.drop 24 = dktX0_sets_1 := dk_seg dksX0_sets_0 24 rfl rfl
theorem dksX0_sets_2 : cX0_sets.data.toList.drop 48 = dktX0_sets_2 := dk_seg dksX0_sets_1 24 rfl rfl
theorem dX0_sets_0 : decode cX0_sets 0 = .ok (.aload_n 0, 1) := dk_42 (dk_at dksX0_sets_0 0 rfl rfl)
theorem dX0_sets_1 : decode cX0_sets 1 = .ok (.getfield 72, 3) := dk_180 0 72 (dk_at dksX0_sets_0 1 rfl rfl)
theorem dX0_sets_4 : decode cX0_sets 4 = .ok (.aload_n 0, 1) := dk_42 (dk_at dksX0_sets_0 4 rfl rfl)
theorem dX0_sets_5 : decode cX0_sets 5 = .ok (.getfield 335, 3) := dk_180 1 79 (dk_at dksX0_sets_0 5 rfl rfl)
theorem dX0_sets_8 : decode cX0_sets 8 = .ok (.iload_n 1, 1) := dk_27 (dk_at dksX0_sets_0 8 rfl rfl)
theorem dX0_sets_9 : decode cX0_sets 9 = .ok (.iastore, 1) := dk_79 (dk_at dksX0_sets_0 9 rfl rfl)
theorem dX0_sets_10 : decode cX0_sets 10 = .ok (.aload_n 0, 1) := dk_42 (dk_at dksX0_sets_0 10 rfl rfl)
theorem dX0_sets_11 : decode cX0_sets 11 = .ok (.getfield 75, 3) := dk_180 0 75 (dk_at dksX0_sets_0 11 rfl rfl)
theorem dX0_sets_14 : decode cX0_sets 14 = .ok (.aload_n 0, 1) := dk_42 (dk_at dksX0_sets_0 14 rfl rfl)
theorem dX0_sets_15 : decode cX0_sets 15 = .ok (.getfield 335, 3) := dk_180 1 79 (dk_at dksX0_sets_0 15 rfl rfl)
theorem dX0_sets_18 : decode cX0_sets 18 = .ok (.iload_n 2, 1) := dk_28 (dk_at dksX0_sets_0 18 rfl rfl)
theorem dX0_sets_19 : decode cX0_sets 19 = .ok (.iastore, 1) := dk_79 (dk_at dksX0_sets_0 19 rfl rfl)
theorem dX0_sets_20 : decode cX0_sets 20 = .ok (.aload_n 0, 1) := dk_42 (dk_at dksX0_sets_0 20 rfl rfl)
theorem dX0_sets_21 : decode cX0_sets 21 = .ok (.getfield 78, 3) := dk_180 0 78 (dk_at dksX0_sets_0 21 rfl rfl)
theorem dX0_sets_24 : decode cX0_sets 24 = .ok (.aload_n 0, 1) := dk_42 (dk_at dksX0_sets_1 0 rfl rfl)
theorem dX0_sets_25 : decode cX0_sets 25 = .ok (.getfield 335, 3) := dk_180 1 79 (dk_at dksX0_sets_1 1 rfl rfl)
theorem dX0_sets_28 : decode cX0_sets 28 = .ok (.iload_n 3, 1) := dk_29 (dk_at dksX0_sets_1 4 rfl rfl)
theorem dX0_sets_29 : decode cX0_sets 29 = .ok (.iastore, 1) := dk_79 (dk_at dksX0_sets_1 5 rfl rfl)
theorem dX0_sets_30 : decode cX0_sets 30 = .ok (.aload_n 0, 1) := dk_42 (dk_at dksX0_sets_1 6 rfl rfl)
theorem dX0_sets_31 : decode cX0_sets 31 = .ok (.getfield 81, 3) := dk_180 0 81 (dk_at dksX0_sets_1 7 rfl rfl)
theorem dX0_sets_34 : decode cX0_sets 34 = .ok (.aload_n 0, 1) := dk_42 (dk_at dksX0_sets_1 10 rfl rfl)
theorem dX0_sets_35 : decode cX0_sets 35 = .ok (.getfield 335, 3) := dk_180 1 79 (dk_at dksX0_sets_1 11 rfl rfl)
theorem dX0_sets_38 : decode cX0_sets 38 = .ok (.aload_n 0, 1) := dk_42 (dk_at dksX0_sets_1 14 rfl rfl)
theorem dX0_sets_39 : decode cX0_sets 39 = .ok (.getfield 338, 3) := dk_180 1 82 (dk_at dksX0_sets_1 15 rfl rfl)
theorem dX0_sets_42 : decode cX0_sets 42 = .ok (.iastore, 1) := dk_79 (dk_at dksX0_sets_1 18 rfl rfl)
theorem dX0_sets_43 : decode cX0_sets 43 = .ok (.aload_n 0, 1) := dk_42 (dk_at dksX0_sets_1 19 rfl rfl)
theorem dX0_sets_44 : decode cX0_sets 44 = .ok (.dup, 1) := dk_89 (dk_at dksX0_sets_1 20 rfl rfl)
theorem dX0_sets_45 : decode cX0_sets 45 = .ok (.getfield 335, 3) := dk_180 1 79 (dk_at dksX0_sets_1 21 rfl rfl)
theorem dX0_sets_48 : decode cX0_sets 48 = .ok (.iconst 1, 1) := dk_4 (dk_at dksX0_sets_2 0 rfl rfl)
theorem dX0_sets_49 : decode cX0_sets 49 = .ok (.iadd, 1) := dk_96 (dk_at dksX0_sets_2 1 rfl rfl)
theorem dX0_sets_50 : decode cX0_sets 50 = .ok (.putfield 335, 3) := dk_181 1 79 (dk_at dksX0_sets_2 2 rfl rfl)
theorem dX0_sets_53 : decode cX0_sets 53 = .ok (.return_, 1) := dk_177 (dk_at dksX0_sets_2 5 rfl rfl)
abbrev cX0_arrives : ByteArray := prog_1_method_74_code
def yX0_arrives : MethodName := ⟨RX0, "arrives", "()V"⟩
def dkwX0_arrives_2 : List UInt8 := [128, 79, 42, 89, 180, 1, 88, 4, 96, 181, 1, 88, 42, 27, 182, 1, 91, 167, 255, 194, 177]
abbrev dktX0_arrives_2 : List UInt8 := dkwX0_arrives_2 ++ []
def dkwX0_arrives_1 : List UInt8 := [132, 1, 1, 167, 255, 232, 42, 180, 0, 27, 42, 180, 0, 75, 27, 46, 92, 46, 42, 180, 0, 72, 27, 46]
abbrev dktX0_arrives_1 : List UInt8 := dkwX0_arrives_1 ++ dktX0_arrives_2
def dkwX0_arrives_0 : List UInt8 := [3, 60, 27, 42, 180, 1, 79, 162, 0, 60, 42, 180, 0, 78, 27, 46, 42, 180, 1, 85, 164, 0, 9]
abbrev dktX0_arrives_0 : List UInt8 := dkwX0_arrives_0 ++ dktX0_arrives_1
theorem dksX0_arrives_0 : cX0_arrives.data.toList.drop 0 = dktX0_arrives_0 := by decide +kernel
theorem dksX0_arrives_1 : cX0_arrives.data.toList.drop 23 = dktX0_arrives_1 := dk_seg dksX0_arrives_0 23 rfl rfl
theorem dksX0_arrives_2 : cX0_arrives.data.toList.drop 47 = dktX0_arrives_2 := dk_seg dksX0_arrives_1 24 rfl rfl
theorem dX0_arrives_0 : decode cX0_arrives 0 = .ok (.iconst 0, 1) := dk_3 (dk_at dksX0_arrives_0 0 rfl rfl)
theorem dX0_arrives_1 : decode cX0_arrives 1 = .ok (.istore_n 1, 1) := dk_60 (dk_at dksX0_arrives_0 1 rfl rfl)
theorem dX0_arrives_2 : decode cX0_arrives 2 = .ok (.iload_n 1, 1) := dk_27 (dk_at dksX0_arrives_0 2 rfl rfl)
theorem dX0_arrives_3 : decode cX0_arrives 3 = .ok (.aload_n 0, 1) := dk_42 (dk_at dksX0_arrives_0 3 rfl rfl)
theorem dX0_arrives_4 : decode cX0_arrives 4 = .ok (.getfield 335, 3) := dk_180 1 79 (dk_at dksX0_arrives_0 4 rfl rfl)
theorem dX0_arrives_7 : decode cX0_arrives 7 = .ok (.if_icmp .ge 60, 3) := dk_162 0 60 (dk_at dksX0_arrives_0 7 rfl rfl)
theorem dX0_arrives_10 : decode cX0_arrives 10 = .ok (.aload_n 0, 1) := dk_42 (dk_at dksX0_arrives_0 10 rfl rfl)
theorem dX0_arrives_11 : decode cX0_arrives 11 = .ok (.getfield 78, 3) := dk_180 0 78 (dk_at dksX0_arrives_0 11 rfl rfl)
theorem dX0_arrives_14 : decode cX0_arrives 14 = .ok (.iload_n 1, 1) := dk_27 (dk_at dksX0_arrives_0 14 rfl rfl)
theorem dX0_arrives_15 : decode cX0_arrives 15 = .ok (.iaload, 1) := dk_46 (dk_at dksX0_arrives_0 15 rfl rfl)
theorem dX0_arrives_16 : decode cX0_arrives 16 = .ok (.aload_n 0, 1) := dk_42 (dk_at dksX0_arrives_0 16 rfl rfl)
theorem dX0_arrives_17 : decode cX0_arrives 17 = .ok (.getfield 341, 3) := dk_180 1 85 (dk_at dksX0_arrives_0 17 rfl rfl)
theorem dX0_arrives_20 : decode cX0_arrives 20 = .ok (.if_icmp .le 9, 3) := dk_164 0 9 (dk_at dksX0_arrives_0 20 rfl rfl)
theorem dX0_arrives_23 : decode cX0_arrives 23 = .ok (.iinc 1 1, 3) := dk_132 1 1 (dk_at dksX0_arrives_1 0 rfl rfl)
theorem dX0_arrives_26 : decode cX0_arrives 26 = .ok (.goto (-24), 3) := dk_167 255 232 (dk_at dksX0_arrives_1 3 rfl rfl)
theorem dX0_arrives_29 : decode cX0_arrives 29 = .ok (.aload_n 0, 1) := dk_42 (dk_at dksX0_arrives_1 6 rfl rfl)
theorem dX0_arrives_30 : decode cX0_arrives 30 = .ok (.getfield 27, 3) := dk_180 0 27 (dk_at dksX0_arrives_1 7 rfl rfl)
theorem dX0_arrives_33 : decode cX0_arrives 33 = .ok (.aload_n 0, 1) := dk_42 (dk_at dksX0_arrives_1 10 rfl rfl)
theorem dX0_arrives_34 : decode cX0_arrives 34 = .ok (.getfield 75, 3) := dk_180 0 75 (dk_at dksX0_arrives_1 11 rfl rfl)
theorem dX0_arrives_37 : decode cX0_arrives 37 = .ok (.iload_n 1, 1) := dk_27 (dk_at dksX0_arrives_1 14 rfl rfl)
theorem dX0_arrives_38 : decode cX0_arrives 38 = .ok (.iaload, 1) := dk_46 (dk_at dksX0_arrives_1 15 rfl rfl)
theorem dX0_arrives_39 : decode cX0_arrives 39 = .ok (.dup2, 1) := dk_92 (dk_at dksX0_arrives_1 16 rfl rfl)
theorem dX0_arrives_40 : decode cX0_arrives 40 = .ok (.iaload, 1) := dk_46 (dk_at dksX0_arrives_1 17 rfl rfl)
theorem dX0_arrives_41 : decode cX0_arrives 41 = .ok (.aload_n 0, 1) := dk_42 (dk_at dksX0_arrives_1 18 rfl rfl)
theorem dX0_arrives_42 : decode cX0_arrives 42 = .ok (.getfield 72, 3) := dk_180 0 72 (dk_at dksX0_arrives_1 19 rfl rfl)
theorem dX0_arrives_45 : decode cX0_arrives 45 = .ok (.iload_n 1, 1) := dk_27 (dk_at dksX0_arrives_1 22 rfl rfl)
theorem dX0_arrives_46 : decode cX0_arrives 46 = .ok (.iaload, 1) := dk_46 (dk_at dksX0_arrives_1 23 rfl rfl)
theorem dX0_arrives_47 : decode cX0_arrives 47 = .ok (.ior, 1) := dk_128 (dk_at dksX0_arrives_2 0 rfl rfl)
theorem dX0_arrives_48 : decode cX0_arrives 48 = .ok (.iastore, 1) := dk_79 (dk_at dksX0_arrives_2 1 rfl rfl)
theorem dX0_arrives_49 : decode cX0_arrives 49 = .ok (.aload_n 0, 1) := dk_42 (dk_at dksX0_arrives_2 2 rfl rfl)
theorem dX0_arrives_50 : decode cX0_arrives 50 = .ok (.dup, 1) := dk_89 (dk_at dksX0_arrives_2 3 rfl rfl)
theorem dX0_arrives_51 : decode cX0_arrives 51 = .ok (.getfield 344, 3) := dk_180 1 88 (dk_at dksX0_arrives_2 4 rfl rfl)
theorem dX0_arrives_54 : decode cX0_arrives 54 = .ok (.iconst 1, 1) := dk_4 (dk_at dksX0_arrives_2 7 rfl rfl)
theorem dX0_arrives_55 : decode cX0_arrives 55 = .ok (.iadd, 1) := dk_96 (dk_at dksX0_arrives_2 8 rfl rfl)
theorem dX0_arrives_56 : decode cX0_arrives 56 = .ok (.putfield 344, 3) := dk_181 1 88 (dk_at dksX0_arrives_2 9 rfl rfl)
theorem dX0_arrives_59 : decode cX0_arrives 59 = .ok (.aload_n 0, 1) := dk_42 (dk_at dksX0_arrives_2 12 rfl rfl)
theorem dX0_arrives_60 : decode cX0_arrives 60 = .ok (.iload_n 1, 1) := dk_27 (dk_at dksX0_arrives_2 13 rfl rfl)
theorem dX0_arrives_61 : decode cX0_arrives 61 = .ok (.invokevirtual 347, 3) := dk_182 1 91 (dk_at dksX0_arrives_2 14 rfl rfl)
theorem dX0_arrives_64 : decode cX0_arrives 64 = .ok (.goto (-62), 3) := dk_167 255 194 (dk_at dksX0_arrives_2 17 rfl rfl)
theorem dX0_arrives_67 : decode cX0_arrives 67 = .ok (.return_, 1) := dk_177 (dk_at dksX0_arrives_2 20 rfl rfl)
abbrev cX0_removes : ByteArray := prog_1_method_73_code
def yX0_removes : MethodName := ⟨RX0, "removes", "(I)V"⟩
def dkwX0_removes_3 : List UInt8 := [4, 96, 46, 79, 132, 2, 1, 167, 255, 189, 177]
abbrev dktX0_removes_3 : List UInt8 := dkwX0_removes_3 ++ []
def dkwX0_removes_2 : List UInt8 := [42, 180, 0, 78, 28, 42, 180, 0, 78, 28, 4, 96, 46, 79, 42, 180, 0, 81, 28, 42, 180, 0, 81, 28]
abbrev dktX0_removes_2 : List UInt8 := dkwX0_removes_2 ++ dktX0_removes_3
def dkwX0_removes_1 : List UInt8 := [28, 42, 180, 0, 72, 28, 4, 96, 46, 79, 42, 180, 0, 75, 28, 42, 180, 0, 75, 28, 4, 96, 46, 79]
abbrev dktX0_removes_1 : List UInt8 := dkwX0_removes_1 ++ dktX0_removes_2
def dkwX0_removes_0 : List UInt8 := [42, 89, 180, 1, 79, 4, 100, 181, 1, 79, 27, 61, 28, 42, 180, 1, 79, 162, 0, 65, 42, 180, 0, 72]
abbrev dktX0_removes_0 : List UInt8 := dkwX0_removes_0 ++ dktX0_removes_1
theorem dksX0_removes_0 : cX0_removes.data.toList.drop 0 = dktX0_removes_0 := by decide +kernel
theorem dksX0_removes_1 : cX0_removes.data.toList.drop 24 = dktX0_removes_1 := dk_seg dksX0_removes_0 24 rfl rfl
theorem dksX0_removes_2 : cX0_removes.data.toList.drop 48 = dktX0_removes_2 := dk_seg dksX0_removes_1 24 rfl rfl
theorem dksX0_removes_3 : cX0_removes.data.toList.drop 72 = dktX0_removes_3 := dk_seg dksX0_removes_2 24 rfl rfl
theorem dX0_removes_0 : decode cX0_removes 0 = .ok (.aload_n 0, 1) := dk_42 (dk_at dksX0_removes_0 0 rfl rfl)
theorem dX0_removes_1 : decode cX0_removes 1 = .ok (.dup, 1) := dk_89 (dk_at dksX0_removes_0 1 rfl rfl)
theorem dX0_removes_2 : decode cX0_removes 2 = .ok (.getfield 335, 3) := dk_180 1 79 (dk_at dksX0_removes_0 2 rfl rfl)
theorem dX0_removes_5 : decode cX0_removes 5 = .ok (.iconst 1, 1) := dk_4 (dk_at dksX0_removes_0 5 rfl rfl)
theorem dX0_removes_6 : decode cX0_removes 6 = .ok (.isub, 1) := dk_100 (dk_at dksX0_removes_0 6 rfl rfl)
theorem dX0_removes_7 : decode cX0_removes 7 = .ok (.putfield 335, 3) := dk_181 1 79 (dk_at dksX0_removes_0 7 rfl rfl)
theorem dX0_removes_10 : decode cX0_removes 10 = .ok (.iload_n 1, 1) := dk_27 (dk_at dksX0_removes_0 10 rfl rfl)
theorem dX0_removes_11 : decode cX0_removes 11 = .ok (.istore_n 2, 1) := dk_61 (dk_at dksX0_removes_0 11 rfl rfl)
theorem dX0_removes_12 : decode cX0_removes 12 = .ok (.iload_n 2, 1) := dk_28 (dk_at dksX0_removes_0 12 rfl rfl)
theorem dX0_removes_13 : decode cX0_removes 13 = .ok (.aload_n 0, 1) := dk_42 (dk_at dksX0_removes_0 13 rfl rfl)
theorem dX0_removes_14 : decode cX0_removes 14 = .ok (.getfield 335, 3) := dk_180 1 79 (dk_at dksX0_removes_0 14 rfl rfl)
theorem dX0_removes_17 : decode cX0_removes 17 = .ok (.if_icmp .ge 65, 3) := dk_162 0 65 (dk_at dksX0_removes_0 17 rfl rfl)
theorem dX0_removes_20 : decode cX0_removes 20 = .ok (.aload_n 0, 1) := dk_42 (dk_at dksX0_removes_0 20 rfl rfl)
theorem dX0_removes_21 : decode cX0_removes 21 = .ok (.getfield 72, 3) := dk_180 0 72 (dk_at dksX0_removes_0 21 rfl rfl)
theorem dX0_removes_24 : decode cX0_removes 24 = .ok (.iload_n 2, 1) := dk_28 (dk_at dksX0_removes_1 0 rfl rfl)
theorem dX0_removes_25 : decode cX0_removes 25 = .ok (.aload_n 0, 1) := dk_42 (dk_at dksX0_removes_1 1 rfl rfl)
theorem dX0_removes_26 : decode cX0_removes 26 = .ok (.getfield 72, 3) := dk_180 0 72 (dk_at dksX0_removes_1 2 rfl rfl)
theorem dX0_removes_29 : decode cX0_removes 29 = .ok (.iload_n 2, 1) := dk_28 (dk_at dksX0_removes_1 5 rfl rfl)
theorem dX0_removes_30 : decode cX0_removes 30 = .ok (.iconst 1, 1) := dk_4 (dk_at dksX0_removes_1 6 rfl rfl)
theorem dX0_removes_31 : decode cX0_removes 31 = .ok (.iadd, 1) := dk_96 (dk_at dksX0_removes_1 7 rfl rfl)
theorem dX0_removes_32 : decode cX0_removes 32 = .ok (.iaload, 1) := dk_46 (dk_at dksX0_removes_1 8 rfl rfl)
theorem dX0_removes_33 : decode cX0_removes 33 = .ok (.iastore, 1) := dk_79 (dk_at dksX0_removes_1 9 rfl rfl)
theorem dX0_removes_34 : decode cX0_removes 34 = .ok (.aload_n 0, 1) := dk_42 (dk_at dksX0_removes_1 10 rfl rfl)
theorem dX0_removes_35 : decode cX0_removes 35 = .ok (.getfield 75, 3) := dk_180 0 75 (dk_at dksX0_removes_1 11 rfl rfl)
theorem dX0_removes_38 : decode cX0_removes 38 = .ok (.iload_n 2, 1) := dk_28 (dk_at dksX0_removes_1 14 rfl rfl)
theorem dX0_removes_39 : decode cX0_removes 39 = .ok (.aload_n 0, 1) := dk_42 (dk_at dksX0_removes_1 15 rfl rfl)
theorem dX0_removes_40 : decode cX0_removes 40 = .ok (.getfield 75, 3) := dk_180 0 75 (dk_at dksX0_removes_1 16 rfl rfl)
theorem dX0_removes_43 : decode cX0_removes 43 = .ok (.iload_n 2, 1) := dk_28 (dk_at dksX0_removes_1 19 rfl rfl)
theorem dX0_removes_44 : decode cX0_removes 44 = .ok (.iconst 1, 1) := dk_4 (dk_at dksX0_removes_1 20 rfl rfl)
theorem dX0_removes_45 : decode cX0_removes 45 = .ok (.iadd, 1) := dk_96 (dk_at dksX0_removes_1 21 rfl rfl)
theorem dX0_removes_46 : decode cX0_removes 46 = .ok (.iaload, 1) := dk_46 (dk_at dksX0_removes_1 22 rfl rfl)
theorem dX0_removes_47 : decode cX0_removes 47 = .ok (.iastore, 1) := dk_79 (dk_at dksX0_removes_1 23 rfl rfl)
theorem dX0_removes_48 : decode cX0_removes 48 = .ok (.aload_n 0, 1) := dk_42 (dk_at dksX0_removes_2 0 rfl rfl)
theorem dX0_removes_49 : decode cX0_removes 49 = .ok (.getfield 78, 3) := dk_180 0 78 (dk_at dksX0_removes_2 1 rfl rfl)
theorem dX0_removes_52 : decode cX0_removes 52 = .ok (.iload_n 2, 1) := dk_28 (dk_at dksX0_removes_2 4 rfl rfl)
theorem dX0_removes_53 : decode cX0_removes 53 = .ok (.aload_n 0, 1) := dk_42 (dk_at dksX0_removes_2 5 rfl rfl)
theorem dX0_removes_54 : decode cX0_removes 54 = .ok (.getfield 78, 3) := dk_180 0 78 (dk_at dksX0_removes_2 6 rfl rfl)
theorem dX0_removes_57 : decode cX0_removes 57 = .ok (.iload_n 2, 1) := dk_28 (dk_at dksX0_removes_2 9 rfl rfl)
theorem dX0_removes_58 : decode cX0_removes 58 = .ok (.iconst 1, 1) := dk_4 (dk_at dksX0_removes_2 10 rfl rfl)
theorem dX0_removes_59 : decode cX0_removes 59 = .ok (.iadd, 1) := dk_96 (dk_at dksX0_removes_2 11 rfl rfl)
theorem dX0_removes_60 : decode cX0_removes 60 = .ok (.iaload, 1) := dk_46 (dk_at dksX0_removes_2 12 rfl rfl)
theorem dX0_removes_61 : decode cX0_removes 61 = .ok (.iastore, 1) := dk_79 (dk_at dksX0_removes_2 13 rfl rfl)
theorem dX0_removes_62 : decode cX0_removes 62 = .ok (.aload_n 0, 1) := dk_42 (dk_at dksX0_removes_2 14 rfl rfl)
theorem dX0_removes_63 : decode cX0_removes 63 = .ok (.getfield 81, 3) := dk_180 0 81 (dk_at dksX0_removes_2 15 rfl rfl)
theorem dX0_removes_66 : decode cX0_removes 66 = .ok (.iload_n 2, 1) := dk_28 (dk_at dksX0_removes_2 18 rfl rfl)
theorem dX0_removes_67 : decode cX0_removes 67 = .ok (.aload_n 0, 1) := dk_42 (dk_at dksX0_removes_2 19 rfl rfl)
theorem dX0_removes_68 : decode cX0_removes 68 = .ok (.getfield 81, 3) := dk_180 0 81 (dk_at dksX0_removes_2 20 rfl rfl)
theorem dX0_removes_71 : decode cX0_removes 71 = .ok (.iload_n 2, 1) := dk_28 (dk_at dksX0_removes_2 23 rfl rfl)
theorem dX0_removes_72 : decode cX0_removes 72 = .ok (.iconst 1, 1) := dk_4 (dk_at dksX0_removes_3 0 rfl rfl)
theorem dX0_removes_73 : decode cX0_removes 73 = .ok (.iadd, 1) := dk_96 (dk_at dksX0_removes_3 1 rfl rfl)
theorem dX0_removes_74 : decode cX0_removes 74 = .ok (.iaload, 1) := dk_46 (dk_at dksX0_removes_3 2 rfl rfl)
theorem dX0_removes_75 : decode cX0_removes 75 = .ok (.iastore, 1) := dk_79 (dk_at dksX0_removes_3 3 rfl rfl)
theorem dX0_removes_76 : decode cX0_removes 76 = .ok (.iinc 2 1, 3) := dk_132 2 1 (dk_at dksX0_removes_3 4 rfl rfl)
theorem dX0_removes_79 : decode cX0_removes 79 = .ok (.goto (-67), 3) := dk_167 255 189 (dk_at dksX0_removes_3 7 rfl rfl)
theorem dX0_removes_82 : decode cX0_removes 82 = .ok (.return_, 1) := dk_177 (dk_at dksX0_removes_3 10 rfl rfl)
abbrev cX0_draws : ByteArray := prog_1_method_76_code
def yX0_draws : MethodName := ⟨RX0, "draws", "(I)V"⟩
def dkwX0_draws_4 : List UInt8 := [181, 1, 116, 167, 255, 214, 177]
abbrev dktX0_draws_4 : List UInt8 := dkwX0_draws_4 ++ []
def dkwX0_draws_3 : List UInt8 := [46, 28, 160, 0, 26, 42, 89, 180, 1, 79, 4, 100, 181, 1, 79, 42, 89, 180, 1, 116, 4, 96]
abbrev dktX0_draws_3 : List UInt8 := dkwX0_draws_3 ++ dktX0_draws_4
def dkwX0_draws_2 : List UInt8 := [180, 1, 79, 4, 100, 46, 61, 42, 180, 1, 79, 158, 0, 41, 42, 180, 0, 81, 42, 180, 1, 79, 4, 100]
abbrev dktX0_draws_2 : List UInt8 := dkwX0_draws_2 ++ dktX0_draws_3
def dkwX0_draws_1 : List UInt8 := [16, 8, 108, 16, 16, 112, 27, 162, 0, 10, 42, 180, 1, 79, 154, 0, 4, 177, 42, 180, 0, 81, 42]
abbrev dktX0_draws_1 : List UInt8 := dkwX0_draws_1 ++ dktX0_draws_2
def dkwX0_draws_0 : List UInt8 := [42, 42, 180, 1, 113, 17, 10, 189, 104, 17, 38, 5, 96, 18, 61, 112, 181, 1, 113, 42, 180, 1, 113]
abbrev dktX0_draws_0 : List UInt8 := dkwX0_draws_0 ++ dktX0_draws_1
theorem dksX0_draws_0 : cX0_draws.data.toList.drop 0 = dktX0_draws_0 := by decide +kernel
theorem dksX0_draws_1 : cX0_draws.data.toList.drop 23 = dktX0_draws_1 := dk_seg dksX0_draws_0 23 rfl rfl
theorem dksX0_draws_2 : cX0_draws.data.toList.drop 46 = dktX0_draws_2 := dk_seg dksX0_draws_1 23 rfl rfl
theorem dksX0_draws_3 : cX0_draws.data.toList.drop 70 = dktX0_draws_3 := dk_seg dksX0_draws_2 24 rfl rfl
theorem dksX0_draws_4 : cX0_draws.data.toList.drop 92 = dktX0_draws_4 := dk_seg dksX0_draws_3 22 rfl rfl
theorem dX0_draws_0 : decode cX0_draws 0 = .ok (.aload_n 0, 1) := dk_42 (dk_at dksX0_draws_0 0 rfl rfl)
theorem dX0_draws_1 : decode cX0_draws 1 = .ok (.aload_n 0, 1) := dk_42 (dk_at dksX0_draws_0 1 rfl rfl)
theorem dX0_draws_2 : decode cX0_draws 2 = .ok (.getfield 369, 3) := dk_180 1 113 (dk_at dksX0_draws_0 2 rfl rfl)
theorem dX0_draws_5 : decode cX0_draws 5 = .ok (.sipush 2749, 3) := dk_17 10 189 (dk_at dksX0_draws_0 5 rfl rfl)
theorem dX0_draws_8 : decode cX0_draws 8 = .ok (.imul, 1) := dk_104 (dk_at dksX0_draws_0 8 rfl rfl)
theorem dX0_draws_9 : decode cX0_draws 9 = .ok (.sipush 9733, 3) := dk_17 38 5 (dk_at dksX0_draws_0 9 rfl rfl)
theorem dX0_draws_12 : decode cX0_draws 12 = .ok (.iadd, 1) := dk_96 (dk_at dksX0_draws_0 12 rfl rfl)
theorem dX0_draws_13 : decode cX0_draws 13 = .ok (.ldc 61, 2) := dk_18 61 (dk_at dksX0_draws_0 13 rfl rfl)
theorem dX0_draws_15 : decode cX0_draws 15 = .ok (.irem, 1) := dk_112 (dk_at dksX0_draws_0 15 rfl rfl)
theorem dX0_draws_16 : decode cX0_draws 16 = .ok (.putfield 369, 3) := dk_181 1 113 (dk_at dksX0_draws_0 16 rfl rfl)
theorem dX0_draws_19 : decode cX0_draws 19 = .ok (.aload_n 0, 1) := dk_42 (dk_at dksX0_draws_0 19 rfl rfl)
theorem dX0_draws_20 : decode cX0_draws 20 = .ok (.getfield 369, 3) := dk_180 1 113 (dk_at dksX0_draws_0 20 rfl rfl)
theorem dX0_draws_23 : decode cX0_draws 23 = .ok (.bipush 8, 2) := dk_16 8 (dk_at dksX0_draws_1 0 rfl rfl)
theorem dX0_draws_25 : decode cX0_draws 25 = .ok (.idiv, 1) := dk_108 (dk_at dksX0_draws_1 2 rfl rfl)
theorem dX0_draws_26 : decode cX0_draws 26 = .ok (.bipush 16, 2) := dk_16 16 (dk_at dksX0_draws_1 3 rfl rfl)
theorem dX0_draws_28 : decode cX0_draws 28 = .ok (.irem, 1) := dk_112 (dk_at dksX0_draws_1 5 rfl rfl)
theorem dX0_draws_29 : decode cX0_draws 29 = .ok (.iload_n 1, 1) := dk_27 (dk_at dksX0_draws_1 6 rfl rfl)
theorem dX0_draws_30 : decode cX0_draws 30 = .ok (.if_icmp .ge 10, 3) := dk_162 0 10 (dk_at dksX0_draws_1 7 rfl rfl)
theorem dX0_draws_33 : decode cX0_draws 33 = .ok (.aload_n 0, 1) := dk_42 (dk_at dksX0_draws_1 10 rfl rfl)
theorem dX0_draws_34 : decode cX0_draws 34 = .ok (.getfield 335, 3) := dk_180 1 79 (dk_at dksX0_draws_1 11 rfl rfl)
theorem dX0_draws_37 : decode cX0_draws 37 = .ok (.ifCond .ne 4, 3) := dk_154 0 4 (dk_at dksX0_draws_1 14 rfl rfl)
theorem dX0_draws_40 : decode cX0_draws 40 = .ok (.return_, 1) := dk_177 (dk_at dksX0_draws_1 17 rfl rfl)
theorem dX0_draws_41 : decode cX0_draws 41 = .ok (.aload_n 0, 1) := dk_42 (dk_at dksX0_draws_1 18 rfl rfl)
theorem dX0_draws_42 : decode cX0_draws 42 = .ok (.getfield 81, 3) := dk_180 0 81 (dk_at dksX0_draws_1 19 rfl rfl)
theorem dX0_draws_45 : decode cX0_draws 45 = .ok (.aload_n 0, 1) := dk_42 (dk_at dksX0_draws_1 22 rfl rfl)
theorem dX0_draws_46 : decode cX0_draws 46 = .ok (.getfield 335, 3) := dk_180 1 79 (dk_at dksX0_draws_2 0 rfl rfl)
theorem dX0_draws_49 : decode cX0_draws 49 = .ok (.iconst 1, 1) := dk_4 (dk_at dksX0_draws_2 3 rfl rfl)
theorem dX0_draws_50 : decode cX0_draws 50 = .ok (.isub, 1) := dk_100 (dk_at dksX0_draws_2 4 rfl rfl)
theorem dX0_draws_51 : decode cX0_draws 51 = .ok (.iaload, 1) := dk_46 (dk_at dksX0_draws_2 5 rfl rfl)
theorem dX0_draws_52 : decode cX0_draws 52 = .ok (.istore_n 2, 1) := dk_61 (dk_at dksX0_draws_2 6 rfl rfl)
theorem dX0_draws_53 : decode cX0_draws 53 = .ok (.aload_n 0, 1) := dk_42 (dk_at dksX0_draws_2 7 rfl rfl)
theorem dX0_draws_54 : decode cX0_draws 54 = .ok (.getfield 335, 3) := dk_180 1 79 (dk_at dksX0_draws_2 8 rfl rfl)
theorem dX0_draws_57 : decode cX0_draws 57 = .ok (.ifCond .le 41, 3) := dk_158 0 41 (dk_at dksX0_draws_2 11 rfl rfl)
theorem dX0_draws_60 : decode cX0_draws 60 = .ok (.aload_n 0, 1) := dk_42 (dk_at dksX0_draws_2 14 rfl rfl)
theorem dX0_draws_61 : decode cX0_draws 61 = .ok (.getfield 81, 3) := dk_180 0 81 (dk_at dksX0_draws_2 15 rfl rfl)
theorem dX0_draws_64 : decode cX0_draws 64 = .ok (.aload_n 0, 1) := dk_42 (dk_at dksX0_draws_2 18 rfl rfl)
theorem dX0_draws_65 : decode cX0_draws 65 = .ok (.getfield 335, 3) := dk_180 1 79 (dk_at dksX0_draws_2 19 rfl rfl)
theorem dX0_draws_68 : decode cX0_draws 68 = .ok (.iconst 1, 1) := dk_4 (dk_at dksX0_draws_2 22 rfl rfl)
theorem dX0_draws_69 : decode cX0_draws 69 = .ok (.isub, 1) := dk_100 (dk_at dksX0_draws_2 23 rfl rfl)
theorem dX0_draws_70 : decode cX0_draws 70 = .ok (.iaload, 1) := dk_46 (dk_at dksX0_draws_3 0 rfl rfl)
theorem dX0_draws_71 : decode cX0_draws 71 = .ok (.iload_n 2, 1) := dk_28 (dk_at dksX0_draws_3 1 rfl rfl)
theorem dX0_draws_72 : decode cX0_draws 72 = .ok (.if_icmp .ne 26, 3) := dk_160 0 26 (dk_at dksX0_draws_3 2 rfl rfl)
theorem dX0_draws_75 : decode cX0_draws 75 = .ok (.aload_n 0, 1) := dk_42 (dk_at dksX0_draws_3 5 rfl rfl)
theorem dX0_draws_76 : decode cX0_draws 76 = .ok (.dup, 1) := dk_89 (dk_at dksX0_draws_3 6 rfl rfl)
theorem dX0_draws_77 : decode cX0_draws 77 = .ok (.getfield 335, 3) := dk_180 1 79 (dk_at dksX0_draws_3 7 rfl rfl)
theorem dX0_draws_80 : decode cX0_draws 80 = .ok (.iconst 1, 1) := dk_4 (dk_at dksX0_draws_3 10 rfl rfl)
theorem dX0_draws_81 : decode cX0_draws 81 = .ok (.isub, 1) := dk_100 (dk_at dksX0_draws_3 11 rfl rfl)
theorem dX0_draws_82 : decode cX0_draws 82 = .ok (.putfield 335, 3) := dk_181 1 79 (dk_at dksX0_draws_3 12 rfl rfl)
theorem dX0_draws_85 : decode cX0_draws 85 = .ok (.aload_n 0, 1) := dk_42 (dk_at dksX0_draws_3 15 rfl rfl)
theorem dX0_draws_86 : decode cX0_draws 86 = .ok (.dup, 1) := dk_89 (dk_at dksX0_draws_3 16 rfl rfl)
theorem dX0_draws_87 : decode cX0_draws 87 = .ok (.getfield 372, 3) := dk_180 1 116 (dk_at dksX0_draws_3 17 rfl rfl)
theorem dX0_draws_90 : decode cX0_draws 90 = .ok (.iconst 1, 1) := dk_4 (dk_at dksX0_draws_3 20 rfl rfl)
theorem dX0_draws_91 : decode cX0_draws 91 = .ok (.iadd, 1) := dk_96 (dk_at dksX0_draws_3 21 rfl rfl)
theorem dX0_draws_92 : decode cX0_draws 92 = .ok (.putfield 372, 3) := dk_181 1 116 (dk_at dksX0_draws_4 0 rfl rfl)
theorem dX0_draws_95 : decode cX0_draws 95 = .ok (.goto (-42), 3) := dk_167 255 214 (dk_at dksX0_draws_4 3 rfl rfl)
theorem dX0_draws_98 : decode cX0_draws 98 = .ok (.return_, 1) := dk_177 (dk_at dksX0_draws_4 6 rfl rfl)
abbrev cX0_holds_2 : ByteArray := prog_1_method_78_code
def yX0_holds_2 : MethodName := ⟨RX0, "holds", "(LSwapBook$Step;)Z"⟩
def dkwX0_holds_2_4 : List UInt8 := [160, 0, 7, 4, 167, 0, 4, 3, 172]
abbrev dktX0_holds_2_4 : List UInt8 := dkwX0_holds_2_4 ++ []
def dkwX0_holds_2_3 : List UInt8 := [133, 182, 0, 224, 153, 0, 27, 42, 180, 0, 27, 43, 180, 1, 99, 46, 43, 180, 1, 94, 122, 4, 126, 4]
abbrev dktX0_holds_2_3 : List UInt8 := dkwX0_holds_2_3 ++ dktX0_holds_2_4
def dkwX0_holds_2_2 : List UInt8 := [42, 180, 0, 37, 42, 180, 0, 27, 43, 180, 1, 99, 46, 182, 1, 43, 167, 0, 40, 42, 43, 180, 1, 94]
abbrev dktX0_holds_2_2 : List UInt8 := dkwX0_holds_2_2 ++ dktX0_holds_2_3
def dkwX0_holds_2_1 : List UInt8 := [3, 172, 42, 43, 180, 1, 99, 182, 1, 76, 154, 0, 5, 3, 172, 43, 180, 1, 132, 16, 26, 160, 0, 22]
abbrev dktX0_holds_2_1 : List UInt8 := dkwX0_holds_2_1 ++ dktX0_holds_2_2
def dkwX0_holds_2_0 : List UInt8 := [43, 180, 1, 132, 16, 27, 160, 0, 20, 42, 180, 1, 85, 43, 180, 1, 123, 161, 0, 7, 4, 167, 0, 4]
abbrev dktX0_holds_2_0 : List UInt8 := dkwX0_holds_2_0 ++ dktX0_holds_2_1
theorem dksX0_holds_2_0 : cX0_holds_2.data.toList.drop 0 = dktX0_holds_2_0 := by decide +kernel
theorem dksX0_holds_2_1 : cX0_holds_2.data.toList.drop 24 = dktX0_holds_2_1 := dk_seg dksX0_holds_2_0 24 rfl rfl
theorem dksX0_holds_2_2 : cX0_holds_2.data.toList.drop 48 = dktX0_holds_2_2 := dk_seg dksX0_holds_2_1 24 rfl rfl
theorem dksX0_holds_2_3 : cX0_holds_2.data.toList.drop 72 = dktX0_holds_2_3 := dk_seg dksX0_holds_2_2 24 rfl rfl
theorem dksX0_holds_2_4 : cX0_holds_2.data.toList.drop 96 = dktX0_holds_2_4 := dk_seg dksX0_holds_2_3 24 rfl rfl
theorem dX0_holds_2_0 : decode cX0_holds_2 0 = .ok (.aload_n 1, 1) := dk_43 (dk_at dksX0_holds_2_0 0 rfl rfl)
theorem dX0_holds_2_1 : decode cX0_holds_2 1 = .ok (.getfield 388, 3) := dk_180 1 132 (dk_at dksX0_holds_2_0 1 rfl rfl)
theorem dX0_holds_2_4 : decode cX0_holds_2 4 = .ok (.bipush 27, 2) := dk_16 27 (dk_at dksX0_holds_2_0 4 rfl rfl)
theorem dX0_holds_2_6 : decode cX0_holds_2 6 = .ok (.if_icmp .ne 20, 3) := dk_160 0 20 (dk_at dksX0_holds_2_0 6 rfl rfl)
theorem dX0_holds_2_9 : decode cX0_holds_2 9 = .ok (.aload_n 0, 1) := dk_42 (dk_at dksX0_holds_2_0 9 rfl rfl)
theorem dX0_holds_2_10 : decode cX0_holds_2 10 = .ok (.getfield 341, 3) := dk_180 1 85 (dk_at dksX0_holds_2_0 10 rfl rfl)
theorem dX0_holds_2_13 : decode cX0_holds_2 13 = .ok (.aload_n 1, 1) := dk_43 (dk_at dksX0_holds_2_0 13 rfl rfl)
theorem dX0_holds_2_14 : decode cX0_holds_2 14 = .ok (.getfield 379, 3) := dk_180 1 123 (dk_at dksX0_holds_2_0 14 rfl rfl)
theorem dX0_holds_2_17 : decode cX0_holds_2 17 = .ok (.if_icmp .lt 7, 3) := dk_161 0 7 (dk_at dksX0_holds_2_0 17 rfl rfl)
theorem dX0_holds_2_20 : decode cX0_holds_2 20 = .ok (.iconst 1, 1) := dk_4 (dk_at dksX0_holds_2_0 20 rfl rfl)
theorem dX0_holds_2_21 : decode cX0_holds_2 21 = .ok (.goto 4, 3) := dk_167 0 4 (dk_at dksX0_holds_2_0 21 rfl rfl)
theorem dX0_holds_2_24 : decode cX0_holds_2 24 = .ok (.iconst 0, 1) := dk_3 (dk_at dksX0_holds_2_1 0 rfl rfl)
theorem dX0_holds_2_25 : decode cX0_holds_2 25 = .ok (.ireturn, 1) := dk_172 (dk_at dksX0_holds_2_1 1 rfl rfl)
theorem dX0_holds_2_26 : decode cX0_holds_2 26 = .ok (.aload_n 0, 1) := dk_42 (dk_at dksX0_holds_2_1 2 rfl rfl)
theorem dX0_holds_2_27 : decode cX0_holds_2 27 = .ok (.aload_n 1, 1) := dk_43 (dk_at dksX0_holds_2_1 3 rfl rfl)
theorem dX0_holds_2_28 : decode cX0_holds_2 28 = .ok (.getfield 355, 3) := dk_180 1 99 (dk_at dksX0_holds_2_1 4 rfl rfl)
theorem dX0_holds_2_31 : decode cX0_holds_2 31 = .ok (.invokevirtual 332, 3) := dk_182 1 76 (dk_at dksX0_holds_2_1 7 rfl rfl)
theorem dX0_holds_2_34 : decode cX0_holds_2 34 = .ok (.ifCond .ne 5, 3) := dk_154 0 5 (dk_at dksX0_holds_2_1 10 rfl rfl)
theorem dX0_holds_2_37 : decode cX0_holds_2 37 = .ok (.iconst 0, 1) := dk_3 (dk_at dksX0_holds_2_1 13 rfl rfl)
theorem dX0_holds_2_38 : decode cX0_holds_2 38 = .ok (.ireturn, 1) := dk_172 (dk_at dksX0_holds_2_1 14 rfl rfl)
theorem dX0_holds_2_39 : decode cX0_holds_2 39 = .ok (.aload_n 1, 1) := dk_43 (dk_at dksX0_holds_2_1 15 rfl rfl)
theorem dX0_holds_2_40 : decode cX0_holds_2 40 = .ok (.getfield 388, 3) := dk_180 1 132 (dk_at dksX0_holds_2_1 16 rfl rfl)
theorem dX0_holds_2_43 : decode cX0_holds_2 43 = .ok (.bipush 26, 2) := dk_16 26 (dk_at dksX0_holds_2_1 19 rfl rfl)
theorem dX0_holds_2_45 : decode cX0_holds_2 45 = .ok (.if_icmp .ne 22, 3) := dk_160 0 22 (dk_at dksX0_holds_2_1 21 rfl rfl)
theorem dX0_holds_2_48 : decode cX0_holds_2 48 = .ok (.aload_n 0, 1) := dk_42 (dk_at dksX0_holds_2_2 0 rfl rfl)
theorem dX0_holds_2_49 : decode cX0_holds_2 49 = .ok (.getfield 37, 3) := dk_180 0 37 (dk_at dksX0_holds_2_2 1 rfl rfl)
theorem dX0_holds_2_52 : decode cX0_holds_2 52 = .ok (.aload_n 0, 1) := dk_42 (dk_at dksX0_holds_2_2 4 rfl rfl)
theorem dX0_holds_2_53 : decode cX0_holds_2 53 = .ok (.getfield 27, 3) := dk_180 0 27 (dk_at dksX0_holds_2_2 5 rfl rfl)
theorem dX0_holds_2_56 : decode cX0_holds_2 56 = .ok (.aload_n 1, 1) := dk_43 (dk_at dksX0_holds_2_2 8 rfl rfl)
theorem dX0_holds_2_57 : decode cX0_holds_2 57 = .ok (.getfield 355, 3) := dk_180 1 99 (dk_at dksX0_holds_2_2 9 rfl rfl)
theorem dX0_holds_2_60 : decode cX0_holds_2 60 = .ok (.iaload, 1) := dk_46 (dk_at dksX0_holds_2_2 12 rfl rfl)
theorem dX0_holds_2_61 : decode cX0_holds_2 61 = .ok (.invokevirtual 299, 3) := dk_182 1 43 (dk_at dksX0_holds_2_2 13 rfl rfl)
theorem dX0_holds_2_64 : decode cX0_holds_2 64 = .ok (.goto 40, 3) := dk_167 0 40 (dk_at dksX0_holds_2_2 16 rfl rfl)
theorem dX0_holds_2_67 : decode cX0_holds_2 67 = .ok (.aload_n 0, 1) := dk_42 (dk_at dksX0_holds_2_2 19 rfl rfl)
theorem dX0_holds_2_68 : decode cX0_holds_2 68 = .ok (.aload_n 1, 1) := dk_43 (dk_at dksX0_holds_2_2 20 rfl rfl)
theorem dX0_holds_2_69 : decode cX0_holds_2 69 = .ok (.getfield 350, 3) := dk_180 1 94 (dk_at dksX0_holds_2_2 21 rfl rfl)
theorem dX0_holds_2_72 : decode cX0_holds_2 72 = .ok (.i2l, 1) := dk_133 (dk_at dksX0_holds_2_3 0 rfl rfl)
theorem dX0_holds_2_73 : decode cX0_holds_2 73 = .ok (.invokevirtual 224, 3) := dk_182 0 224 (dk_at dksX0_holds_2_3 1 rfl rfl)
theorem dX0_holds_2_76 : decode cX0_holds_2 76 = .ok (.ifCond .eq 27, 3) := dk_153 0 27 (dk_at dksX0_holds_2_3 4 rfl rfl)
theorem dX0_holds_2_79 : decode cX0_holds_2 79 = .ok (.aload_n 0, 1) := dk_42 (dk_at dksX0_holds_2_3 7 rfl rfl)
theorem dX0_holds_2_80 : decode cX0_holds_2 80 = .ok (.getfield 27, 3) := dk_180 0 27 (dk_at dksX0_holds_2_3 8 rfl rfl)
theorem dX0_holds_2_83 : decode cX0_holds_2 83 = .ok (.aload_n 1, 1) := dk_43 (dk_at dksX0_holds_2_3 11 rfl rfl)
theorem dX0_holds_2_84 : decode cX0_holds_2 84 = .ok (.getfield 355, 3) := dk_180 1 99 (dk_at dksX0_holds_2_3 12 rfl rfl)
theorem dX0_holds_2_87 : decode cX0_holds_2 87 = .ok (.iaload, 1) := dk_46 (dk_at dksX0_holds_2_3 15 rfl rfl)
theorem dX0_holds_2_88 : decode cX0_holds_2 88 = .ok (.aload_n 1, 1) := dk_43 (dk_at dksX0_holds_2_3 16 rfl rfl)
theorem dX0_holds_2_89 : decode cX0_holds_2 89 = .ok (.getfield 350, 3) := dk_180 1 94 (dk_at dksX0_holds_2_3 17 rfl rfl)
theorem dX0_holds_2_92 : decode cX0_holds_2 92 = .ok (.ishr, 1) := dk_122 (dk_at dksX0_holds_2_3 20 rfl rfl)
theorem dX0_holds_2_93 : decode cX0_holds_2 93 = .ok (.iconst 1, 1) := dk_4 (dk_at dksX0_holds_2_3 21 rfl rfl)
theorem dX0_holds_2_94 : decode cX0_holds_2 94 = .ok (.iand, 1) := dk_126 (dk_at dksX0_holds_2_3 22 rfl rfl)
theorem dX0_holds_2_95 : decode cX0_holds_2 95 = .ok (.iconst 1, 1) := dk_4 (dk_at dksX0_holds_2_3 23 rfl rfl)
theorem dX0_holds_2_96 : decode cX0_holds_2 96 = .ok (.if_icmp .ne 7, 3) := dk_160 0 7 (dk_at dksX0_holds_2_4 0 rfl rfl)
theorem dX0_holds_2_99 : decode cX0_holds_2 99 = .ok (.iconst 1, 1) := dk_4 (dk_at dksX0_holds_2_4 3 rfl rfl)
theorem dX0_holds_2_100 : decode cX0_holds_2 100 = .ok (.goto 4, 3) := dk_167 0 4 (dk_at dksX0_holds_2_4 4 rfl rfl)
theorem dX0_holds_2_103 : decode cX0_holds_2 103 = .ok (.iconst 0, 1) := dk_3 (dk_at dksX0_holds_2_4 7 rfl rfl)
theorem dX0_holds_2_104 : decode cX0_holds_2 104 = .ok (.ireturn, 1) := dk_172 (dk_at dksX0_holds_2_4 8 rfl rfl)
abbrev cX0_behindEnds : ByteArray := prog_1_method_79_code
def yX0_behindEnds : MethodName := ⟨RX0, "behindEnds", "(I)I"⟩
def dkwX0_behindEnds_4 : List UInt8 := [96, 61, 167, 255, 160, 28, 172]
abbrev dktX0_behindEnds_4 : List UInt8 := dkwX0_behindEnds_4 ++ []
def dkwX0_behindEnds_3 : List UInt8 := [3, 54, 4, 21, 4, 153, 0, 17, 42, 180, 0, 190, 28, 50, 180, 1, 135, 4, 96, 167, 0, 6, 28, 4]
abbrev dktX0_behindEnds_3 : List UInt8 := dkwX0_behindEnds_3 ++ dktX0_behindEnds_4
def dkwX0_behindEnds_2 : List UInt8 := [160, 0, 27, 45, 89, 180, 1, 138, 4, 100, 181, 1, 138, 45, 180, 1, 138, 158, 0, 7, 4, 167, 0, 4]
abbrev dktX0_behindEnds_2 : List UInt8 := dkwX0_behindEnds_2 ++ dktX0_behindEnds_3
def dkwX0_behindEnds_1 : List UInt8 := [42, 180, 0, 190, 42, 180, 0, 190, 28, 50, 180, 1, 135, 50, 78, 3, 54, 4, 45, 180, 1, 119, 16, 18]
abbrev dktX0_behindEnds_1 : List UInt8 := dkwX0_behindEnds_1 ++ dktX0_behindEnds_2
def dkwX0_behindEnds_0 : List UInt8 := [27, 61, 28, 42, 180, 0, 194, 162, 0, 94, 42, 180, 0, 190, 28, 50, 180, 1, 119, 16, 20, 160, 0, 80]
abbrev dktX0_behindEnds_0 : List UInt8 := dkwX0_behindEnds_0 ++ dktX0_behindEnds_1
theorem dksX0_behindEnds_0 : cX0_behindEnds.data.toList.drop 0 = dktX0_behindEnds_0 := by decide +kernel
theorem dksX0_behindEnds_1 : cX0_behindEnds.data.toList.drop 24 = dktX0_behindEnds_1 := dk_seg dksX0_behindEnds_0 24 rfl rfl
theorem dksX0_behindEnds_2 : cX0_behindEnds.data.toList.drop 48 = dktX0_behindEnds_2 := dk_seg dksX0_behindEnds_1 24 rfl rfl
theorem dksX0_behindEnds_3 : cX0_behindEnds.data.toList.drop 72 = dktX0_behindEnds_3 := dk_seg dksX0_behindEnds_2 24 rfl rfl
theorem dksX0_behindEnds_4 : cX0_behindEnds.data.toList.drop 96 = dktX0_behindEnds_4 := dk_seg dksX0_behindEnds_3 24 rfl rfl
theorem dX0_behindEnds_0 : decode cX0_behindEnds 0 = .ok (.iload_n 1, 1) := dk_27 (dk_at dksX0_behindEnds_0 0 rfl rfl)
theorem dX0_behindEnds_1 : decode cX0_behindEnds 1 = .ok (.istore_n 2, 1) := dk_61 (dk_at dksX0_behindEnds_0 1 rfl rfl)
theorem dX0_behindEnds_2 : decode cX0_behindEnds 2 = .ok (.iload_n 2, 1) := dk_28 (dk_at dksX0_behindEnds_0 2 rfl rfl)
theorem dX0_behindEnds_3 : decode cX0_behindEnds 3 = .ok (.aload_n 0, 1) := dk_42 (dk_at dksX0_behindEnds_0 3 rfl rfl)
theorem dX0_behindEnds_4 : decode cX0_behindEnds 4 = .ok (.getfield 194, 3) := dk_180 0 194 (dk_at dksX0_behindEnds_0 4 rfl rfl)
theorem dX0_behindEnds_7 : decode cX0_behindEnds 7 = .ok (.if_icmp .ge 94, 3) := dk_162 0 94 (dk_at dksX0_behindEnds_0 7 rfl rfl)
theorem dX0_behindEnds_10 : decode cX0_behindEnds 10 = .ok (.aload_n 0, 1) := dk_42 (dk_at dksX0_behindEnds_0 10 rfl rfl)
theorem dX0_behindEnds_11 : decode cX0_behindEnds 11 = .ok (.getfield 190, 3) := dk_180 0 190 (dk_at dksX0_behindEnds_0 11 rfl rfl)
theorem dX0_behindEnds_14 : decode cX0_behindEnds 14 = .ok (.iload_n 2, 1) := dk_28 (dk_at dksX0_behindEnds_0 14 rfl rfl)
theorem dX0_behindEnds_15 : decode cX0_behindEnds 15 = .ok (.aaload, 1) := dk_50 (dk_at dksX0_behindEnds_0 15 rfl rfl)
theorem dX0_behindEnds_16 : decode cX0_behindEnds 16 = .ok (.getfield 375, 3) := dk_180 1 119 (dk_at dksX0_behindEnds_0 16 rfl rfl)
theorem dX0_behindEnds_19 : decode cX0_behindEnds 19 = .ok (.bipush 20, 2) := dk_16 20 (dk_at dksX0_behindEnds_0 19 rfl rfl)
theorem dX0_behindEnds_21 : decode cX0_behindEnds 21 = .ok (.if_icmp .ne 80, 3) := dk_160 0 80 (dk_at dksX0_behindEnds_0 21 rfl rfl)
theorem dX0_behindEnds_24 : decode cX0_behindEnds 24 = .ok (.aload_n 0, 1) := dk_42 (dk_at dksX0_behindEnds_1 0 rfl rfl)
theorem dX0_behindEnds_25 : decode cX0_behindEnds 25 = .ok (.getfield 190, 3) := dk_180 0 190 (dk_at dksX0_behindEnds_1 1 rfl rfl)
theorem dX0_behindEnds_28 : decode cX0_behindEnds 28 = .ok (.aload_n 0, 1) := dk_42 (dk_at dksX0_behindEnds_1 4 rfl rfl)
theorem dX0_behindEnds_29 : decode cX0_behindEnds 29 = .ok (.getfield 190, 3) := dk_180 0 190 (dk_at dksX0_behindEnds_1 5 rfl rfl)
theorem dX0_behindEnds_32 : decode cX0_behindEnds 32 = .ok (.iload_n 2, 1) := dk_28 (dk_at dksX0_behindEnds_1 8 rfl rfl)
theorem dX0_behindEnds_33 : decode cX0_behindEnds 33 = .ok (.aaload, 1) := dk_50 (dk_at dksX0_behindEnds_1 9 rfl rfl)
theorem dX0_behindEnds_34 : decode cX0_behindEnds 34 = .ok (.getfield 391, 3) := dk_180 1 135 (dk_at dksX0_behindEnds_1 10 rfl rfl)
theorem dX0_behindEnds_37 : decode cX0_behindEnds 37 = .ok (.aaload, 1) := dk_50 (dk_at dksX0_behindEnds_1 13 rfl rfl)
theorem dX0_behindEnds_38 : decode cX0_behindEnds 38 = .ok (.astore_n 3, 1) := dk_78 (dk_at dksX0_behindEnds_1 14 rfl rfl)
theorem dX0_behindEnds_39 : decode cX0_behindEnds 39 = .ok (.iconst 0, 1) := dk_3 (dk_at dksX0_behindEnds_1 15 rfl rfl)
theorem dX0_behindEnds_40 : decode cX0_behindEnds 40 = .ok (.istore 4, 2) := dk_54 4 (dk_at dksX0_behindEnds_1 16 rfl rfl)
theorem dX0_behindEnds_42 : decode cX0_behindEnds 42 = .ok (.aload_n 3, 1) := dk_45 (dk_at dksX0_behindEnds_1 18 rfl rfl)
theorem dX0_behindEnds_43 : decode cX0_behindEnds 43 = .ok (.getfield 375, 3) := dk_180 1 119 (dk_at dksX0_behindEnds_1 19 rfl rfl)
theorem dX0_behindEnds_46 : decode cX0_behindEnds 46 = .ok (.bipush 18, 2) := dk_16 18 (dk_at dksX0_behindEnds_1 22 rfl rfl)
theorem dX0_behindEnds_48 : decode cX0_behindEnds 48 = .ok (.if_icmp .ne 27, 3) := dk_160 0 27 (dk_at dksX0_behindEnds_2 0 rfl rfl)
theorem dX0_behindEnds_51 : decode cX0_behindEnds 51 = .ok (.aload_n 3, 1) := dk_45 (dk_at dksX0_behindEnds_2 3 rfl rfl)
theorem dX0_behindEnds_52 : decode cX0_behindEnds 52 = .ok (.dup, 1) := dk_89 (dk_at dksX0_behindEnds_2 4 rfl rfl)
theorem dX0_behindEnds_53 : decode cX0_behindEnds 53 = .ok (.getfield 394, 3) := dk_180 1 138 (dk_at dksX0_behindEnds_2 5 rfl rfl)
theorem dX0_behindEnds_56 : decode cX0_behindEnds 56 = .ok (.iconst 1, 1) := dk_4 (dk_at dksX0_behindEnds_2 8 rfl rfl)
theorem dX0_behindEnds_57 : decode cX0_behindEnds 57 = .ok (.isub, 1) := dk_100 (dk_at dksX0_behindEnds_2 9 rfl rfl)
theorem dX0_behindEnds_58 : decode cX0_behindEnds 58 = .ok (.putfield 394, 3) := dk_181 1 138 (dk_at dksX0_behindEnds_2 10 rfl rfl)
theorem dX0_behindEnds_61 : decode cX0_behindEnds 61 = .ok (.aload_n 3, 1) := dk_45 (dk_at dksX0_behindEnds_2 13 rfl rfl)
theorem dX0_behindEnds_62 : decode cX0_behindEnds 62 = .ok (.getfield 394, 3) := dk_180 1 138 (dk_at dksX0_behindEnds_2 14 rfl rfl)
theorem dX0_behindEnds_65 : decode cX0_behindEnds 65 = .ok (.ifCond .le 7, 3) := dk_158 0 7 (dk_at dksX0_behindEnds_2 17 rfl rfl)
theorem dX0_behindEnds_68 : decode cX0_behindEnds 68 = .ok (.iconst 1, 1) := dk_4 (dk_at dksX0_behindEnds_2 20 rfl rfl)
theorem dX0_behindEnds_69 : decode cX0_behindEnds 69 = .ok (.goto 4, 3) := dk_167 0 4 (dk_at dksX0_behindEnds_2 21 rfl rfl)
theorem dX0_behindEnds_72 : decode cX0_behindEnds 72 = .ok (.iconst 0, 1) := dk_3 (dk_at dksX0_behindEnds_3 0 rfl rfl)
theorem dX0_behindEnds_73 : decode cX0_behindEnds 73 = .ok (.istore 4, 2) := dk_54 4 (dk_at dksX0_behindEnds_3 1 rfl rfl)
theorem dX0_behindEnds_75 : decode cX0_behindEnds 75 = .ok (.iload 4, 2) := dk_21 4 (dk_at dksX0_behindEnds_3 3 rfl rfl)
theorem dX0_behindEnds_77 : decode cX0_behindEnds 77 = .ok (.ifCond .eq 17, 3) := dk_153 0 17 (dk_at dksX0_behindEnds_3 5 rfl rfl)
theorem dX0_behindEnds_80 : decode cX0_behindEnds 80 = .ok (.aload_n 0, 1) := dk_42 (dk_at dksX0_behindEnds_3 8 rfl rfl)
theorem dX0_behindEnds_81 : decode cX0_behindEnds 81 = .ok (.getfield 190, 3) := dk_180 0 190 (dk_at dksX0_behindEnds_3 9 rfl rfl)
theorem dX0_behindEnds_84 : decode cX0_behindEnds 84 = .ok (.iload_n 2, 1) := dk_28 (dk_at dksX0_behindEnds_3 12 rfl rfl)
theorem dX0_behindEnds_85 : decode cX0_behindEnds 85 = .ok (.aaload, 1) := dk_50 (dk_at dksX0_behindEnds_3 13 rfl rfl)
theorem dX0_behindEnds_86 : decode cX0_behindEnds 86 = .ok (.getfield 391, 3) := dk_180 1 135 (dk_at dksX0_behindEnds_3 14 rfl rfl)
theorem dX0_behindEnds_89 : decode cX0_behindEnds 89 = .ok (.iconst 1, 1) := dk_4 (dk_at dksX0_behindEnds_3 17 rfl rfl)
theorem dX0_behindEnds_90 : decode cX0_behindEnds 90 = .ok (.iadd, 1) := dk_96 (dk_at dksX0_behindEnds_3 18 rfl rfl)
theorem dX0_behindEnds_91 : decode cX0_behindEnds 91 = .ok (.goto 6, 3) := dk_167 0 6 (dk_at dksX0_behindEnds_3 19 rfl rfl)
theorem dX0_behindEnds_94 : decode cX0_behindEnds 94 = .ok (.iload_n 2, 1) := dk_28 (dk_at dksX0_behindEnds_3 22 rfl rfl)
theorem dX0_behindEnds_95 : decode cX0_behindEnds 95 = .ok (.iconst 1, 1) := dk_4 (dk_at dksX0_behindEnds_3 23 rfl rfl)
theorem dX0_behindEnds_96 : decode cX0_behindEnds 96 = .ok (.iadd, 1) := dk_96 (dk_at dksX0_behindEnds_4 0 rfl rfl)
theorem dX0_behindEnds_97 : decode cX0_behindEnds 97 = .ok (.istore_n 2, 1) := dk_61 (dk_at dksX0_behindEnds_4 1 rfl rfl)
theorem dX0_behindEnds_98 : decode cX0_behindEnds 98 = .ok (.goto (-96), 3) := dk_167 255 160 (dk_at dksX0_behindEnds_4 2 rfl rfl)
theorem dX0_behindEnds_101 : decode cX0_behindEnds 101 = .ok (.iload_n 2, 1) := dk_28 (dk_at dksX0_behindEnds_4 5 rfl rfl)
theorem dX0_behindEnds_102 : decode cX0_behindEnds 102 = .ok (.ireturn, 1) := dk_172 (dk_at dksX0_behindEnds_4 6 rfl rfl)
abbrev cX0_sailed : ByteArray := prog_1_method_82_code
def yX0_sailed : MethodName := ⟨RX0, "sailed", "(I)I"⟩
def dkwX0_sailed_1 : List UInt8 := [180, 0, 84, 27, 46, 182, 0, 197, 167, 0, 9, 42, 16, 8, 182, 0, 124, 172]
abbrev dktX0_sailed_1 : List UInt8 := dkwX0_sailed_1 ++ []
def dkwX0_sailed_0 : List UInt8 := [27, 155, 0, 8, 27, 7, 164, 0, 9, 42, 8, 182, 0, 124, 172, 42, 180, 1, 160, 153, 0, 16, 42, 42]
abbrev dktX0_sailed_0 : List UInt8 := dkwX0_sailed_0 ++ dktX0_sailed_1
theorem dksX0_sailed_0 : cX0_sailed.data.toList.drop 0 = dktX0_sailed_0 := by decide +kernel
theorem dksX0_sailed_1 : cX0_sailed.data.toList.drop 24 = dktX0_sailed_1 := dk_seg dksX0_sailed_0 24 rfl rfl
theorem dX0_sailed_0 : decode cX0_sailed 0 = .ok (.iload_n 1, 1) := dk_27 (dk_at dksX0_sailed_0 0 rfl rfl)
theorem dX0_sailed_1 : decode cX0_sailed 1 = .ok (.ifCond .lt 8, 3) := dk_155 0 8 (dk_at dksX0_sailed_0 1 rfl rfl)
theorem dX0_sailed_4 : decode cX0_sailed 4 = .ok (.iload_n 1, 1) := dk_27 (dk_at dksX0_sailed_0 4 rfl rfl)
theorem dX0_sailed_5 : decode cX0_sailed 5 = .ok (.iconst 4, 1) := dk_7 (dk_at dksX0_sailed_0 5 rfl rfl)
theorem dX0_sailed_6 : decode cX0_sailed 6 = .ok (.if_icmp .le 9, 3) := dk_164 0 9 (dk_at dksX0_sailed_0 6 rfl rfl)
theorem dX0_sailed_9 : decode cX0_sailed 9 = .ok (.aload_n 0, 1) := dk_42 (dk_at dksX0_sailed_0 9 rfl rfl)
theorem dX0_sailed_10 : decode cX0_sailed 10 = .ok (.iconst 5, 1) := dk_8 (dk_at dksX0_sailed_0 10 rfl rfl)
theorem dX0_sailed_11 : decode cX0_sailed 11 = .ok (.invokevirtual 124, 3) := dk_182 0 124 (dk_at dksX0_sailed_0 11 rfl rfl)
theorem dX0_sailed_14 : decode cX0_sailed 14 = .ok (.ireturn, 1) := dk_172 (dk_at dksX0_sailed_0 14 rfl rfl)
theorem dX0_sailed_15 : decode cX0_sailed 15 = .ok (.aload_n 0, 1) := dk_42 (dk_at dksX0_sailed_0 15 rfl rfl)
theorem dX0_sailed_16 : decode cX0_sailed 16 = .ok (.getfield 416, 3) := dk_180 1 160 (dk_at dksX0_sailed_0 16 rfl rfl)
theorem dX0_sailed_19 : decode cX0_sailed 19 = .ok (.ifCond .eq 16, 3) := dk_153 0 16 (dk_at dksX0_sailed_0 19 rfl rfl)
theorem dX0_sailed_22 : decode cX0_sailed 22 = .ok (.aload_n 0, 1) := dk_42 (dk_at dksX0_sailed_0 22 rfl rfl)
theorem dX0_sailed_23 : decode cX0_sailed 23 = .ok (.aload_n 0, 1) := dk_42 (dk_at dksX0_sailed_0 23 rfl rfl)
theorem dX0_sailed_24 : decode cX0_sailed 24 = .ok (.getfield 84, 3) := dk_180 0 84 (dk_at dksX0_sailed_1 0 rfl rfl)
theorem dX0_sailed_27 : decode cX0_sailed 27 = .ok (.iload_n 1, 1) := dk_27 (dk_at dksX0_sailed_1 3 rfl rfl)
theorem dX0_sailed_28 : decode cX0_sailed 28 = .ok (.iaload, 1) := dk_46 (dk_at dksX0_sailed_1 4 rfl rfl)
theorem dX0_sailed_29 : decode cX0_sailed 29 = .ok (.invokevirtual 197, 3) := dk_182 0 197 (dk_at dksX0_sailed_1 5 rfl rfl)
theorem dX0_sailed_32 : decode cX0_sailed 32 = .ok (.goto 9, 3) := dk_167 0 9 (dk_at dksX0_sailed_1 8 rfl rfl)
theorem dX0_sailed_35 : decode cX0_sailed 35 = .ok (.aload_n 0, 1) := dk_42 (dk_at dksX0_sailed_1 11 rfl rfl)
theorem dX0_sailed_36 : decode cX0_sailed 36 = .ok (.bipush 8, 2) := dk_16 8 (dk_at dksX0_sailed_1 12 rfl rfl)
theorem dX0_sailed_38 : decode cX0_sailed 38 = .ok (.invokevirtual 124, 3) := dk_182 0 124 (dk_at dksX0_sailed_1 14 rfl rfl)
theorem dX0_sailed_41 : decode cX0_sailed 41 = .ok (.ireturn, 1) := dk_172 (dk_at dksX0_sailed_1 17 rfl rfl)
abbrev cX0_agreed : ByteArray := prog_1_method_83_code
def yX0_agreed : MethodName := ⟨RX0, "agreed", "(II)I"⟩
def dkwX0_agreed_7 : List UInt8 := [132, 4, 1, 167, 255, 160, 42, 29, 182, 0, 197, 172]
abbrev dktX0_agreed_7 : List UInt8 := dkwX0_agreed_7 ++ []
def dkwX0_agreed_6 : List UInt8 := [153, 0, 7, 4, 167, 0, 4, 3, 96, 62, 42, 180, 0, 87, 3, 42, 180, 0, 27, 3, 7, 184, 0, 141]
abbrev dktX0_agreed_6 : List UInt8 := dkwX0_agreed_6 ++ dktX0_agreed_7
def dkwX0_agreed_5 : List UInt8 := [180, 0, 27, 3, 46, 160, 0, 7, 4, 167, 0, 4, 3, 54, 5, 132, 6, 1, 167, 255, 213, 29, 21, 5]
abbrev dktX0_agreed_5 : List UInt8 := dkwX0_agreed_5 ++ dktX0_agreed_6
def dkwX0_agreed_4 : List UInt8 := [42, 180, 0, 37, 180, 0, 152, 162, 0, 37, 21, 5, 153, 0, 23, 42, 180, 0, 27, 21, 6, 46, 42]
abbrev dktX0_agreed_4 : List UInt8 := dkwX0_agreed_4 ++ dktX0_agreed_5
def dkwX0_agreed_3 : List UInt8 := [54, 4, 21, 4, 28, 162, 0, 96, 42, 27, 21, 4, 96, 182, 1, 157, 4, 54, 5, 4, 54, 6, 21, 6]
abbrev dktX0_agreed_3 : List UInt8 := dkwX0_agreed_3 ++ dktX0_agreed_4
def dkwX0_agreed_2 : List UInt8 := [42, 16, 8, 182, 0, 124, 172, 42, 180, 0, 27, 3, 42, 180, 0, 87, 3, 7, 184, 0, 141, 3, 62, 3]
abbrev dktX0_agreed_2 : List UInt8 := dkwX0_agreed_2 ++ dktX0_agreed_3
def dkwX0_agreed_1 : List UInt8 := [27, 28, 96, 4, 100, 17, 39, 15, 164, 0, 9, 42, 8, 182, 0, 124, 172, 42, 180, 0, 190, 199, 0, 10]
abbrev dktX0_agreed_1 : List UInt8 := dkwX0_agreed_1 ++ dktX0_agreed_2
def dkwX0_agreed_0 : List UInt8 := [27, 133, 9, 20, 1, 155, 184, 1, 61, 153, 0, 26, 28, 133, 10, 20, 1, 163, 184, 1, 61, 153, 0, 14]
abbrev dktX0_agreed_0 : List UInt8 := dkwX0_agreed_0 ++ dktX0_agreed_1
theorem dksX0_agreed_0 : cX0_agreed.data.toList.drop 0 = dktX0_agreed_0 := by decide +kernel
theorem dksX0_agreed_1 : cX0_agreed.data.toList.drop 24 = dktX0_agreed_1 := dk_seg dksX0_agreed_0 24 rfl rfl
theorem dksX0_agreed_2 : cX0_agreed.data.toList.drop 48 = dktX0_agreed_2 := dk_seg dksX0_agreed_1 24 rfl rfl
theorem dksX0_agreed_3 : cX0_agreed.data.toList.drop 72 = dktX0_agreed_3 := dk_seg dksX0_agreed_2 24 rfl rfl
theorem dksX0_agreed_4 : cX0_agreed.data.toList.drop 96 = dktX0_agreed_4 := dk_seg dksX0_agreed_3 24 rfl rfl
theorem dksX0_agreed_5 : cX0_agreed.data.toList.drop 119 = dktX0_agreed_5 := dk_seg dksX0_agreed_4 23 rfl rfl
theorem dksX0_agreed_6 : cX0_agreed.data.toList.drop 143 = dktX0_agreed_6 := dk_seg dksX0_agreed_5 24 rfl rfl
theorem dksX0_agreed_7 : cX0_agreed.data.toList.drop 167 = dktX0_agreed_7 := dk_seg dksX0_agreed_6 24 rfl rfl
theorem dX0_agreed_0 : decode cX0_agreed 0 = .ok (.iload_n 1, 1) := dk_27 (dk_at dksX0_agreed_0 0 rfl rfl)
theorem dX0_agreed_1 : decode cX0_agreed 1 = .ok (.i2l, 1) := dk_133 (dk_at dksX0_agreed_0 1 rfl rfl)
theorem dX0_agreed_2 : decode cX0_agreed 2 = .ok (.lconst 0, 1) := dk_9 (dk_at dksX0_agreed_0 2 rfl rfl)
theorem dX0_agreed_3 : decode cX0_agreed 3 = .ok (.ldc2_w 411, 3) := dk_20 1 155 (dk_at dksX0_agreed_0 3 rfl rfl)
theorem dX0_agreed_6 : decode cX0_agreed 6 = .ok (.invokestatic 317, 3) := dk_184 1 61 (dk_at dksX0_agreed_0 6 rfl rfl)
theorem dX0_agreed_9 : decode cX0_agreed 9 = .ok (.ifCond .eq 26, 3) := dk_153 0 26 (dk_at dksX0_agreed_0 9 rfl rfl)
theorem dX0_agreed_12 : decode cX0_agreed 12 = .ok (.iload_n 2, 1) := dk_28 (dk_at dksX0_agreed_0 12 rfl rfl)
theorem dX0_agreed_13 : decode cX0_agreed 13 = .ok (.i2l, 1) := dk_133 (dk_at dksX0_agreed_0 13 rfl rfl)
theorem dX0_agreed_14 : decode cX0_agreed 14 = .ok (.lconst 1, 1) := dk_10 (dk_at dksX0_agreed_0 14 rfl rfl)
theorem dX0_agreed_15 : decode cX0_agreed 15 = .ok (.ldc2_w 419, 3) := dk_20 1 163 (dk_at dksX0_agreed_0 15 rfl rfl)
theorem dX0_agreed_18 : decode cX0_agreed 18 = .ok (.invokestatic 317, 3) := dk_184 1 61 (dk_at dksX0_agreed_0 18 rfl rfl)
theorem dX0_agreed_21 : decode cX0_agreed 21 = .ok (.ifCond .eq 14, 3) := dk_153 0 14 (dk_at dksX0_agreed_0 21 rfl rfl)
theorem dX0_agreed_24 : decode cX0_agreed 24 = .ok (.iload_n 1, 1) := dk_27 (dk_at dksX0_agreed_1 0 rfl rfl)
theorem dX0_agreed_25 : decode cX0_agreed 25 = .ok (.iload_n 2, 1) := dk_28 (dk_at dksX0_agreed_1 1 rfl rfl)
theorem dX0_agreed_26 : decode cX0_agreed 26 = .ok (.iadd, 1) := dk_96 (dk_at dksX0_agreed_1 2 rfl rfl)
theorem dX0_agreed_27 : decode cX0_agreed 27 = .ok (.iconst 1, 1) := dk_4 (dk_at dksX0_agreed_1 3 rfl rfl)
theorem dX0_agreed_28 : decode cX0_agreed 28 = .ok (.isub, 1) := dk_100 (dk_at dksX0_agreed_1 4 rfl rfl)
theorem dX0_agreed_29 : decode cX0_agreed 29 = .ok (.sipush 9999, 3) := dk_17 39 15 (dk_at dksX0_agreed_1 5 rfl rfl)
theorem dX0_agreed_32 : decode cX0_agreed 32 = .ok (.if_icmp .le 9, 3) := dk_164 0 9 (dk_at dksX0_agreed_1 8 rfl rfl)
theorem dX0_agreed_35 : decode cX0_agreed 35 = .ok (.aload_n 0, 1) := dk_42 (dk_at dksX0_agreed_1 11 rfl rfl)
theorem dX0_agreed_36 : decode cX0_agreed 36 = .ok (.iconst 5, 1) := dk_8 (dk_at dksX0_agreed_1 12 rfl rfl)
theorem dX0_agreed_37 : decode cX0_agreed 37 = .ok (.invokevirtual 124, 3) := dk_182 0 124 (dk_at dksX0_agreed_1 13 rfl rfl)
theorem dX0_agreed_40 : decode cX0_agreed 40 = .ok (.ireturn, 1) := dk_172 (dk_at dksX0_agreed_1 16 rfl rfl)
theorem dX0_agreed_41 : decode cX0_agreed 41 = .ok (.aload_n 0, 1) := dk_42 (dk_at dksX0_agreed_1 17 rfl rfl)
theorem dX0_agreed_42 : decode cX0_agreed 42 = .ok (.getfield 190, 3) := dk_180 0 190 (dk_at dksX0_agreed_1 18 rfl rfl)
theorem dX0_agreed_45 : decode cX0_agreed 45 = .ok (.ifnonnull 10, 3) := dk_199 0 10 (dk_at dksX0_agreed_1 21 rfl rfl)
theorem dX0_agreed_48 : decode cX0_agreed 48 = .ok (.aload_n 0, 1) := dk_42 (dk_at dksX0_agreed_2 0 rfl rfl)
theorem dX0_agreed_49 : decode cX0_agreed 49 = .ok (.bipush 8, 2) := dk_16 8 (dk_at dksX0_agreed_2 1 rfl rfl)
theorem dX0_agreed_51 : decode cX0_agreed 51 = .ok (.invokevirtual 124, 3) := dk_182 0 124 (dk_at dksX0_agreed_2 3 rfl rfl)
theorem dX0_agreed_54 : decode cX0_agreed 54 = .ok (.ireturn, 1) := dk_172 (dk_at dksX0_agreed_2 6 rfl rfl)
theorem dX0_agreed_55 : decode cX0_agreed 55 = .ok (.aload_n 0, 1) := dk_42 (dk_at dksX0_agreed_2 7 rfl rfl)
theorem dX0_agreed_56 : decode cX0_agreed 56 = .ok (.getfield 27, 3) := dk_180 0 27 (dk_at dksX0_agreed_2 8 rfl rfl)
theorem dX0_agreed_59 : decode cX0_agreed 59 = .ok (.iconst 0, 1) := dk_3 (dk_at dksX0_agreed_2 11 rfl rfl)
theorem dX0_agreed_60 : decode cX0_agreed 60 = .ok (.aload_n 0, 1) := dk_42 (dk_at dksX0_agreed_2 12 rfl rfl)
theorem dX0_agreed_61 : decode cX0_agreed 61 = .ok (.getfield 87, 3) := dk_180 0 87 (dk_at dksX0_agreed_2 13 rfl rfl)
theorem dX0_agreed_64 : decode cX0_agreed 64 = .ok (.iconst 0, 1) := dk_3 (dk_at dksX0_agreed_2 16 rfl rfl)
theorem dX0_agreed_65 : decode cX0_agreed 65 = .ok (.iconst 4, 1) := dk_7 (dk_at dksX0_agreed_2 17 rfl rfl)
theorem dX0_agreed_66 : decode cX0_agreed 66 = .ok (.invokestatic 141, 3) := dk_184 0 141 (dk_at dksX0_agreed_2 18 rfl rfl)
theorem dX0_agreed_69 : decode cX0_agreed 69 = .ok (.iconst 0, 1) := dk_3 (dk_at dksX0_agreed_2 21 rfl rfl)
theorem dX0_agreed_70 : decode cX0_agreed 70 = .ok (.istore_n 3, 1) := dk_62 (dk_at dksX0_agreed_2 22 rfl rfl)
theorem dX0_agreed_71 : decode cX0_agreed 71 = .ok (.iconst 0, 1) := dk_3 (dk_at dksX0_agreed_2 23 rfl rfl)
theorem dX0_agreed_72 : decode cX0_agreed 72 = .ok (.istore 4, 2) := dk_54 4 (dk_at dksX0_agreed_3 0 rfl rfl)
theorem dX0_agreed_74 : decode cX0_agreed 74 = .ok (.iload 4, 2) := dk_21 4 (dk_at dksX0_agreed_3 2 rfl rfl)
theorem dX0_agreed_76 : decode cX0_agreed 76 = .ok (.iload_n 2, 1) := dk_28 (dk_at dksX0_agreed_3 4 rfl rfl)
theorem dX0_agreed_77 : decode cX0_agreed 77 = .ok (.if_icmp .ge 96, 3) := dk_162 0 96 (dk_at dksX0_agreed_3 5 rfl rfl)
theorem dX0_agreed_80 : decode cX0_agreed 80 = .ok (.aload_n 0, 1) := dk_42 (dk_at dksX0_agreed_3 8 rfl rfl)
theorem dX0_agreed_81 : decode cX0_agreed 81 = .ok (.iload_n 1, 1) := dk_27 (dk_at dksX0_agreed_3 9 rfl rfl)
theorem dX0_agreed_82 : decode cX0_agreed 82 = .ok (.iload 4, 2) := dk_21 4 (dk_at dksX0_agreed_3 10 rfl rfl)
theorem dX0_agreed_84 : decode cX0_agreed 84 = .ok (.iadd, 1) := dk_96 (dk_at dksX0_agreed_3 12 rfl rfl)
theorem dX0_agreed_85 : decode cX0_agreed 85 = .ok (.invokevirtual 413, 3) := dk_182 1 157 (dk_at dksX0_agreed_3 13 rfl rfl)
theorem dX0_agreed_88 : decode cX0_agreed 88 = .ok (.iconst 1, 1) := dk_4 (dk_at dksX0_agreed_3 16 rfl rfl)
theorem dX0_agreed_89 : decode cX0_agreed 89 = .ok (.istore 5, 2) := dk_54 5 (dk_at dksX0_agreed_3 17 rfl rfl)
theorem dX0_agreed_91 : decode cX0_agreed 91 = .ok (.iconst 1, 1) := dk_4 (dk_at dksX0_agreed_3 19 rfl rfl)
theorem dX0_agreed_92 : decode cX0_agreed 92 = .ok (.istore 6, 2) := dk_54 6 (dk_at dksX0_agreed_3 20 rfl rfl)
theorem dX0_agreed_94 : decode cX0_agreed 94 = .ok (.iload 6, 2) := dk_21 6 (dk_at dksX0_agreed_3 22 rfl rfl)
theorem dX0_agreed_96 : decode cX0_agreed 96 = .ok (.aload_n 0, 1) := dk_42 (dk_at dksX0_agreed_4 0 rfl rfl)
theorem dX0_agreed_97 : decode cX0_agreed 97 = .ok (.getfield 37, 3) := dk_180 0 37 (dk_at dksX0_agreed_4 1 rfl rfl)
theorem dX0_agreed_100 : decode cX0_agreed 100 = .ok (.getfield 152, 3) := dk_180 0 152 (dk_at dksX0_agreed_4 4 rfl rfl)
theorem dX0_agreed_103 : decode cX0_agreed 103 = .ok (.if_icmp .ge 37, 3) := dk_162 0 37 (dk_at dksX0_agreed_4 7 rfl rfl)
theorem dX0_agreed_106 : decode cX0_agreed 106 = .ok (.iload 5, 2) := dk_21 5 (dk_at dksX0_agreed_4 10 rfl rfl)
theorem dX0_agreed_108 : decode cX0_agreed 108 = .ok (.ifCond .eq 23, 3) := dk_153 0 23 (dk_at dksX0_agreed_4 12 rfl rfl)
theorem dX0_agreed_111 : decode cX0_agreed 111 = .ok (.aload_n 0, 1) := dk_42 (dk_at dksX0_agreed_4 15 rfl rfl)
theorem dX0_agreed_112 : decode cX0_agreed 112 = .ok (.getfield 27, 3) := dk_180 0 27 (dk_at dksX0_agreed_4 16 rfl rfl)
theorem dX0_agreed_115 : decode cX0_agreed 115 = .ok (.iload 6, 2) := dk_21 6 (dk_at dksX0_agreed_4 19 rfl rfl)
theorem dX0_agreed_117 : decode cX0_agreed 117 = .ok (.iaload, 1) := dk_46 (dk_at dksX0_agreed_4 21 rfl rfl)
theorem dX0_agreed_118 : decode cX0_agreed 118 = .ok (.aload_n 0, 1) := dk_42 (dk_at dksX0_agreed_4 22 rfl rfl)
theorem dX0_agreed_119 : decode cX0_agreed 119 = .ok (.getfield 27, 3) := dk_180 0 27 (dk_at dksX0_agreed_5 0 rfl rfl)
theorem dX0_agreed_122 : decode cX0_agreed 122 = .ok (.iconst 0, 1) := dk_3 (dk_at dksX0_agreed_5 3 rfl rfl)
theorem dX0_agreed_123 : decode cX0_agreed 123 = .ok (.iaload, 1) := dk_46 (dk_at dksX0_agreed_5 4 rfl rfl)
theorem dX0_agreed_124 : decode cX0_agreed 124 = .ok (.if_icmp .ne 7, 3) := dk_160 0 7 (dk_at dksX0_agreed_5 5 rfl rfl)
theorem dX0_agreed_127 : decode cX0_agreed 127 = .ok (.iconst 1, 1) := dk_4 (dk_at dksX0_agreed_5 8 rfl rfl)
theorem dX0_agreed_128 : decode cX0_agreed 128 = .ok (.goto 4, 3) := dk_167 0 4 (dk_at dksX0_agreed_5 9 rfl rfl)
theorem dX0_agreed_131 : decode cX0_agreed 131 = .ok (.iconst 0, 1) := dk_3 (dk_at dksX0_agreed_5 12 rfl rfl)
theorem dX0_agreed_132 : decode cX0_agreed 132 = .ok (.istore 5, 2) := dk_54 5 (dk_at dksX0_agreed_5 13 rfl rfl)
theorem dX0_agreed_134 : decode cX0_agreed 134 = .ok (.iinc 6 1, 3) := dk_132 6 1 (dk_at dksX0_agreed_5 15 rfl rfl)
theorem dX0_agreed_137 : decode cX0_agreed 137 = .ok (.goto (-43), 3) := dk_167 255 213 (dk_at dksX0_agreed_5 18 rfl rfl)
theorem dX0_agreed_140 : decode cX0_agreed 140 = .ok (.iload_n 3, 1) := dk_29 (dk_at dksX0_agreed_5 21 rfl rfl)
theorem dX0_agreed_141 : decode cX0_agreed 141 = .ok (.iload 5, 2) := dk_21 5 (dk_at dksX0_agreed_5 22 rfl rfl)
theorem dX0_agreed_143 : decode cX0_agreed 143 = .ok (.ifCond .eq 7, 3) := dk_153 0 7 (dk_at dksX0_agreed_6 0 rfl rfl)
theorem dX0_agreed_146 : decode cX0_agreed 146 = .ok (.iconst 1, 1) := dk_4 (dk_at dksX0_agreed_6 3 rfl rfl)
theorem dX0_agreed_147 : decode cX0_agreed 147 = .ok (.goto 4, 3) := dk_167 0 4 (dk_at dksX0_agreed_6 4 rfl rfl)
theorem dX0_agreed_150 : decode cX0_agreed 150 = .ok (.iconst 0, 1) := dk_3 (dk_at dksX0_agreed_6 7 rfl rfl)
theorem dX0_agreed_151 : decode cX0_agreed 151 = .ok (.iadd, 1) := dk_96 (dk_at dksX0_agreed_6 8 rfl rfl)
theorem dX0_agreed_152 : decode cX0_agreed 152 = .ok (.istore_n 3, 1) := dk_62 (dk_at dksX0_agreed_6 9 rfl rfl)
theorem dX0_agreed_153 : decode cX0_agreed 153 = .ok (.aload_n 0, 1) := dk_42 (dk_at dksX0_agreed_6 10 rfl rfl)
theorem dX0_agreed_154 : decode cX0_agreed 154 = .ok (.getfield 87, 3) := dk_180 0 87 (dk_at dksX0_agreed_6 11 rfl rfl)
theorem dX0_agreed_157 : decode cX0_agreed 157 = .ok (.iconst 0, 1) := dk_3 (dk_at dksX0_agreed_6 14 rfl rfl)
theorem dX0_agreed_158 : decode cX0_agreed 158 = .ok (.aload_n 0, 1) := dk_42 (dk_at dksX0_agreed_6 15 rfl rfl)
theorem dX0_agreed_159 : decode cX0_agreed 159 = .ok (.getfield 27, 3) := dk_180 0 27 (dk_at dksX0_agreed_6 16 rfl rfl)
theorem dX0_agreed_162 : decode cX0_agreed 162 = .ok (.iconst 0, 1) := dk_3 (dk_at dksX0_agreed_6 19 rfl rfl)
theorem dX0_agreed_163 : decode cX0_agreed 163 = .ok (.iconst 4, 1) := dk_7 (dk_at dksX0_agreed_6 20 rfl rfl)
theorem dX0_agreed_164 : decode cX0_agreed 164 = .ok (.invokestatic 141, 3) := dk_184 0 141 (dk_at dksX0_agreed_6 21 rfl rfl)
theorem dX0_agreed_167 : decode cX0_agreed 167 = .ok (.iinc 4 1, 3) := dk_132 4 1 (dk_at dksX0_agreed_7 0 rfl rfl)
theorem dX0_agreed_170 : decode cX0_agreed 170 = .ok (.goto (-96), 3) := dk_167 255 160 (dk_at dksX0_agreed_7 3 rfl rfl)
theorem dX0_agreed_173 : decode cX0_agreed 173 = .ok (.aload_n 0, 1) := dk_42 (dk_at dksX0_agreed_7 6 rfl rfl)
theorem dX0_agreed_174 : decode cX0_agreed 174 = .ok (.iload_n 3, 1) := dk_29 (dk_at dksX0_agreed_7 7 rfl rfl)
theorem dX0_agreed_175 : decode cX0_agreed 175 = .ok (.invokevirtual 197, 3) := dk_182 0 197 (dk_at dksX0_agreed_7 8 rfl rfl)
theorem dX0_agreed_178 : decode cX0_agreed 178 = .ok (.ireturn, 1) := dk_172 (dk_at dksX0_agreed_7 11 rfl rfl)
abbrev cX0_seal : ByteArray := prog_1_method_84_code
def yX0_seal : MethodName := ⟨RX0, "seal", "(II)I"⟩
def dkwX0_seal_9 : List UInt8 := [182, 0, 197, 172]
abbrev dktX0_seal_9 : List UInt8 := dkwX0_seal_9 ++ []
def dkwX0_seal_8 : List UInt8 := [132, 7, 1, 167, 255, 190, 45, 21, 5, 21, 6, 17, 0, 251, 112, 133, 182, 0, 116, 42, 21, 4, 6, 96]
abbrev dktX0_seal_8 : List UInt8 := dkwX0_seal_8 ++ dktX0_seal_9
def dkwX0_seal_7 : List UInt8 := [104, 96, 54, 8, 45, 21, 5, 21, 8, 133, 182, 0, 116, 21, 6, 21, 8, 96, 54, 6, 132, 5, 1]
abbrev dktX0_seal_7 : List UInt8 := dkwX0_seal_7 ++ dktX0_seal_8
def dkwX0_seal_6 : List UInt8 := [4, 126, 154, 0, 6, 167, 0, 42, 42, 180, 0, 37, 180, 0, 208, 21, 7, 50, 182, 0, 212, 8, 21, 7]
abbrev dktX0_seal_6 : List UInt8 := dkwX0_seal_6 ++ dktX0_seal_7
def dkwX0_seal_5 : List UInt8 := [21, 4, 96, 54, 6, 3, 54, 7, 21, 7, 42, 180, 0, 37, 180, 0, 149, 162, 0, 60, 28, 21, 7, 122]
abbrev dktX0_seal_5 : List UInt8 := dkwX0_seal_5 ++ dktX0_seal_6
def dkwX0_seal_4 : List UInt8 := [16, 9, 182, 0, 124, 172, 45, 3, 10, 182, 0, 116, 45, 4, 21, 4, 133, 182, 0, 116, 5, 54, 5, 4]
abbrev dktX0_seal_4 : List UInt8 := dkwX0_seal_4 ++ dktX0_seal_5
def dkwX0_seal_3 : List UInt8 := [180, 0, 138, 154, 0, 9, 42, 8, 182, 0, 124, 172, 42, 180, 0, 37, 28, 182, 0, 254, 154, 0, 10, 42]
abbrev dktX0_seal_3 : List UInt8 := dkwX0_seal_3 ++ dktX0_seal_4
def dkwX0_seal_2 : List UInt8 := [28, 184, 0, 219, 54, 4, 45, 182, 1, 65, 21, 4, 6, 96, 162, 0, 9, 42, 7, 182, 0, 124, 172, 45]
abbrev dktX0_seal_2 : List UInt8 := dkwX0_seal_2 ++ dktX0_seal_3
def dkwX0_seal_1 : List UInt8 := [182, 0, 124, 172, 42, 180, 0, 11, 27, 50, 78, 45, 180, 0, 134, 199, 0, 9, 42, 6, 182, 0, 124, 172]
abbrev dktX0_seal_1 : List UInt8 := dkwX0_seal_1 ++ dktX0_seal_2
def dkwX0_seal_0 : List UInt8 := [27, 184, 0, 107, 154, 0, 9, 42, 4, 182, 0, 124, 172, 42, 28, 182, 0, 251, 154, 0, 9, 42, 5]
abbrev dktX0_seal_0 : List UInt8 := dkwX0_seal_0 ++ dktX0_seal_1
theorem dksX0_seal_0 : cX0_seal.data.toList.drop 0 = dktX0_seal_0 := by decide +kernel
theorem dksX0_seal_1 : cX0_seal.data.toList.drop 23 = dktX0_seal_1 := dk_seg dksX0_seal_0 23 rfl rfl
theorem dksX0_seal_2 : cX0_seal.data.toList.drop 47 = dktX0_seal_2 := dk_seg dksX0_seal_1 24 rfl rfl
theorem dksX0_seal_3 : cX0_seal.data.toList.drop 71 = dktX0_seal_3 := dk_seg dksX0_seal_2 24 rfl rfl
theorem dksX0_seal_4 : cX0_seal.data.toList.drop 95 = dktX0_seal_4 := dk_seg dksX0_seal_3 24 rfl rfl
theorem dksX0_seal_5 : cX0_seal.data.toList.drop 119 = dktX0_seal_5 := dk_seg dksX0_seal_4 24 rfl rfl
theorem dksX0_seal_6 : cX0_seal.data.toList.drop 143 = dktX0_seal_6 := dk_seg dksX0_seal_5 24 rfl rfl
theorem dksX0_seal_7 : cX0_seal.data.toList.drop 167 = dktX0_seal_7 := dk_seg dksX0_seal_6 24 rfl rfl
theorem dksX0_seal_8 : cX0_seal.data.toList.drop 190 = dktX0_seal_8 := dk_seg dksX0_seal_7 23 rfl rfl
theorem dksX0_seal_9 : cX0_seal.data.toList.drop 214 = dktX0_seal_9 := dk_seg dksX0_seal_8 24 rfl rfl
theorem dX0_seal_0 : decode cX0_seal 0 = .ok (.iload_n 1, 1) := dk_27 (dk_at dksX0_seal_0 0 rfl rfl)
theorem dX0_seal_1 : decode cX0_seal 1 = .ok (.invokestatic 107, 3) := dk_184 0 107 (dk_at dksX0_seal_0 1 rfl rfl)
theorem dX0_seal_4 : decode cX0_seal 4 = .ok (.ifCond .ne 9, 3) := dk_154 0 9 (dk_at dksX0_seal_0 4 rfl rfl)
theorem dX0_seal_7 : decode cX0_seal 7 = .ok (.aload_n 0, 1) := dk_42 (dk_at dksX0_seal_0 7 rfl rfl)
theorem dX0_seal_8 : decode cX0_seal 8 = .ok (.iconst 1, 1) := dk_4 (dk_at dksX0_seal_0 8 rfl rfl)
theorem dX0_seal_9 : decode cX0_seal 9 = .ok (.invokevirtual 124, 3) := dk_182 0 124 (dk_at dksX0_seal_0 9 rfl rfl)
theorem dX0_seal_12 : decode cX0_seal 12 = .ok (.ireturn, 1) := dk_172 (dk_at dksX0_seal_0 12 rfl rfl)
theorem dX0_seal_13 : decode cX0_seal 13 = .ok (.aload_n 0, 1) := dk_42 (dk_at dksX0_seal_0 13 rfl rfl)
theorem dX0_seal_14 : decode cX0_seal 14 = .ok (.iload_n 2, 1) := dk_28 (dk_at dksX0_seal_0 14 rfl rfl)
theorem dX0_seal_15 : decode cX0_seal 15 = .ok (.invokevirtual 251, 3) := dk_182 0 251 (dk_at dksX0_seal_0 15 rfl rfl)
theorem dX0_seal_18 : decode cX0_seal 18 = .ok (.ifCond .ne 9, 3) := dk_154 0 9 (dk_at dksX0_seal_0 18 rfl rfl)
theorem dX0_seal_21 : decode cX0_seal 21 = .ok (.aload_n 0, 1) := dk_42 (dk_at dksX0_seal_0 21 rfl rfl)
theorem dX0_seal_22 : decode cX0_seal 22 = .ok (.iconst 2, 1) := dk_5 (dk_at dksX0_seal_0 22 rfl rfl)
theorem dX0_seal_23 : decode cX0_seal 23 = .ok (.invokevirtual 124, 3) := dk_182 0 124 (dk_at dksX0_seal_1 0 rfl rfl)
theorem dX0_seal_26 : decode cX0_seal 26 = .ok (.ireturn, 1) := dk_172 (dk_at dksX0_seal_1 3 rfl rfl)
theorem dX0_seal_27 : decode cX0_seal 27 = .ok (.aload_n 0, 1) := dk_42 (dk_at dksX0_seal_1 4 rfl rfl)
theorem dX0_seal_28 : decode cX0_seal 28 = .ok (.getfield 11, 3) := dk_180 0 11 (dk_at dksX0_seal_1 5 rfl rfl)
theorem dX0_seal_31 : decode cX0_seal 31 = .ok (.iload_n 1, 1) := dk_27 (dk_at dksX0_seal_1 8 rfl rfl)
theorem dX0_seal_32 : decode cX0_seal 32 = .ok (.aaload, 1) := dk_50 (dk_at dksX0_seal_1 9 rfl rfl)
theorem dX0_seal_33 : decode cX0_seal 33 = .ok (.astore_n 3, 1) := dk_78 (dk_at dksX0_seal_1 10 rfl rfl)
theorem dX0_seal_34 : decode cX0_seal 34 = .ok (.aload_n 3, 1) := dk_45 (dk_at dksX0_seal_1 11 rfl rfl)
theorem dX0_seal_35 : decode cX0_seal 35 = .ok (.getfield 134, 3) := dk_180 0 134 (dk_at dksX0_seal_1 12 rfl rfl)
theorem dX0_seal_38 : decode cX0_seal 38 = .ok (.ifnonnull 9, 3) := dk_199 0 9 (dk_at dksX0_seal_1 15 rfl rfl)
theorem dX0_seal_41 : decode cX0_seal 41 = .ok (.aload_n 0, 1) := dk_42 (dk_at dksX0_seal_1 18 rfl rfl)
theorem dX0_seal_42 : decode cX0_seal 42 = .ok (.iconst 3, 1) := dk_6 (dk_at dksX0_seal_1 19 rfl rfl)
theorem dX0_seal_43 : decode cX0_seal 43 = .ok (.invokevirtual 124, 3) := dk_182 0 124 (dk_at dksX0_seal_1 20 rfl rfl)
theorem dX0_seal_46 : decode cX0_seal 46 = .ok (.ireturn, 1) := dk_172 (dk_at dksX0_seal_1 23 rfl rfl)
theorem dX0_seal_47 : decode cX0_seal 47 = .ok (.iload_n 2, 1) := dk_28 (dk_at dksX0_seal_2 0 rfl rfl)
theorem dX0_seal_48 : decode cX0_seal 48 = .ok (.invokestatic 219, 3) := dk_184 0 219 (dk_at dksX0_seal_2 1 rfl rfl)
theorem dX0_seal_51 : decode cX0_seal 51 = .ok (.istore 4, 2) := dk_54 4 (dk_at dksX0_seal_2 4 rfl rfl)
theorem dX0_seal_53 : decode cX0_seal 53 = .ok (.aload_n 3, 1) := dk_45 (dk_at dksX0_seal_2 6 rfl rfl)
theorem dX0_seal_54 : decode cX0_seal 54 = .ok (.invokevirtual 321, 3) := dk_182 1 65 (dk_at dksX0_seal_2 7 rfl rfl)
theorem dX0_seal_57 : decode cX0_seal 57 = .ok (.iload 4, 2) := dk_21 4 (dk_at dksX0_seal_2 10 rfl rfl)
theorem dX0_seal_59 : decode cX0_seal 59 = .ok (.iconst 3, 1) := dk_6 (dk_at dksX0_seal_2 12 rfl rfl)
theorem dX0_seal_60 : decode cX0_seal 60 = .ok (.iadd, 1) := dk_96 (dk_at dksX0_seal_2 13 rfl rfl)
theorem dX0_seal_61 : decode cX0_seal 61 = .ok (.if_icmp .ge 9, 3) := dk_162 0 9 (dk_at dksX0_seal_2 14 rfl rfl)
theorem dX0_seal_64 : decode cX0_seal 64 = .ok (.aload_n 0, 1) := dk_42 (dk_at dksX0_seal_2 17 rfl rfl)
theorem dX0_seal_65 : decode cX0_seal 65 = .ok (.iconst 4, 1) := dk_7 (dk_at dksX0_seal_2 18 rfl rfl)
theorem dX0_seal_66 : decode cX0_seal 66 = .ok (.invokevirtual 124, 3) := dk_182 0 124 (dk_at dksX0_seal_2 19 rfl rfl)
theorem dX0_seal_69 : decode cX0_seal 69 = .ok (.ireturn, 1) := dk_172 (dk_at dksX0_seal_2 22 rfl rfl)
theorem dX0_seal_70 : decode cX0_seal 70 = .ok (.aload_n 3, 1) := dk_45 (dk_at dksX0_seal_2 23 rfl rfl)
theorem dX0_seal_71 : decode cX0_seal 71 = .ok (.getfield 138, 3) := dk_180 0 138 (dk_at dksX0_seal_3 0 rfl rfl)
theorem dX0_seal_74 : decode cX0_seal 74 = .ok (.ifCond .ne 9, 3) := dk_154 0 9 (dk_at dksX0_seal_3 3 rfl rfl)
theorem dX0_seal_77 : decode cX0_seal 77 = .ok (.aload_n 0, 1) := dk_42 (dk_at dksX0_seal_3 6 rfl rfl)
theorem dX0_seal_78 : decode cX0_seal 78 = .ok (.iconst 5, 1) := dk_8 (dk_at dksX0_seal_3 7 rfl rfl)
theorem dX0_seal_79 : decode cX0_seal 79 = .ok (.invokevirtual 124, 3) := dk_182 0 124 (dk_at dksX0_seal_3 8 rfl rfl)
theorem dX0_seal_82 : decode cX0_seal 82 = .ok (.ireturn, 1) := dk_172 (dk_at dksX0_seal_3 11 rfl rfl)
theorem dX0_seal_83 : decode cX0_seal 83 = .ok (.aload_n 0, 1) := dk_42 (dk_at dksX0_seal_3 12 rfl rfl)
theorem dX0_seal_84 : decode cX0_seal 84 = .ok (.getfield 37, 3) := dk_180 0 37 (dk_at dksX0_seal_3 13 rfl rfl)
theorem dX0_seal_87 : decode cX0_seal 87 = .ok (.iload_n 2, 1) := dk_28 (dk_at dksX0_seal_3 16 rfl rfl)
theorem dX0_seal_88 : decode cX0_seal 88 = .ok (.invokevirtual 254, 3) := dk_182 0 254 (dk_at dksX0_seal_3 17 rfl rfl)
theorem dX0_seal_91 : decode cX0_seal 91 = .ok (.ifCond .ne 10, 3) := dk_154 0 10 (dk_at dksX0_seal_3 20 rfl rfl)
theorem dX0_seal_94 : decode cX0_seal 94 = .ok (.aload_n 0, 1) := dk_42 (dk_at dksX0_seal_3 23 rfl rfl)
theorem dX0_seal_95 : decode cX0_seal 95 = .ok (.bipush 9, 2) := dk_16 9 (dk_at dksX0_seal_4 0 rfl rfl)
theorem dX0_seal_97 : decode cX0_seal 97 = .ok (.invokevirtual 124, 3) := dk_182 0 124 (dk_at dksX0_seal_4 2 rfl rfl)
theorem dX0_seal_100 : decode cX0_seal 100 = .ok (.ireturn, 1) := dk_172 (dk_at dksX0_seal_4 5 rfl rfl)
theorem dX0_seal_101 : decode cX0_seal 101 = .ok (.aload_n 3, 1) := dk_45 (dk_at dksX0_seal_4 6 rfl rfl)
theorem dX0_seal_102 : decode cX0_seal 102 = .ok (.iconst 0, 1) := dk_3 (dk_at dksX0_seal_4 7 rfl rfl)
theorem dX0_seal_103 : decode cX0_seal 103 = .ok (.lconst 1, 1) := dk_10 (dk_at dksX0_seal_4 8 rfl rfl)
theorem dX0_seal_104 : decode cX0_seal 104 = .ok (.invokevirtual 116, 3) := dk_182 0 116 (dk_at dksX0_seal_4 9 rfl rfl)
theorem dX0_seal_107 : decode cX0_seal 107 = .ok (.aload_n 3, 1) := dk_45 (dk_at dksX0_seal_4 12 rfl rfl)
theorem dX0_seal_108 : decode cX0_seal 108 = .ok (.iconst 1, 1) := dk_4 (dk_at dksX0_seal_4 13 rfl rfl)
theorem dX0_seal_109 : decode cX0_seal 109 = .ok (.iload 4, 2) := dk_21 4 (dk_at dksX0_seal_4 14 rfl rfl)
theorem dX0_seal_111 : decode cX0_seal 111 = .ok (.i2l, 1) := dk_133 (dk_at dksX0_seal_4 16 rfl rfl)
theorem dX0_seal_112 : decode cX0_seal 112 = .ok (.invokevirtual 116, 3) := dk_182 0 116 (dk_at dksX0_seal_4 17 rfl rfl)
theorem dX0_seal_115 : decode cX0_seal 115 = .ok (.iconst 2, 1) := dk_5 (dk_at dksX0_seal_4 20 rfl rfl)
theorem dX0_seal_116 : decode cX0_seal 116 = .ok (.istore 5, 2) := dk_54 5 (dk_at dksX0_seal_4 21 rfl rfl)
theorem dX0_seal_118 : decode cX0_seal 118 = .ok (.iconst 1, 1) := dk_4 (dk_at dksX0_seal_4 23 rfl rfl)
theorem dX0_seal_119 : decode cX0_seal 119 = .ok (.iload 4, 2) := dk_21 4 (dk_at dksX0_seal_5 0 rfl rfl)
theorem dX0_seal_121 : decode cX0_seal 121 = .ok (.iadd, 1) := dk_96 (dk_at dksX0_seal_5 2 rfl rfl)
theorem dX0_seal_122 : decode cX0_seal 122 = .ok (.istore 6, 2) := dk_54 6 (dk_at dksX0_seal_5 3 rfl rfl)
theorem dX0_seal_124 : decode cX0_seal 124 = .ok (.iconst 0, 1) := dk_3 (dk_at dksX0_seal_5 5 rfl rfl)
theorem dX0_seal_125 : decode cX0_seal 125 = .ok (.istore 7, 2) := dk_54 7 (dk_at dksX0_seal_5 6 rfl rfl)
theorem dX0_seal_127 : decode cX0_seal 127 = .ok (.iload 7, 2) := dk_21 7 (dk_at dksX0_seal_5 8 rfl rfl)
theorem dX0_seal_129 : decode cX0_seal 129 = .ok (.aload_n 0, 1) := dk_42 (dk_at dksX0_seal_5 10 rfl rfl)
theorem dX0_seal_130 : decode cX0_seal 130 = .ok (.getfield 37, 3) := dk_180 0 37 (dk_at dksX0_seal_5 11 rfl rfl)
theorem dX0_seal_133 : decode cX0_seal 133 = .ok (.getfield 149, 3) := dk_180 0 149 (dk_at dksX0_seal_5 14 rfl rfl)
theorem dX0_seal_136 : decode cX0_seal 136 = .ok (.if_icmp .ge 60, 3) := dk_162 0 60 (dk_at dksX0_seal_5 17 rfl rfl)
theorem dX0_seal_139 : decode cX0_seal 139 = .ok (.iload_n 2, 1) := dk_28 (dk_at dksX0_seal_5 20 rfl rfl)
theorem dX0_seal_140 : decode cX0_seal 140 = .ok (.iload 7, 2) := dk_21 7 (dk_at dksX0_seal_5 21 rfl rfl)
theorem dX0_seal_142 : decode cX0_seal 142 = .ok (.ishr, 1) := dk_122 (dk_at dksX0_seal_5 23 rfl rfl)
theorem dX0_seal_143 : decode cX0_seal 143 = .ok (.iconst 1, 1) := dk_4 (dk_at dksX0_seal_6 0 rfl rfl)
theorem dX0_seal_144 : decode cX0_seal 144 = .ok (.iand, 1) := dk_126 (dk_at dksX0_seal_6 1 rfl rfl)
theorem dX0_seal_145 : decode cX0_seal 145 = .ok (.ifCond .ne 6, 3) := dk_154 0 6 (dk_at dksX0_seal_6 2 rfl rfl)
theorem dX0_seal_148 : decode cX0_seal 148 = .ok (.goto 42, 3) := dk_167 0 42 (dk_at dksX0_seal_6 5 rfl rfl)
theorem dX0_seal_151 : decode cX0_seal 151 = .ok (.aload_n 0, 1) := dk_42 (dk_at dksX0_seal_6 8 rfl rfl)
theorem dX0_seal_152 : decode cX0_seal 152 = .ok (.getfield 37, 3) := dk_180 0 37 (dk_at dksX0_seal_6 9 rfl rfl)
theorem dX0_seal_155 : decode cX0_seal 155 = .ok (.getfield 208, 3) := dk_180 0 208 (dk_at dksX0_seal_6 12 rfl rfl)
theorem dX0_seal_158 : decode cX0_seal 158 = .ok (.iload 7, 2) := dk_21 7 (dk_at dksX0_seal_6 15 rfl rfl)
theorem dX0_seal_160 : decode cX0_seal 160 = .ok (.aaload, 1) := dk_50 (dk_at dksX0_seal_6 17 rfl rfl)
theorem dX0_seal_161 : decode cX0_seal 161 = .ok (.invokevirtual 212, 3) := dk_182 0 212 (dk_at dksX0_seal_6 18 rfl rfl)
theorem dX0_seal_164 : decode cX0_seal 164 = .ok (.iconst 5, 1) := dk_8 (dk_at dksX0_seal_6 21 rfl rfl)
theorem dX0_seal_165 : decode cX0_seal 165 = .ok (.iload 7, 2) := dk_21 7 (dk_at dksX0_seal_6 22 rfl rfl)
theorem dX0_seal_167 : decode cX0_seal 167 = .ok (.imul, 1) := dk_104 (dk_at dksX0_seal_7 0 rfl rfl)
theorem dX0_seal_168 : decode cX0_seal 168 = .ok (.iadd, 1) := dk_96 (dk_at dksX0_seal_7 1 rfl rfl)
theorem dX0_seal_169 : decode cX0_seal 169 = .ok (.istore 8, 2) := dk_54 8 (dk_at dksX0_seal_7 2 rfl rfl)
theorem dX0_seal_171 : decode cX0_seal 171 = .ok (.aload_n 3, 1) := dk_45 (dk_at dksX0_seal_7 4 rfl rfl)
theorem dX0_seal_172 : decode cX0_seal 172 = .ok (.iload 5, 2) := dk_21 5 (dk_at dksX0_seal_7 5 rfl rfl)
theorem dX0_seal_174 : decode cX0_seal 174 = .ok (.iload 8, 2) := dk_21 8 (dk_at dksX0_seal_7 7 rfl rfl)
theorem dX0_seal_176 : decode cX0_seal 176 = .ok (.i2l, 1) := dk_133 (dk_at dksX0_seal_7 9 rfl rfl)
theorem dX0_seal_177 : decode cX0_seal 177 = .ok (.invokevirtual 116, 3) := dk_182 0 116 (dk_at dksX0_seal_7 10 rfl rfl)
theorem dX0_seal_180 : decode cX0_seal 180 = .ok (.iload 6, 2) := dk_21 6 (dk_at dksX0_seal_7 13 rfl rfl)
theorem dX0_seal_182 : decode cX0_seal 182 = .ok (.iload 8, 2) := dk_21 8 (dk_at dksX0_seal_7 15 rfl rfl)
theorem dX0_seal_184 : decode cX0_seal 184 = .ok (.iadd, 1) := dk_96 (dk_at dksX0_seal_7 17 rfl rfl)
theorem dX0_seal_185 : decode cX0_seal 185 = .ok (.istore 6, 2) := dk_54 6 (dk_at dksX0_seal_7 18 rfl rfl)
theorem dX0_seal_187 : decode cX0_seal 187 = .ok (.iinc 5 1, 3) := dk_132 5 1 (dk_at dksX0_seal_7 20 rfl rfl)
theorem dX0_seal_190 : decode cX0_seal 190 = .ok (.iinc 7 1, 3) := dk_132 7 1 (dk_at dksX0_seal_8 0 rfl rfl)
theorem dX0_seal_193 : decode cX0_seal 193 = .ok (.goto (-66), 3) := dk_167 255 190 (dk_at dksX0_seal_8 3 rfl rfl)
theorem dX0_seal_196 : decode cX0_seal 196 = .ok (.aload_n 3, 1) := dk_45 (dk_at dksX0_seal_8 6 rfl rfl)
theorem dX0_seal_197 : decode cX0_seal 197 = .ok (.iload 5, 2) := dk_21 5 (dk_at dksX0_seal_8 7 rfl rfl)
theorem dX0_seal_199 : decode cX0_seal 199 = .ok (.iload 6, 2) := dk_21 6 (dk_at dksX0_seal_8 9 rfl rfl)
theorem dX0_seal_201 : decode cX0_seal 201 = .ok (.sipush 251, 3) := dk_17 0 251 (dk_at dksX0_seal_8 11 rfl rfl)
theorem dX0_seal_204 : decode cX0_seal 204 = .ok (.irem, 1) := dk_112 (dk_at dksX0_seal_8 14 rfl rfl)
theorem dX0_seal_205 : decode cX0_seal 205 = .ok (.i2l, 1) := dk_133 (dk_at dksX0_seal_8 15 rfl rfl)
theorem dX0_seal_206 : decode cX0_seal 206 = .ok (.invokevirtual 116, 3) := dk_182 0 116 (dk_at dksX0_seal_8 16 rfl rfl)
theorem dX0_seal_209 : decode cX0_seal 209 = .ok (.aload_n 0, 1) := dk_42 (dk_at dksX0_seal_8 19 rfl rfl)
theorem dX0_seal_210 : decode cX0_seal 210 = .ok (.iload 4, 2) := dk_21 4 (dk_at dksX0_seal_8 20 rfl rfl)
theorem dX0_seal_212 : decode cX0_seal 212 = .ok (.iconst 3, 1) := dk_6 (dk_at dksX0_seal_8 22 rfl rfl)
theorem dX0_seal_213 : decode cX0_seal 213 = .ok (.iadd, 1) := dk_96 (dk_at dksX0_seal_8 23 rfl rfl)
theorem dX0_seal_214 : decode cX0_seal 214 = .ok (.invokevirtual 197, 3) := dk_182 0 197 (dk_at dksX0_seal_9 0 rfl rfl)
theorem dX0_seal_217 : decode cX0_seal 217 = .ok (.ireturn, 1) := dk_172 (dk_at dksX0_seal_9 3 rfl rfl)
abbrev cX0_open : ByteArray := prog_1_method_85_code
def yX0_open : MethodName := ⟨RX0, "open", "(I)I"⟩
def dkwX0_open_11 : List UInt8 := [167, 0, 9, 42, 16, 9, 182, 0, 124, 172]
abbrev dktX0_open_11 : List UInt8 := dkwX0_open_11 ++ []
def dkwX0_open_10 : List UInt8 := [148, 154, 0, 24, 42, 180, 0, 37, 21, 4, 182, 0, 254, 153, 0, 12, 42, 21, 4, 182, 0, 197]
abbrev dktX0_open_10 : List UInt8 := dkwX0_open_10 ++ dktX0_open_11
def dkwX0_open_9 : List UInt8 := [136, 96, 54, 5, 132, 6, 1, 167, 255, 148, 44, 5, 29, 96, 182, 0, 128, 21, 5, 17, 0, 251, 112, 133]
abbrev dktX0_open_9 : List UInt8 := dkwX0_open_9 ++ dktX0_open_10
def dkwX0_open_8 : List UInt8 := [16, 9, 182, 0, 124, 172, 21, 4, 4, 22, 7, 20, 1, 165, 109, 136, 120, 128, 54, 4, 21, 5, 22, 7]
abbrev dktX0_open_8 : List UInt8 := dkwX0_open_8 ++ dktX0_open_9
def dkwX0_open_7 : List UInt8 := [22, 7, 20, 1, 165, 113, 148, 154, 0, 16, 21, 4, 22, 7, 20, 1, 165, 109, 136, 122, 153, 0, 10, 42]
abbrev dktX0_open_7 : List UInt8 := dkwX0_open_7 ++ dktX0_open_8
def dkwX0_open_6 : List UInt8 := [182, 0, 224, 153, 0, 43, 42, 180, 0, 37, 180, 0, 208, 22, 7, 136, 8, 108, 50, 182, 0, 212, 133]
abbrev dktX0_open_6 : List UInt8 := dkwX0_open_6 ++ dktX0_open_7
def dkwX0_open_5 : List UInt8 := [5, 21, 6, 96, 182, 0, 128, 55, 7, 22, 7, 9, 148, 155, 0, 56, 42, 22, 7, 20, 1, 165, 109]
abbrev dktX0_open_5 : List UInt8 := dkwX0_open_5 ++ dktX0_open_6
def dkwX0_open_4 : List UInt8 := [42, 7, 182, 0, 124, 172, 3, 54, 4, 4, 29, 96, 54, 5, 3, 54, 6, 21, 6, 29, 162, 0, 108, 44]
abbrev dktX0_open_4 : List UInt8 := dkwX0_open_4 ++ dktX0_open_5
def dkwX0_open_3 : List UInt8 := [42, 16, 9, 182, 0, 124, 172, 44, 4, 182, 0, 128, 136, 62, 44, 182, 1, 65, 29, 6, 96, 162, 0, 9]
abbrev dktX0_open_3 : List UInt8 := dkwX0_open_3 ++ dktX0_open_4
def dkwX0_open_2 : List UInt8 := [3, 182, 0, 128, 10, 148, 154, 0, 18, 44, 4, 182, 0, 128, 9, 20, 1, 59, 184, 1, 61, 154, 0, 10]
abbrev dktX0_open_2 : List UInt8 := dkwX0_open_2 ++ dktX0_open_3
def dkwX0_open_1 : List UInt8 := [199, 0, 9, 42, 6, 182, 0, 124, 172, 44, 182, 1, 65, 6, 162, 0, 9, 42, 7, 182, 0, 124, 172, 44]
abbrev dktX0_open_1 : List UInt8 := dkwX0_open_1 ++ dktX0_open_2
def dkwX0_open_0 : List UInt8 := [27, 184, 0, 107, 154, 0, 9, 42, 4, 182, 0, 124, 172, 42, 180, 0, 11, 27, 50, 77, 44, 180, 0, 134]
abbrev dktX0_open_0 : List UInt8 := dkwX0_open_0 ++ dktX0_open_1
theorem dksX0_open_0 : cX0_open.data.toList.drop 0 = dktX0_open_0 := by decide +kernel
theorem dksX0_open_1 : cX0_open.data.toList.drop 24 = dktX0_open_1 := dk_seg dksX0_open_0 24 rfl rfl
theorem dksX0_open_2 : cX0_open.data.toList.drop 48 = dktX0_open_2 := dk_seg dksX0_open_1 24 rfl rfl
theorem dksX0_open_3 : cX0_open.data.toList.drop 72 = dktX0_open_3 := dk_seg dksX0_open_2 24 rfl rfl
theorem dksX0_open_4 : cX0_open.data.toList.drop 96 = dktX0_open_4 := dk_seg dksX0_open_3 24 rfl rfl
theorem dksX0_open_5 : cX0_open.data.toList.drop 120 = dktX0_open_5 := dk_seg dksX0_open_4 24 rfl rfl
theorem dksX0_open_6 : cX0_open.data.toList.drop 143 = dktX0_open_6 := dk_seg dksX0_open_5 23 rfl rfl
theorem dksX0_open_7 : cX0_open.data.toList.drop 166 = dktX0_open_7 := dk_seg dksX0_open_6 23 rfl rfl
theorem dksX0_open_8 : cX0_open.data.toList.drop 190 = dktX0_open_8 := dk_seg dksX0_open_7 24 rfl rfl
theorem dksX0_open_9 : cX0_open.data.toList.drop 214 = dktX0_open_9 := dk_seg dksX0_open_8 24 rfl rfl
theorem dksX0_open_10 : cX0_open.data.toList.drop 238 = dktX0_open_10 := dk_seg dksX0_open_9 24 rfl rfl
theorem dksX0_open_11 : cX0_open.data.toList.drop 260 = dktX0_open_11 := dk_seg dksX0_open_10 22 rfl rfl
theorem dX0_open_0 : decode cX0_open 0 = .ok (.iload_n 1, 1) := dk_27 (dk_at dksX0_open_0 0 rfl rfl)
theorem dX0_open_1 : decode cX0_open 1 = .ok (.invokestatic 107, 3) := dk_184 0 107 (dk_at dksX0_open_0 1 rfl rfl)
theorem dX0_open_4 : decode cX0_open 4 = .ok (.ifCond .ne 9, 3) := dk_154 0 9 (dk_at dksX0_open_0 4 rfl rfl)
theorem dX0_open_7 : decode cX0_open 7 = .ok (.aload_n 0, 1) := dk_42 (dk_at dksX0_open_0 7 rfl rfl)
theorem dX0_open_8 : decode cX0_open 8 = .ok (.iconst 1, 1) := dk_4 (dk_at dksX0_open_0 8 rfl rfl)
theorem dX0_open_9 : decode cX0_open 9 = .ok (.invokevirtual 124, 3) := dk_182 0 124 (dk_at dksX0_open_0 9 rfl rfl)
theorem dX0_open_12 : decode cX0_open 12 = .ok (.ireturn, 1) := dk_172 (dk_at dksX0_open_0 12 rfl rfl)
theorem dX0_open_13 : decode cX0_open 13 = .ok (.aload_n 0, 1) := dk_42 (dk_at dksX0_open_0 13 rfl rfl)
theorem dX0_open_14 : decode cX0_open 14 = .ok (.getfield 11, 3) := dk_180 0 11 (dk_at dksX0_open_0 14 rfl rfl)
theorem dX0_open_17 : decode cX0_open 17 = .ok (.iload_n 1, 1) := dk_27 (dk_at dksX0_open_0 17 rfl rfl)
theorem dX0_open_18 : decode cX0_open 18 = .ok (.aaload, 1) := dk_50 (dk_at dksX0_open_0 18 rfl rfl)
theorem dX0_open_19 : decode cX0_open 19 = .ok (.astore_n 2, 1) := dk_77 (dk_at dksX0_open_0 19 rfl rfl)
theorem dX0_open_20 : decode cX0_open 20 = .ok (.aload_n 2, 1) := dk_44 (dk_at dksX0_open_0 20 rfl rfl)
theorem dX0_open_21 : decode cX0_open 21 = .ok (.getfield 134, 3) := dk_180 0 134 (dk_at dksX0_open_0 21 rfl rfl)
theorem dX0_open_24 : decode cX0_open 24 = .ok (.ifnonnull 9, 3) := dk_199 0 9 (dk_at dksX0_open_1 0 rfl rfl)
theorem dX0_open_27 : decode cX0_open 27 = .ok (.aload_n 0, 1) := dk_42 (dk_at dksX0_open_1 3 rfl rfl)
theorem dX0_open_28 : decode cX0_open 28 = .ok (.iconst 3, 1) := dk_6 (dk_at dksX0_open_1 4 rfl rfl)
theorem dX0_open_29 : decode cX0_open 29 = .ok (.invokevirtual 124, 3) := dk_182 0 124 (dk_at dksX0_open_1 5 rfl rfl)
theorem dX0_open_32 : decode cX0_open 32 = .ok (.ireturn, 1) := dk_172 (dk_at dksX0_open_1 8 rfl rfl)
theorem dX0_open_33 : decode cX0_open 33 = .ok (.aload_n 2, 1) := dk_44 (dk_at dksX0_open_1 9 rfl rfl)
theorem dX0_open_34 : decode cX0_open 34 = .ok (.invokevirtual 321, 3) := dk_182 1 65 (dk_at dksX0_open_1 10 rfl rfl)
theorem dX0_open_37 : decode cX0_open 37 = .ok (.iconst 3, 1) := dk_6 (dk_at dksX0_open_1 13 rfl rfl)
theorem dX0_open_38 : decode cX0_open 38 = .ok (.if_icmp .ge 9, 3) := dk_162 0 9 (dk_at dksX0_open_1 14 rfl rfl)
theorem dX0_open_41 : decode cX0_open 41 = .ok (.aload_n 0, 1) := dk_42 (dk_at dksX0_open_1 17 rfl rfl)
theorem dX0_open_42 : decode cX0_open 42 = .ok (.iconst 4, 1) := dk_7 (dk_at dksX0_open_1 18 rfl rfl)
theorem dX0_open_43 : decode cX0_open 43 = .ok (.invokevirtual 124, 3) := dk_182 0 124 (dk_at dksX0_open_1 19 rfl rfl)
theorem dX0_open_46 : decode cX0_open 46 = .ok (.ireturn, 1) := dk_172 (dk_at dksX0_open_1 22 rfl rfl)
theorem dX0_open_47 : decode cX0_open 47 = .ok (.aload_n 2, 1) := dk_44 (dk_at dksX0_open_1 23 rfl rfl)
theorem dX0_open_48 : decode cX0_open 48 = .ok (.iconst 0, 1) := dk_3 (dk_at dksX0_open_2 0 rfl rfl)
theorem dX0_open_49 : decode cX0_open 49 = .ok (.invokevirtual 128, 3) := dk_182 0 128 (dk_at dksX0_open_2 1 rfl rfl)
theorem dX0_open_52 : decode cX0_open 52 = .ok (.lconst 1, 1) := dk_10 (dk_at dksX0_open_2 4 rfl rfl)
theorem dX0_open_53 : decode cX0_open 53 = .ok (.lcmp, 1) := dk_148 (dk_at dksX0_open_2 5 rfl rfl)
theorem dX0_open_54 : decode cX0_open 54 = .ok (.ifCond .ne 18, 3) := dk_154 0 18 (dk_at dksX0_open_2 6 rfl rfl)
theorem dX0_open_57 : decode cX0_open 57 = .ok (.aload_n 2, 1) := dk_44 (dk_at dksX0_open_2 9 rfl rfl)
theorem dX0_open_58 : decode cX0_open 58 = .ok (.iconst 1, 1) := dk_4 (dk_at dksX0_open_2 10 rfl rfl)
theorem dX0_open_59 : decode cX0_open 59 = .ok (.invokevirtual 128, 3) := dk_182 0 128 (dk_at dksX0_open_2 11 rfl rfl)
theorem dX0_open_62 : decode cX0_open 62 = .ok (.lconst 0, 1) := dk_9 (dk_at dksX0_open_2 14 rfl rfl)
theorem dX0_open_63 : decode cX0_open 63 = .ok (.ldc2_w 315, 3) := dk_20 1 59 (dk_at dksX0_open_2 15 rfl rfl)
theorem dX0_open_66 : decode cX0_open 66 = .ok (.invokestatic 317, 3) := dk_184 1 61 (dk_at dksX0_open_2 18 rfl rfl)
theorem dX0_open_69 : decode cX0_open 69 = .ok (.ifCond .ne 10, 3) := dk_154 0 10 (dk_at dksX0_open_2 21 rfl rfl)
theorem dX0_open_72 : decode cX0_open 72 = .ok (.aload_n 0, 1) := dk_42 (dk_at dksX0_open_3 0 rfl rfl)
theorem dX0_open_73 : decode cX0_open 73 = .ok (.bipush 9, 2) := dk_16 9 (dk_at dksX0_open_3 1 rfl rfl)
theorem dX0_open_75 : decode cX0_open 75 = .ok (.invokevirtual 124, 3) := dk_182 0 124 (dk_at dksX0_open_3 3 rfl rfl)
theorem dX0_open_78 : decode cX0_open 78 = .ok (.ireturn, 1) := dk_172 (dk_at dksX0_open_3 6 rfl rfl)
theorem dX0_open_79 : decode cX0_open 79 = .ok (.aload_n 2, 1) := dk_44 (dk_at dksX0_open_3 7 rfl rfl)
theorem dX0_open_80 : decode cX0_open 80 = .ok (.iconst 1, 1) := dk_4 (dk_at dksX0_open_3 8 rfl rfl)
theorem dX0_open_81 : decode cX0_open 81 = .ok (.invokevirtual 128, 3) := dk_182 0 128 (dk_at dksX0_open_3 9 rfl rfl)
theorem dX0_open_84 : decode cX0_open 84 = .ok (.l2i, 1) := dk_136 (dk_at dksX0_open_3 12 rfl rfl)
theorem dX0_open_85 : decode cX0_open 85 = .ok (.istore_n 3, 1) := dk_62 (dk_at dksX0_open_3 13 rfl rfl)
theorem dX0_open_86 : decode cX0_open 86 = .ok (.aload_n 2, 1) := dk_44 (dk_at dksX0_open_3 14 rfl rfl)
theorem dX0_open_87 : decode cX0_open 87 = .ok (.invokevirtual 321, 3) := dk_182 1 65 (dk_at dksX0_open_3 15 rfl rfl)
theorem dX0_open_90 : decode cX0_open 90 = .ok (.iload_n 3, 1) := dk_29 (dk_at dksX0_open_3 18 rfl rfl)
theorem dX0_open_91 : decode cX0_open 91 = .ok (.iconst 3, 1) := dk_6 (dk_at dksX0_open_3 19 rfl rfl)
theorem dX0_open_92 : decode cX0_open 92 = .ok (.iadd, 1) := dk_96 (dk_at dksX0_open_3 20 rfl rfl)
theorem dX0_open_93 : decode cX0_open 93 = .ok (.if_icmp .ge 9, 3) := dk_162 0 9 (dk_at dksX0_open_3 21 rfl rfl)
theorem dX0_open_96 : decode cX0_open 96 = .ok (.aload_n 0, 1) := dk_42 (dk_at dksX0_open_4 0 rfl rfl)
theorem dX0_open_97 : decode cX0_open 97 = .ok (.iconst 4, 1) := dk_7 (dk_at dksX0_open_4 1 rfl rfl)
theorem dX0_open_98 : decode cX0_open 98 = .ok (.invokevirtual 124, 3) := dk_182 0 124 (dk_at dksX0_open_4 2 rfl rfl)
theorem dX0_open_101 : decode cX0_open 101 = .ok (.ireturn, 1) := dk_172 (dk_at dksX0_open_4 5 rfl rfl)
theorem dX0_open_102 : decode cX0_open 102 = .ok (.iconst 0, 1) := dk_3 (dk_at dksX0_open_4 6 rfl rfl)
theorem dX0_open_103 : decode cX0_open 103 = .ok (.istore 4, 2) := dk_54 4 (dk_at dksX0_open_4 7 rfl rfl)
theorem dX0_open_105 : decode cX0_open 105 = .ok (.iconst 1, 1) := dk_4 (dk_at dksX0_open_4 9 rfl rfl)
theorem dX0_open_106 : decode cX0_open 106 = .ok (.iload_n 3, 1) := dk_29 (dk_at dksX0_open_4 10 rfl rfl)
theorem dX0_open_107 : decode cX0_open 107 = .ok (.iadd, 1) := dk_96 (dk_at dksX0_open_4 11 rfl rfl)
theorem dX0_open_108 : decode cX0_open 108 = .ok (.istore 5, 2) := dk_54 5 (dk_at dksX0_open_4 12 rfl rfl)
theorem dX0_open_110 : decode cX0_open 110 = .ok (.iconst 0, 1) := dk_3 (dk_at dksX0_open_4 14 rfl rfl)
theorem dX0_open_111 : decode cX0_open 111 = .ok (.istore 6, 2) := dk_54 6 (dk_at dksX0_open_4 15 rfl rfl)
theorem dX0_open_113 : decode cX0_open 113 = .ok (.iload 6, 2) := dk_21 6 (dk_at dksX0_open_4 17 rfl rfl)
theorem dX0_open_115 : decode cX0_open 115 = .ok (.iload_n 3, 1) := dk_29 (dk_at dksX0_open_4 19 rfl rfl)
theorem dX0_open_116 : decode cX0_open 116 = .ok (.if_icmp .ge 108, 3) := dk_162 0 108 (dk_at dksX0_open_4 20 rfl rfl)
theorem dX0_open_119 : decode cX0_open 119 = .ok (.aload_n 2, 1) := dk_44 (dk_at dksX0_open_4 23 rfl rfl)
theorem dX0_open_120 : decode cX0_open 120 = .ok (.iconst 2, 1) := dk_5 (dk_at dksX0_open_5 0 rfl rfl)
theorem dX0_open_121 : decode cX0_open 121 = .ok (.iload 6, 2) := dk_21 6 (dk_at dksX0_open_5 1 rfl rfl)
theorem dX0_open_123 : decode cX0_open 123 = .ok (.iadd, 1) := dk_96 (dk_at dksX0_open_5 3 rfl rfl)
theorem dX0_open_124 : decode cX0_open 124 = .ok (.invokevirtual 128, 3) := dk_182 0 128 (dk_at dksX0_open_5 4 rfl rfl)
theorem dX0_open_127 : decode cX0_open 127 = .ok (.lstore 7, 2) := dk_55 7 (dk_at dksX0_open_5 7 rfl rfl)
theorem dX0_open_129 : decode cX0_open 129 = .ok (.lload 7, 2) := dk_22 7 (dk_at dksX0_open_5 9 rfl rfl)
theorem dX0_open_131 : decode cX0_open 131 = .ok (.lconst 0, 1) := dk_9 (dk_at dksX0_open_5 11 rfl rfl)
theorem dX0_open_132 : decode cX0_open 132 = .ok (.lcmp, 1) := dk_148 (dk_at dksX0_open_5 12 rfl rfl)
theorem dX0_open_133 : decode cX0_open 133 = .ok (.ifCond .lt 56, 3) := dk_155 0 56 (dk_at dksX0_open_5 13 rfl rfl)
theorem dX0_open_136 : decode cX0_open 136 = .ok (.aload_n 0, 1) := dk_42 (dk_at dksX0_open_5 16 rfl rfl)
theorem dX0_open_137 : decode cX0_open 137 = .ok (.lload 7, 2) := dk_22 7 (dk_at dksX0_open_5 17 rfl rfl)
theorem dX0_open_139 : decode cX0_open 139 = .ok (.ldc2_w 421, 3) := dk_20 1 165 (dk_at dksX0_open_5 19 rfl rfl)
theorem dX0_open_142 : decode cX0_open 142 = .ok (.ldiv, 1) := dk_109 (dk_at dksX0_open_5 22 rfl rfl)
theorem dX0_open_143 : decode cX0_open 143 = .ok (.invokevirtual 224, 3) := dk_182 0 224 (dk_at dksX0_open_6 0 rfl rfl)
theorem dX0_open_146 : decode cX0_open 146 = .ok (.ifCond .eq 43, 3) := dk_153 0 43 (dk_at dksX0_open_6 3 rfl rfl)
theorem dX0_open_149 : decode cX0_open 149 = .ok (.aload_n 0, 1) := dk_42 (dk_at dksX0_open_6 6 rfl rfl)
theorem dX0_open_150 : decode cX0_open 150 = .ok (.getfield 37, 3) := dk_180 0 37 (dk_at dksX0_open_6 7 rfl rfl)
theorem dX0_open_153 : decode cX0_open 153 = .ok (.getfield 208, 3) := dk_180 0 208 (dk_at dksX0_open_6 10 rfl rfl)
theorem dX0_open_156 : decode cX0_open 156 = .ok (.lload 7, 2) := dk_22 7 (dk_at dksX0_open_6 13 rfl rfl)
theorem dX0_open_158 : decode cX0_open 158 = .ok (.l2i, 1) := dk_136 (dk_at dksX0_open_6 15 rfl rfl)
theorem dX0_open_159 : decode cX0_open 159 = .ok (.iconst 5, 1) := dk_8 (dk_at dksX0_open_6 16 rfl rfl)
theorem dX0_open_160 : decode cX0_open 160 = .ok (.idiv, 1) := dk_108 (dk_at dksX0_open_6 17 rfl rfl)
theorem dX0_open_161 : decode cX0_open 161 = .ok (.aaload, 1) := dk_50 (dk_at dksX0_open_6 18 rfl rfl)
theorem dX0_open_162 : decode cX0_open 162 = .ok (.invokevirtual 212, 3) := dk_182 0 212 (dk_at dksX0_open_6 19 rfl rfl)
theorem dX0_open_165 : decode cX0_open 165 = .ok (.i2l, 1) := dk_133 (dk_at dksX0_open_6 22 rfl rfl)
theorem dX0_open_166 : decode cX0_open 166 = .ok (.lload 7, 2) := dk_22 7 (dk_at dksX0_open_7 0 rfl rfl)
theorem dX0_open_168 : decode cX0_open 168 = .ok (.ldc2_w 421, 3) := dk_20 1 165 (dk_at dksX0_open_7 2 rfl rfl)
theorem dX0_open_171 : decode cX0_open 171 = .ok (.lrem, 1) := dk_113 (dk_at dksX0_open_7 5 rfl rfl)
theorem dX0_open_172 : decode cX0_open 172 = .ok (.lcmp, 1) := dk_148 (dk_at dksX0_open_7 6 rfl rfl)
theorem dX0_open_173 : decode cX0_open 173 = .ok (.ifCond .ne 16, 3) := dk_154 0 16 (dk_at dksX0_open_7 7 rfl rfl)
theorem dX0_open_176 : decode cX0_open 176 = .ok (.iload 4, 2) := dk_21 4 (dk_at dksX0_open_7 10 rfl rfl)
theorem dX0_open_178 : decode cX0_open 178 = .ok (.lload 7, 2) := dk_22 7 (dk_at dksX0_open_7 12 rfl rfl)
theorem dX0_open_180 : decode cX0_open 180 = .ok (.ldc2_w 421, 3) := dk_20 1 165 (dk_at dksX0_open_7 14 rfl rfl)
theorem dX0_open_183 : decode cX0_open 183 = .ok (.ldiv, 1) := dk_109 (dk_at dksX0_open_7 17 rfl rfl)
theorem dX0_open_184 : decode cX0_open 184 = .ok (.l2i, 1) := dk_136 (dk_at dksX0_open_7 18 rfl rfl)
theorem dX0_open_185 : decode cX0_open 185 = .ok (.ishr, 1) := dk_122 (dk_at dksX0_open_7 19 rfl rfl)
theorem dX0_open_186 : decode cX0_open 186 = .ok (.ifCond .eq 10, 3) := dk_153 0 10 (dk_at dksX0_open_7 20 rfl rfl)
theorem dX0_open_189 : decode cX0_open 189 = .ok (.aload_n 0, 1) := dk_42 (dk_at dksX0_open_7 23 rfl rfl)
theorem dX0_open_190 : decode cX0_open 190 = .ok (.bipush 9, 2) := dk_16 9 (dk_at dksX0_open_8 0 rfl rfl)
theorem dX0_open_192 : decode cX0_open 192 = .ok (.invokevirtual 124, 3) := dk_182 0 124 (dk_at dksX0_open_8 2 rfl rfl)
theorem dX0_open_195 : decode cX0_open 195 = .ok (.ireturn, 1) := dk_172 (dk_at dksX0_open_8 5 rfl rfl)
theorem dX0_open_196 : decode cX0_open 196 = .ok (.iload 4, 2) := dk_21 4 (dk_at dksX0_open_8 6 rfl rfl)
theorem dX0_open_198 : decode cX0_open 198 = .ok (.iconst 1, 1) := dk_4 (dk_at dksX0_open_8 8 rfl rfl)
theorem dX0_open_199 : decode cX0_open 199 = .ok (.lload 7, 2) := dk_22 7 (dk_at dksX0_open_8 9 rfl rfl)
theorem dX0_open_201 : decode cX0_open 201 = .ok (.ldc2_w 421, 3) := dk_20 1 165 (dk_at dksX0_open_8 11 rfl rfl)
theorem dX0_open_204 : decode cX0_open 204 = .ok (.ldiv, 1) := dk_109 (dk_at dksX0_open_8 14 rfl rfl)
theorem dX0_open_205 : decode cX0_open 205 = .ok (.l2i, 1) := dk_136 (dk_at dksX0_open_8 15 rfl rfl)
theorem dX0_open_206 : decode cX0_open 206 = .ok (.ishl, 1) := dk_120 (dk_at dksX0_open_8 16 rfl rfl)
theorem dX0_open_207 : decode cX0_open 207 = .ok (.ior, 1) := dk_128 (dk_at dksX0_open_8 17 rfl rfl)
theorem dX0_open_208 : decode cX0_open 208 = .ok (.istore 4, 2) := dk_54 4 (dk_at dksX0_open_8 18 rfl rfl)
theorem dX0_open_210 : decode cX0_open 210 = .ok (.iload 5, 2) := dk_21 5 (dk_at dksX0_open_8 20 rfl rfl)
theorem dX0_open_212 : decode cX0_open 212 = .ok (.lload 7, 2) := dk_22 7 (dk_at dksX0_open_8 22 rfl rfl)
theorem dX0_open_214 : decode cX0_open 214 = .ok (.l2i, 1) := dk_136 (dk_at dksX0_open_9 0 rfl rfl)
theorem dX0_open_215 : decode cX0_open 215 = .ok (.iadd, 1) := dk_96 (dk_at dksX0_open_9 1 rfl rfl)
theorem dX0_open_216 : decode cX0_open 216 = .ok (.istore 5, 2) := dk_54 5 (dk_at dksX0_open_9 2 rfl rfl)
theorem dX0_open_218 : decode cX0_open 218 = .ok (.iinc 6 1, 3) := dk_132 6 1 (dk_at dksX0_open_9 4 rfl rfl)
theorem dX0_open_221 : decode cX0_open 221 = .ok (.goto (-108), 3) := dk_167 255 148 (dk_at dksX0_open_9 7 rfl rfl)
theorem dX0_open_224 : decode cX0_open 224 = .ok (.aload_n 2, 1) := dk_44 (dk_at dksX0_open_9 10 rfl rfl)
theorem dX0_open_225 : decode cX0_open 225 = .ok (.iconst 2, 1) := dk_5 (dk_at dksX0_open_9 11 rfl rfl)
theorem dX0_open_226 : decode cX0_open 226 = .ok (.iload_n 3, 1) := dk_29 (dk_at dksX0_open_9 12 rfl rfl)
theorem dX0_open_227 : decode cX0_open 227 = .ok (.iadd, 1) := dk_96 (dk_at dksX0_open_9 13 rfl rfl)
theorem dX0_open_228 : decode cX0_open 228 = .ok (.invokevirtual 128, 3) := dk_182 0 128 (dk_at dksX0_open_9 14 rfl rfl)
theorem dX0_open_231 : decode cX0_open 231 = .ok (.iload 5, 2) := dk_21 5 (dk_at dksX0_open_9 17 rfl rfl)
theorem dX0_open_233 : decode cX0_open 233 = .ok (.sipush 251, 3) := dk_17 0 251 (dk_at dksX0_open_9 19 rfl rfl)
theorem dX0_open_236 : decode cX0_open 236 = .ok (.irem, 1) := dk_112 (dk_at dksX0_open_9 22 rfl rfl)
theorem dX0_open_237 : decode cX0_open 237 = .ok (.i2l, 1) := dk_133 (dk_at dksX0_open_9 23 rfl rfl)
theorem dX0_open_238 : decode cX0_open 238 = .ok (.lcmp, 1) := dk_148 (dk_at dksX0_open_10 0 rfl rfl)
theorem dX0_open_239 : decode cX0_open 239 = .ok (.ifCond .ne 24, 3) := dk_154 0 24 (dk_at dksX0_open_10 1 rfl rfl)
theorem dX0_open_242 : decode cX0_open 242 = .ok (.aload_n 0, 1) := dk_42 (dk_at dksX0_open_10 4 rfl rfl)
theorem dX0_open_243 : decode cX0_open 243 = .ok (.getfield 37, 3) := dk_180 0 37 (dk_at dksX0_open_10 5 rfl rfl)
theorem dX0_open_246 : decode cX0_open 246 = .ok (.iload 4, 2) := dk_21 4 (dk_at dksX0_open_10 8 rfl rfl)
theorem dX0_open_248 : decode cX0_open 248 = .ok (.invokevirtual 254, 3) := dk_182 0 254 (dk_at dksX0_open_10 10 rfl rfl)
theorem dX0_open_251 : decode cX0_open 251 = .ok (.ifCond .eq 12, 3) := dk_153 0 12 (dk_at dksX0_open_10 13 rfl rfl)
theorem dX0_open_254 : decode cX0_open 254 = .ok (.aload_n 0, 1) := dk_42 (dk_at dksX0_open_10 16 rfl rfl)
theorem dX0_open_255 : decode cX0_open 255 = .ok (.iload 4, 2) := dk_21 4 (dk_at dksX0_open_10 17 rfl rfl)
theorem dX0_open_257 : decode cX0_open 257 = .ok (.invokevirtual 197, 3) := dk_182 0 197 (dk_at dksX0_open_10 19 rfl rfl)
theorem dX0_open_260 : decode cX0_open 260 = .ok (.goto 9, 3) := dk_167 0 9 (dk_at dksX0_open_11 0 rfl rfl)
theorem dX0_open_263 : decode cX0_open 263 = .ok (.aload_n 0, 1) := dk_42 (dk_at dksX0_open_11 3 rfl rfl)
theorem dX0_open_264 : decode cX0_open 264 = .ok (.bipush 9, 2) := dk_16 9 (dk_at dksX0_open_11 4 rfl rfl)
theorem dX0_open_266 : decode cX0_open 266 = .ok (.invokevirtual 124, 3) := dk_182 0 124 (dk_at dksX0_open_11 6 rfl rfl)
theorem dX0_open_269 : decode cX0_open 269 = .ok (.ireturn, 1) := dk_172 (dk_at dksX0_open_11 9 rfl rfl)
abbrev cX0_mark : ByteArray := prog_1_method_86_code
def yX0_mark : MethodName := ⟨RX0, "mark", "()I"⟩
def dkwX0_mark_4 : List UInt8 := [42, 89, 180, 1, 167, 4, 96, 181, 1, 167, 42, 42, 180, 1, 167, 182, 0, 197, 172]
abbrev dktX0_mark_4 : List UInt8 := dkwX0_mark_4 ++ []
def dkwX0_mark_3 : List UInt8 := [180, 0, 194, 181, 1, 175, 43, 42, 180, 0, 187, 181, 1, 176, 42, 180, 0, 92, 42, 180, 1, 167, 43, 83]
abbrev dktX0_mark_3 : List UInt8 := dkwX0_mark_3 ++ dktX0_mark_4
def dkwX0_mark_2 : List UInt8 := [16, 16, 184, 0, 141, 43, 42, 180, 0, 37, 181, 1, 173, 43, 42, 180, 0, 190, 181, 1, 174, 43, 42]
abbrev dktX0_mark_2 : List UInt8 := dkwX0_mark_2 ++ dktX0_mark_3
def dkwX0_mark_1 : List UInt8 := [180, 0, 27, 3, 43, 180, 1, 171, 3, 7, 184, 0, 141, 42, 180, 0, 31, 3, 43, 180, 1, 172, 3]
abbrev dktX0_mark_1 : List UInt8 := dkwX0_mark_1 ++ dktX0_mark_2
def dkwX0_mark_0 : List UInt8 := [42, 180, 1, 167, 6, 160, 0, 10, 42, 16, 7, 182, 0, 124, 172, 187, 0, 90, 89, 183, 1, 170, 76, 42]
abbrev dktX0_mark_0 : List UInt8 := dkwX0_mark_0 ++ dktX0_mark_1
theorem dksX0_mark_0 : cX0_mark.data.toList.drop 0 = dktX0_mark_0 := by decide +kernel
theorem dksX0_mark_1 : cX0_mark.data.toList.drop 24 = dktX0_mark_1 := dk_seg dksX0_mark_0 24 rfl rfl
theorem dksX0_mark_2 : cX0_mark.data.toList.drop 47 = dktX0_mark_2 := dk_seg dksX0_mark_1 23 rfl rfl
theorem dksX0_mark_3 : cX0_mark.data.toList.drop 70 = dktX0_mark_3 := dk_seg dksX0_mark_2 23 rfl rfl
theorem dksX0_mark_4 : cX0_mark.data.toList.drop 94 = dktX0_mark_4 := dk_seg dksX0_mark_3 24 rfl rfl
theorem dX0_mark_0 : decode cX0_mark 0 = .ok (.aload_n 0, 1) := dk_42 (dk_at dksX0_mark_0 0 rfl rfl)
theorem dX0_mark_1 : decode cX0_mark 1 = .ok (.getfield 423, 3) := dk_180 1 167 (dk_at dksX0_mark_0 1 rfl rfl)
theorem dX0_mark_4 : decode cX0_mark 4 = .ok (.iconst 3, 1) := dk_6 (dk_at dksX0_mark_0 4 rfl rfl)
theorem dX0_mark_5 : decode cX0_mark 5 = .ok (.if_icmp .ne 10, 3) := dk_160 0 10 (dk_at dksX0_mark_0 5 rfl rfl)
theorem dX0_mark_8 : decode cX0_mark 8 = .ok (.aload_n 0, 1) := dk_42 (dk_at dksX0_mark_0 8 rfl rfl)
theorem dX0_mark_9 : decode cX0_mark 9 = .ok (.bipush 7, 2) := dk_16 7 (dk_at dksX0_mark_0 9 rfl rfl)
theorem dX0_mark_11 : decode cX0_mark 11 = .ok (.invokevirtual 124, 3) := dk_182 0 124 (dk_at dksX0_mark_0 11 rfl rfl)
theorem dX0_mark_14 : decode cX0_mark 14 = .ok (.ireturn, 1) := dk_172 (dk_at dksX0_mark_0 14 rfl rfl)
theorem dX0_mark_15 : decode cX0_mark 15 = .ok (.new 90, 3) := dk_187 0 90 (dk_at dksX0_mark_0 15 rfl rfl)
theorem dX0_mark_18 : decode cX0_mark 18 = .ok (.dup, 1) := dk_89 (dk_at dksX0_mark_0 18 rfl rfl)
theorem dX0_mark_19 : decode cX0_mark 19 = .ok (.invokespecial 426, 3) := dk_183 1 170 (dk_at dksX0_mark_0 19 rfl rfl)
theorem dX0_mark_22 : decode cX0_mark 22 = .ok (.astore_n 1, 1) := dk_76 (dk_at dksX0_mark_0 22 rfl rfl)
theorem dX0_mark_23 : decode cX0_mark 23 = .ok (.aload_n 0, 1) := dk_42 (dk_at dksX0_mark_0 23 rfl rfl)
theorem dX0_mark_24 : decode cX0_mark 24 = .ok (.getfield 27, 3) := dk_180 0 27 (dk_at dksX0_mark_1 0 rfl rfl)
theorem dX0_mark_27 : decode cX0_mark 27 = .ok (.iconst 0, 1) := dk_3 (dk_at dksX0_mark_1 3 rfl rfl)
theorem dX0_mark_28 : decode cX0_mark 28 = .ok (.aload_n 1, 1) := dk_43 (dk_at dksX0_mark_1 4 rfl rfl)
theorem dX0_mark_29 : decode cX0_mark 29 = .ok (.getfield 427, 3) := dk_180 1 171 (dk_at dksX0_mark_1 5 rfl rfl)
theorem dX0_mark_32 : decode cX0_mark 32 = .ok (.iconst 0, 1) := dk_3 (dk_at dksX0_mark_1 8 rfl rfl)
theorem dX0_mark_33 : decode cX0_mark 33 = .ok (.iconst 4, 1) := dk_7 (dk_at dksX0_mark_1 9 rfl rfl)
theorem dX0_mark_34 : decode cX0_mark 34 = .ok (.invokestatic 141, 3) := dk_184 0 141 (dk_at dksX0_mark_1 10 rfl rfl)
theorem dX0_mark_37 : decode cX0_mark 37 = .ok (.aload_n 0, 1) := dk_42 (dk_at dksX0_mark_1 13 rfl rfl)
theorem dX0_mark_38 : decode cX0_mark 38 = .ok (.getfield 31, 3) := dk_180 0 31 (dk_at dksX0_mark_1 14 rfl rfl)
theorem dX0_mark_41 : decode cX0_mark 41 = .ok (.iconst 0, 1) := dk_3 (dk_at dksX0_mark_1 17 rfl rfl)
theorem dX0_mark_42 : decode cX0_mark 42 = .ok (.aload_n 1, 1) := dk_43 (dk_at dksX0_mark_1 18 rfl rfl)
theorem dX0_mark_43 : decode cX0_mark 43 = .ok (.getfield 428, 3) := dk_180 1 172 (dk_at dksX0_mark_1 19 rfl rfl)
theorem dX0_mark_46 : decode cX0_mark 46 = .ok (.iconst 0, 1) := dk_3 (dk_at dksX0_mark_1 22 rfl rfl)
theorem dX0_mark_47 : decode cX0_mark 47 = .ok (.bipush 16, 2) := dk_16 16 (dk_at dksX0_mark_2 0 rfl rfl)
theorem dX0_mark_49 : decode cX0_mark 49 = .ok (.invokestatic 141, 3) := dk_184 0 141 (dk_at dksX0_mark_2 2 rfl rfl)
theorem dX0_mark_52 : decode cX0_mark 52 = .ok (.aload_n 1, 1) := dk_43 (dk_at dksX0_mark_2 5 rfl rfl)
theorem dX0_mark_53 : decode cX0_mark 53 = .ok (.aload_n 0, 1) := dk_42 (dk_at dksX0_mark_2 6 rfl rfl)
theorem dX0_mark_54 : decode cX0_mark 54 = .ok (.getfield 37, 3) := dk_180 0 37 (dk_at dksX0_mark_2 7 rfl rfl)
theorem dX0_mark_57 : decode cX0_mark 57 = .ok (.putfield 429, 3) := dk_181 1 173 (dk_at dksX0_mark_2 10 rfl rfl)
theorem dX0_mark_60 : decode cX0_mark 60 = .ok (.aload_n 1, 1) := dk_43 (dk_at dksX0_mark_2 13 rfl rfl)
theorem dX0_mark_61 : decode cX0_mark 61 = .ok (.aload_n 0, 1) := dk_42 (dk_at dksX0_mark_2 14 rfl rfl)
theorem dX0_mark_62 : decode cX0_mark 62 = .ok (.getfield 190, 3) := dk_180 0 190 (dk_at dksX0_mark_2 15 rfl rfl)
theorem dX0_mark_65 : decode cX0_mark 65 = .ok (.putfield 430, 3) := dk_181 1 174 (dk_at dksX0_mark_2 18 rfl rfl)
theorem dX0_mark_68 : decode cX0_mark 68 = .ok (.aload_n 1, 1) := dk_43 (dk_at dksX0_mark_2 21 rfl rfl)
theorem dX0_mark_69 : decode cX0_mark 69 = .ok (.aload_n 0, 1) := dk_42 (dk_at dksX0_mark_2 22 rfl rfl)
theorem dX0_mark_70 : decode cX0_mark 70 = .ok (.getfield 194, 3) := dk_180 0 194 (dk_at dksX0_mark_3 0 rfl rfl)
theorem dX0_mark_73 : decode cX0_mark 73 = .ok (.putfield 431, 3) := dk_181 1 175 (dk_at dksX0_mark_3 3 rfl rfl)
theorem dX0_mark_76 : decode cX0_mark 76 = .ok (.aload_n 1, 1) := dk_43 (dk_at dksX0_mark_3 6 rfl rfl)
theorem dX0_mark_77 : decode cX0_mark 77 = .ok (.aload_n 0, 1) := dk_42 (dk_at dksX0_mark_3 7 rfl rfl)
theorem dX0_mark_78 : decode cX0_mark 78 = .ok (.getfield 187, 3) := dk_180 0 187 (dk_at dksX0_mark_3 8 rfl rfl)
theorem dX0_mark_81 : decode cX0_mark 81 = .ok (.putfield 432, 3) := dk_181 1 176 (dk_at dksX0_mark_3 11 rfl rfl)
theorem dX0_mark_84 : decode cX0_mark 84 = .ok (.aload_n 0, 1) := dk_42 (dk_at dksX0_mark_3 14 rfl rfl)
theorem dX0_mark_85 : decode cX0_mark 85 = .ok (.getfield 92, 3) := dk_180 0 92 (dk_at dksX0_mark_3 15 rfl rfl)
theorem dX0_mark_88 : decode cX0_mark 88 = .ok (.aload_n 0, 1) := dk_42 (dk_at dksX0_mark_3 18 rfl rfl)
theorem dX0_mark_89 : decode cX0_mark 89 = .ok (.getfield 423, 3) := dk_180 1 167 (dk_at dksX0_mark_3 19 rfl rfl)
theorem dX0_mark_92 : decode cX0_mark 92 = .ok (.aload_n 1, 1) := dk_43 (dk_at dksX0_mark_3 22 rfl rfl)
theorem dX0_mark_93 : decode cX0_mark 93 = .ok (.aastore, 1) := dk_83 (dk_at dksX0_mark_3 23 rfl rfl)
theorem dX0_mark_94 : decode cX0_mark 94 = .ok (.aload_n 0, 1) := dk_42 (dk_at dksX0_mark_4 0 rfl rfl)
theorem dX0_mark_95 : decode cX0_mark 95 = .ok (.dup, 1) := dk_89 (dk_at dksX0_mark_4 1 rfl rfl)
theorem dX0_mark_96 : decode cX0_mark 96 = .ok (.getfield 423, 3) := dk_180 1 167 (dk_at dksX0_mark_4 2 rfl rfl)
theorem dX0_mark_99 : decode cX0_mark 99 = .ok (.iconst 1, 1) := dk_4 (dk_at dksX0_mark_4 5 rfl rfl)
theorem dX0_mark_100 : decode cX0_mark 100 = .ok (.iadd, 1) := dk_96 (dk_at dksX0_mark_4 6 rfl rfl)
theorem dX0_mark_101 : decode cX0_mark 101 = .ok (.putfield 423, 3) := dk_181 1 167 (dk_at dksX0_mark_4 7 rfl rfl)
theorem dX0_mark_104 : decode cX0_mark 104 = .ok (.aload_n 0, 1) := dk_42 (dk_at dksX0_mark_4 10 rfl rfl)
theorem dX0_mark_105 : decode cX0_mark 105 = .ok (.aload_n 0, 1) := dk_42 (dk_at dksX0_mark_4 11 rfl rfl)
theorem dX0_mark_106 : decode cX0_mark 106 = .ok (.getfield 423, 3) := dk_180 1 167 (dk_at dksX0_mark_4 12 rfl rfl)
theorem dX0_mark_109 : decode cX0_mark 109 = .ok (.invokevirtual 197, 3) := dk_182 0 197 (dk_at dksX0_mark_4 15 rfl rfl)
theorem dX0_mark_112 : decode cX0_mark 112 = .ok (.ireturn, 1) := dk_172 (dk_at dksX0_mark_4 18 rfl rfl)
abbrev cX0_back : ByteArray := prog_1_method_87_code
def yX0_back : MethodName := ⟨RX0, "back", "()I"⟩
def dkwX0_back_4 : List UInt8 := [42, 180, 1, 167, 182, 0, 197, 172]
abbrev dktX0_back_4 : List UInt8 := dkwX0_back_4 ++ []
def dkwX0_back_3 : List UInt8 := [43, 180, 1, 174, 181, 0, 190, 42, 43, 180, 1, 175, 181, 0, 194, 42, 43, 180, 1, 176, 181, 0, 187, 42]
abbrev dktX0_back_3 : List UInt8 := dkwX0_back_3 ++ dktX0_back_4
def dkwX0_back_2 : List UInt8 := [43, 180, 1, 172, 3, 42, 180, 0, 31, 3, 16, 16, 184, 0, 141, 42, 43, 180, 1, 173, 181, 0, 37, 42]
abbrev dktX0_back_2 : List UInt8 := dkwX0_back_2 ++ dktX0_back_3
def dkwX0_back_1 : List UInt8 := [42, 180, 0, 92, 42, 180, 1, 167, 50, 76, 43, 180, 1, 171, 3, 42, 180, 0, 27, 3, 7, 184, 0, 141]
abbrev dktX0_back_1 : List UInt8 := dkwX0_back_1 ++ dktX0_back_2
def dkwX0_back_0 : List UInt8 := [42, 180, 1, 167, 154, 0, 10, 42, 16, 8, 182, 0, 124, 172, 42, 89, 180, 1, 167, 4, 100, 181, 1, 167]
abbrev dktX0_back_0 : List UInt8 := dkwX0_back_0 ++ dktX0_back_1
theorem dksX0_back_0 : cX0_back.data.toList.drop 0 = dktX0_back_0 := by decide +kernel
theorem dksX0_back_1 : cX0_back.data.toList.drop 24 = dktX0_back_1 := dk_seg dksX0_back_0 24 rfl rfl
theorem dksX0_back_2 : cX0_back.data.toList.drop 48 = dktX0_back_2 := dk_seg dksX0_back_1 24 rfl rfl
theorem dksX0_back_3 : cX0_back.data.toList.drop 72 = dktX0_back_3 := dk_seg dksX0_back_2 24 rfl rfl
theorem dksX0_back_4 : cX0_back.data.toList.drop 96 = dktX0_back_4 := dk_seg dksX0_back_3 24 rfl rfl
theorem dX0_back_0 : decode cX0_back 0 = .ok (.aload_n 0, 1) := dk_42 (dk_at dksX0_back_0 0 rfl rfl)
theorem dX0_back_1 : decode cX0_back 1 = .ok (.getfield 423, 3) := dk_180 1 167 (dk_at dksX0_back_0 1 rfl rfl)
theorem dX0_back_4 : decode cX0_back 4 = .ok (.ifCond .ne 10, 3) := dk_154 0 10 (dk_at dksX0_back_0 4 rfl rfl)
theorem dX0_back_7 : decode cX0_back 7 = .ok (.aload_n 0, 1) := dk_42 (dk_at dksX0_back_0 7 rfl rfl)
theorem dX0_back_8 : decode cX0_back 8 = .ok (.bipush 8, 2) := dk_16 8 (dk_at dksX0_back_0 8 rfl rfl)
theorem dX0_back_10 : decode cX0_back 10 = .ok (.invokevirtual 124, 3) := dk_182 0 124 (dk_at dksX0_back_0 10 rfl rfl)
theorem dX0_back_13 : decode cX0_back 13 = .ok (.ireturn, 1) := dk_172 (dk_at dksX0_back_0 13 rfl rfl)
theorem dX0_back_14 : decode cX0_back 14 = .ok (.aload_n 0, 1) := dk_42 (dk_at dksX0_back_0 14 rfl rfl)
theorem dX0_back_15 : decode cX0_back 15 = .ok (.dup, 1) := dk_89 (dk_at dksX0_back_0 15 rfl rfl)
theorem dX0_back_16 : decode cX0_back 16 = .ok (.getfield 423, 3) := dk_180 1 167 (dk_at dksX0_back_0 16 rfl rfl)
theorem dX0_back_19 : decode cX0_back 19 = .ok (.iconst 1, 1) := dk_4 (dk_at dksX0_back_0 19 rfl rfl)
theorem dX0_back_20 : decode cX0_back 20 = .ok (.isub, 1) := dk_100 (dk_at dksX0_back_0 20 rfl rfl)
theorem dX0_back_21 : decode cX0_back 21 = .ok (.putfield 423, 3) := dk_181 1 167 (dk_at dksX0_back_0 21 rfl rfl)
theorem dX0_back_24 : decode cX0_back 24 = .ok (.aload_n 0, 1) := dk_42 (dk_at dksX0_back_1 0 rfl rfl)
theorem dX0_back_25 : decode cX0_back 25 = .ok (.getfield 92, 3) := dk_180 0 92 (dk_at dksX0_back_1 1 rfl rfl)
theorem dX0_back_28 : decode cX0_back 28 = .ok (.aload_n 0, 1) := dk_42 (dk_at dksX0_back_1 4 rfl rfl)
theorem dX0_back_29 : decode cX0_back 29 = .ok (.getfield 423, 3) := dk_180 1 167 (dk_at dksX0_back_1 5 rfl rfl)
theorem dX0_back_32 : decode cX0_back 32 = .ok (.aaload, 1) := dk_50 (dk_at dksX0_back_1 8 rfl rfl)
theorem dX0_back_33 : decode cX0_back 33 = .ok (.astore_n 1, 1) := dk_76 (dk_at dksX0_back_1 9 rfl rfl)
theorem dX0_back_34 : decode cX0_back 34 = .ok (.aload_n 1, 1) := dk_43 (dk_at dksX0_back_1 10 rfl rfl)
theorem dX0_back_35 : decode cX0_back 35 = .ok (.getfield 427, 3) := dk_180 1 171 (dk_at dksX0_back_1 11 rfl rfl)
theorem dX0_back_38 : decode cX0_back 38 = .ok (.iconst 0, 1) := dk_3 (dk_at dksX0_back_1 14 rfl rfl)
theorem dX0_back_39 : decode cX0_back 39 = .ok (.aload_n 0, 1) := dk_42 (dk_at dksX0_back_1 15 rfl rfl)
theorem dX0_back_40 : decode cX0_back 40 = .ok (.getfield 27, 3) := dk_180 0 27 (dk_at dksX0_back_1 16 rfl rfl)
theorem dX0_back_43 : decode cX0_back 43 = .ok (.iconst 0, 1) := dk_3 (dk_at dksX0_back_1 19 rfl rfl)
theorem dX0_back_44 : decode cX0_back 44 = .ok (.iconst 4, 1) := dk_7 (dk_at dksX0_back_1 20 rfl rfl)
theorem dX0_back_45 : decode cX0_back 45 = .ok (.invokestatic 141, 3) := dk_184 0 141 (dk_at dksX0_back_1 21 rfl rfl)
theorem dX0_back_48 : decode cX0_back 48 = .ok (.aload_n 1, 1) := dk_43 (dk_at dksX0_back_2 0 rfl rfl)
theorem dX0_back_49 : decode cX0_back 49 = .ok (.getfield 428, 3) := dk_180 1 172 (dk_at dksX0_back_2 1 rfl rfl)
theorem dX0_back_52 : decode cX0_back 52 = .ok (.iconst 0, 1) := dk_3 (dk_at dksX0_back_2 4 rfl rfl)
theorem dX0_back_53 : decode cX0_back 53 = .ok (.aload_n 0, 1) := dk_42 (dk_at dksX0_back_2 5 rfl rfl)
theorem dX0_back_54 : decode cX0_back 54 = .ok (.getfield 31, 3) := dk_180 0 31 (dk_at dksX0_back_2 6 rfl rfl)
theorem dX0_back_57 : decode cX0_back 57 = .ok (.iconst 0, 1) := dk_3 (dk_at dksX0_back_2 9 rfl rfl)
theorem dX0_back_58 : decode cX0_back 58 = .ok (.bipush 16, 2) := dk_16 16 (dk_at dksX0_back_2 10 rfl rfl)
theorem dX0_back_60 : decode cX0_back 60 = .ok (.invokestatic 141, 3) := dk_184 0 141 (dk_at dksX0_back_2 12 rfl rfl)
theorem dX0_back_63 : decode cX0_back 63 = .ok (.aload_n 0, 1) := dk_42 (dk_at dksX0_back_2 15 rfl rfl)
theorem dX0_back_64 : decode cX0_back 64 = .ok (.aload_n 1, 1) := dk_43 (dk_at dksX0_back_2 16 rfl rfl)
theorem dX0_back_65 : decode cX0_back 65 = .ok (.getfield 429, 3) := dk_180 1 173 (dk_at dksX0_back_2 17 rfl rfl)
theorem dX0_back_68 : decode cX0_back 68 = .ok (.putfield 37, 3) := dk_181 0 37 (dk_at dksX0_back_2 20 rfl rfl)
theorem dX0_back_71 : decode cX0_back 71 = .ok (.aload_n 0, 1) := dk_42 (dk_at dksX0_back_2 23 rfl rfl)
theorem dX0_back_72 : decode cX0_back 72 = .ok (.aload_n 1, 1) := dk_43 (dk_at dksX0_back_3 0 rfl rfl)
theorem dX0_back_73 : decode cX0_back 73 = .ok (.getfield 430, 3) := dk_180 1 174 (dk_at dksX0_back_3 1 rfl rfl)
theorem dX0_back_76 : decode cX0_back 76 = .ok (.putfield 190, 3) := dk_181 0 190 (dk_at dksX0_back_3 4 rfl rfl)
theorem dX0_back_79 : decode cX0_back 79 = .ok (.aload_n 0, 1) := dk_42 (dk_at dksX0_back_3 7 rfl rfl)
theorem dX0_back_80 : decode cX0_back 80 = .ok (.aload_n 1, 1) := dk_43 (dk_at dksX0_back_3 8 rfl rfl)
theorem dX0_back_81 : decode cX0_back 81 = .ok (.getfield 431, 3) := dk_180 1 175 (dk_at dksX0_back_3 9 rfl rfl)
theorem dX0_back_84 : decode cX0_back 84 = .ok (.putfield 194, 3) := dk_181 0 194 (dk_at dksX0_back_3 12 rfl rfl)
theorem dX0_back_87 : decode cX0_back 87 = .ok (.aload_n 0, 1) := dk_42 (dk_at dksX0_back_3 15 rfl rfl)
theorem dX0_back_88 : decode cX0_back 88 = .ok (.aload_n 1, 1) := dk_43 (dk_at dksX0_back_3 16 rfl rfl)
theorem dX0_back_89 : decode cX0_back 89 = .ok (.getfield 432, 3) := dk_180 1 176 (dk_at dksX0_back_3 17 rfl rfl)
theorem dX0_back_92 : decode cX0_back 92 = .ok (.putfield 187, 3) := dk_181 0 187 (dk_at dksX0_back_3 20 rfl rfl)
theorem dX0_back_95 : decode cX0_back 95 = .ok (.aload_n 0, 1) := dk_42 (dk_at dksX0_back_3 23 rfl rfl)
theorem dX0_back_96 : decode cX0_back 96 = .ok (.aload_n 0, 1) := dk_42 (dk_at dksX0_back_4 0 rfl rfl)
theorem dX0_back_97 : decode cX0_back 97 = .ok (.getfield 423, 3) := dk_180 1 167 (dk_at dksX0_back_4 1 rfl rfl)
theorem dX0_back_100 : decode cX0_back 100 = .ok (.invokevirtual 197, 3) := dk_182 0 197 (dk_at dksX0_back_4 4 rfl rfl)
theorem dX0_back_103 : decode cX0_back 103 = .ok (.ireturn, 1) := dk_172 (dk_at dksX0_back_4 7 rfl rfl)
theorem q145 : (Jvm.Cond.initialized "SwapBook") ∈ lw_all := lw_g (lw_at lw_m1 1 rfl) rfl
theorem q174 : (Jvm.Cond.instantiable "SwapBook" (37 : Nat)) ∈ lw_all := lw_g (lw_at lw_m1 30 rfl) rfl
theorem q176 : (Jvm.Cond.instanceMethod ({ cls := "SwapBook", name := "<init>", desc := "()V" } : Jvm.MethodName)) ∈ lw_all := lw_g (lw_at lw_m1 32 rfl) rfl
theorem q177 : (Jvm.Cond.code ({ cls := "SwapBook", name := "<init>", desc := "()V" } : Jvm.MethodName) prog_1_method_1_code (2 : Nat) (Option.none : Option Jvm.ClassFile.FieldType)) ∈ lw_all := lw_g (lw_at lw_m1 33 rfl) rfl
theorem q178 : (Jvm.Cond.methodLink "SwapBook" (3 : Nat) ({ cls := "java/lang/Object", name := "<init>", desc := "()V" } : Jvm.MethodName)) ∈ lw_all := lw_g (lw_at lw_m1 34 rfl) rfl
theorem q181 : (Jvm.Cond.classLink "SwapBook" (9 : Nat) "SwapBook$Tray") ∈ lw_all := lw_g (lw_at lw_m1 37 rfl) rfl
theorem q183 : (Jvm.Cond.classLink "SwapBook" (15 : Nat) "SwapBook$Reader") ∈ lw_all := lw_g (lw_at lw_m1 39 rfl) rfl
theorem q185 : (Jvm.Cond.classLink "SwapBook" (17 : Nat) "SwapBook$Wrong") ∈ lw_all := lw_g (lw_at lw_m1 41 rfl) rfl
theorem q240 : (Jvm.Cond.methodLink "SwapBook" (19 : Nat) ({ cls := "SwapBook$Wrong", name := "<init>", desc := "()V" } : Jvm.MethodName)) ∈ lw_all := lw_g (lw_at lw_m1 96 rfl) rfl
theorem q253 : (Jvm.Cond.fieldLinkNest "SwapBook" (170 : Nat) "SwapBook$Wrong" "kind" "I" "SwapBook") ∈ lw_tbl := lw_at lw_m1 109 rfl
theorem q255 : (Jvm.Cond.fieldLinkNest "SwapBook" (173 : Nat) "SwapBook$Wrong" "place" "I" "SwapBook") ∈ lw_tbl := lw_at lw_m1 111 rfl
theorem q273 : (Jvm.Cond.methodLink "SwapBook" (20 : Nat) ({ cls := "SwapBook$Reader", name := "<init>", desc := "(LSwapBook$Wrong;)V" } : Jvm.MethodName)) ∈ lw_all := lw_g (lw_at lw_m1 129 rfl) rfl
theorem q282 : (Jvm.Cond.fieldLinkNest "SwapBook" (159 : Nat) "SwapBook$Reader" "taped" "I" "SwapBook") ∈ lw_tbl := lw_at lw_m1 138 rfl
theorem q284 : (Jvm.Cond.fieldLinkNest "SwapBook" (204 : Nat) "SwapBook$Reader" "stepMany" "I" "SwapBook") ∈ lw_tbl := lw_at lw_m1 140 rfl
theorem q286 : (Jvm.Cond.fieldLinkNest "SwapBook" (205 : Nat) "SwapBook$Reader" "counted" "I" "SwapBook") ∈ lw_tbl := lw_at lw_m1 142 rfl
theorem q292 : (Jvm.Cond.fieldLink "SwapBook" (166 : Nat) "SwapBook$Reader" "tape" "[B") ∈ lw_all := lw_g (lw_at lw_m1 148 rfl) rfl
theorem q339 : (Jvm.Cond.classLink "SwapBook" (34 : Nat) "SwapBook$Book") ∈ lw_all := lw_g (lw_at lw_m1 195 rfl) rfl
theorem q341 : (Jvm.Cond.methodLinkNest "SwapBook" (36 : Nat) ({ cls := "SwapBook$Book", name := "<init>", desc := "()V" } : Jvm.MethodName) "SwapBook") ∈ lw_tbl := lw_at lw_m1 197 rfl
theorem q349 : (Jvm.Cond.fieldLink "SwapBook" (208 : Nat) "SwapBook$Book" "changes" "[LSwapBook$Change;") ∈ lw_all := lw_g (lw_at lw_m1 205 rfl) rfl
theorem q354 : (Jvm.Cond.fieldLinkNest "SwapBook" (149 : Nat) "SwapBook$Book" "many" "I" "SwapBook") ∈ lw_tbl := lw_at lw_m1 210 rfl
theorem q357 : (Jvm.Cond.fieldLinkNest "SwapBook" (152 : Nat) "SwapBook$Book" "islandMany" "I" "SwapBook") ∈ lw_tbl := lw_at lw_m1 213 rfl
theorem q368 : (Jvm.Cond.constant "SwapBook" (61 : Nat) (65536 : Int32)) ∈ lw_all := lw_g (lw_at lw_m1 224 rfl) rfl
theorem q369 : (Jvm.Cond.classLink "SwapBook" (90 : Nat) "SwapBook$Kept") ∈ lw_all := lw_g (lw_at lw_m1 225 rfl) rfl
theorem q372 : (Jvm.Cond.methodLinkNest "SwapBook" (96 : Nat) ({ cls := "SwapBook$Tray", name := "<init>", desc := "()V" } : Jvm.MethodName) "SwapBook") ∈ lw_tbl := lw_at lw_m1 228 rfl
theorem q377 : (Jvm.Cond.fieldLinkNest "SwapBook" (134 : Nat) "SwapBook$Tray" "row" "Ljava/lang/Object;" "SwapBook") ∈ lw_tbl := lw_at lw_m1 233 rfl
theorem q379 : (Jvm.Cond.fieldLinkNest "SwapBook" (138 : Nat) "SwapBook$Tray" "sort" "I" "SwapBook") ∈ lw_tbl := lw_at lw_m1 235 rfl
theorem q385 : (Jvm.Cond.fieldLink "SwapBook" (11 : Nat) "SwapBook" "trays" "[LSwapBook$Tray;") ∈ lw_all := lw_g (lw_at lw_m2 1 rfl) rfl
theorem q386 : (Jvm.Cond.fieldLink "SwapBook" (23 : Nat) "SwapBook" "reader" "LSwapBook$Reader;") ∈ lw_all := lw_g (lw_at lw_m2 2 rfl) rfl
theorem q387 : (Jvm.Cond.fieldLink "SwapBook" (27 : Nat) "SwapBook" "had" "[I") ∈ lw_all := lw_g (lw_at lw_m2 3 rfl) rfl
theorem q388 : (Jvm.Cond.fieldLink "SwapBook" (31 : Nat) "SwapBook" "order" "[I") ∈ lw_all := lw_g (lw_at lw_m2 4 rfl) rfl
theorem q389 : (Jvm.Cond.fieldLink "SwapBook" (37 : Nat) "SwapBook" "book" "LSwapBook$Book;") ∈ lw_all := lw_g (lw_at lw_m2 5 rfl) rfl
theorem q390 : (Jvm.Cond.fieldLink "SwapBook" (190 : Nat) "SwapBook" "steps" "[LSwapBook$Step;") ∈ lw_all := lw_g (lw_at lw_m2 6 rfl) rfl
theorem q391 : (Jvm.Cond.fieldLink "SwapBook" (194 : Nat) "SwapBook" "stepMany" "I") ∈ lw_all := lw_g (lw_at lw_m2 7 rfl) rfl
theorem q392 : (Jvm.Cond.fieldLink "SwapBook" (187 : Nat) "SwapBook" "orderMany" "I") ∈ lw_all := lw_g (lw_at lw_m2 8 rfl) rfl
theorem q393 : (Jvm.Cond.fieldLink "SwapBook" (97 : Nat) "SwapBook" "status" "I") ∈ lw_all := lw_g (lw_at lw_m2 9 rfl) rfl
theorem q394 : (Jvm.Cond.fieldLink "SwapBook" (41 : Nat) "SwapBook" "faultKind" "I") ∈ lw_all := lw_g (lw_at lw_m2 10 rfl) rfl
theorem q395 : (Jvm.Cond.fieldLink "SwapBook" (45 : Nat) "SwapBook" "faultPlace" "I") ∈ lw_all := lw_g (lw_at lw_m2 11 rfl) rfl
theorem q396 : (Jvm.Cond.fieldLink "SwapBook" (100 : Nat) "SwapBook" "top" "J") ∈ lw_all := lw_g (lw_at lw_m2 12 rfl) rfl
theorem q397 : (Jvm.Cond.fieldLink "SwapBook" (48 : Nat) "SwapBook" "bottom" "J") ∈ lw_all := lw_g (lw_at lw_m2 13 rfl) rfl
theorem q398 : (Jvm.Cond.fieldLink "SwapBook" (52 : Nat) "SwapBook" "things" "[I") ∈ lw_all := lw_g (lw_at lw_m2 14 rfl) rfl
theorem q399 : (Jvm.Cond.fieldLink "SwapBook" (55 : Nat) "SwapBook" "keys" "[I") ∈ lw_all := lw_g (lw_at lw_m2 15 rfl) rfl
theorem q400 : (Jvm.Cond.fieldLink "SwapBook" (58 : Nat) "SwapBook" "others" "[I") ∈ lw_all := lw_g (lw_at lw_m2 16 rfl) rfl
theorem q401 : (Jvm.Cond.fieldLink "SwapBook" (261 : Nat) "SwapBook" "thingMany" "I") ∈ lw_all := lw_g (lw_at lw_m2 17 rfl) rfl
theorem q402 : (Jvm.Cond.fieldLink "SwapBook" (62 : Nat) "SwapBook" "rest" "[J") ∈ lw_all := lw_g (lw_at lw_m2 18 rfl) rfl
theorem q403 : (Jvm.Cond.fieldLink "SwapBook" (66 : Nat) "SwapBook" "come" "[J") ∈ lw_all := lw_g (lw_at lw_m2 19 rfl) rfl
theorem q404 : (Jvm.Cond.fieldLink "SwapBook" (69 : Nat) "SwapBook" "stands" "[I") ∈ lw_all := lw_g (lw_at lw_m2 20 rfl) rfl
theorem q405 : (Jvm.Cond.fieldLink "SwapBook" (72 : Nat) "SwapBook" "cargo" "[I") ∈ lw_all := lw_g (lw_at lw_m2 21 rfl) rfl
theorem q406 : (Jvm.Cond.fieldLink "SwapBook" (75 : Nat) "SwapBook" "cargoTo" "[I") ∈ lw_all := lw_g (lw_at lw_m2 22 rfl) rfl
theorem q407 : (Jvm.Cond.fieldLink "SwapBook" (78 : Nat) "SwapBook" "cargoDay" "[I") ∈ lw_all := lw_g (lw_at lw_m2 23 rfl) rfl
theorem q408 : (Jvm.Cond.fieldLink "SwapBook" (81 : Nat) "SwapBook" "cargoShip" "[I") ∈ lw_all := lw_g (lw_at lw_m2 24 rfl) rfl
theorem q409 : (Jvm.Cond.fieldLink "SwapBook" (335 : Nat) "SwapBook" "cargoMany" "I") ∈ lw_all := lw_g (lw_at lw_m2 25 rfl) rfl
theorem q410 : (Jvm.Cond.fieldLink "SwapBook" (369 : Nat) "SwapBook" "drawn" "I") ∈ lw_all := lw_g (lw_at lw_m2 26 rfl) rfl
theorem q411 : (Jvm.Cond.fieldLink "SwapBook" (341 : Nat) "SwapBook" "day" "I") ∈ lw_all := lw_g (lw_at lw_m2 27 rfl) rfl
theorem q412 : (Jvm.Cond.fieldLink "SwapBook" (397 : Nat) "SwapBook" "missed" "I") ∈ lw_all := lw_g (lw_at lw_m2 28 rfl) rfl
theorem q413 : (Jvm.Cond.fieldLink "SwapBook" (344 : Nat) "SwapBook" "came" "I") ∈ lw_all := lw_g (lw_at lw_m2 29 rfl) rfl
theorem q414 : (Jvm.Cond.fieldLink "SwapBook" (372 : Nat) "SwapBook" "lost" "I") ∈ lw_all := lw_g (lw_at lw_m2 30 rfl) rfl
theorem q415 : (Jvm.Cond.fieldLink "SwapBook" (338 : Nat) "SwapBook" "ships" "I") ∈ lw_all := lw_g (lw_at lw_m2 31 rfl) rfl
theorem q416 : (Jvm.Cond.fieldLink "SwapBook" (400 : Nat) "SwapBook" "ranSteps" "I") ∈ lw_all := lw_g (lw_at lw_m2 32 rfl) rfl
theorem q417 : (Jvm.Cond.fieldLink "SwapBook" (84 : Nat) "SwapBook" "told" "[I") ∈ lw_all := lw_g (lw_at lw_m2 33 rfl) rfl
theorem q418 : (Jvm.Cond.fieldLink "SwapBook" (416 : Nat) "SwapBook" "isTold" "Z") ∈ lw_all := lw_g (lw_at lw_m2 34 rfl) rfl
theorem q419 : (Jvm.Cond.fieldLink "SwapBook" (87 : Nat) "SwapBook" "before" "[I") ∈ lw_all := lw_g (lw_at lw_m2 35 rfl) rfl
theorem q420 : (Jvm.Cond.fieldLink "SwapBook" (92 : Nat) "SwapBook" "kept" "[LSwapBook$Kept;") ∈ lw_all := lw_g (lw_at lw_m2 36 rfl) rfl
theorem q421 : (Jvm.Cond.fieldLink "SwapBook" (423 : Nat) "SwapBook" "marks" "I") ∈ lw_all := lw_g (lw_at lw_m2 37 rfl) rfl
theorem q422 : (Jvm.Cond.laysFinal "SwapBook" "SwapBook" "trays" "[LSwapBook$Tray;") ∈ lw_all := lw_g (lw_at lw_m2 38 rfl) rfl
theorem q423 : (Jvm.Cond.soleField "SwapBook" "trays") ∈ lw_all := lw_g (lw_at lw_m2 39 rfl) rfl
theorem q424 : (Jvm.Cond.laysFinal "SwapBook" "SwapBook" "reader" "LSwapBook$Reader;") ∈ lw_all := lw_g (lw_at lw_m2 40 rfl) rfl
theorem q425 : (Jvm.Cond.soleField "SwapBook" "reader") ∈ lw_all := lw_g (lw_at lw_m2 41 rfl) rfl
theorem q426 : (Jvm.Cond.laysFinal "SwapBook" "SwapBook" "had" "[I") ∈ lw_all := lw_g (lw_at lw_m2 42 rfl) rfl
theorem q427 : (Jvm.Cond.soleField "SwapBook" "had") ∈ lw_all := lw_g (lw_at lw_m2 43 rfl) rfl
theorem q428 : (Jvm.Cond.laysFinal "SwapBook" "SwapBook" "order" "[I") ∈ lw_all := lw_g (lw_at lw_m2 44 rfl) rfl
theorem q429 : (Jvm.Cond.soleField "SwapBook" "order") ∈ lw_all := lw_g (lw_at lw_m2 45 rfl) rfl
theorem q430 : (Jvm.Cond.lays "SwapBook" "SwapBook" "book" "LSwapBook$Book;") ∈ lw_all := lw_g (lw_at lw_m2 46 rfl) rfl
theorem q431 : (Jvm.Cond.soleField "SwapBook" "book") ∈ lw_all := lw_g (lw_at lw_m2 47 rfl) rfl
theorem q432 : (Jvm.Cond.lays "SwapBook" "SwapBook" "steps" "[LSwapBook$Step;") ∈ lw_all := lw_g (lw_at lw_m2 48 rfl) rfl
theorem q433 : (Jvm.Cond.soleField "SwapBook" "steps") ∈ lw_all := lw_g (lw_at lw_m2 49 rfl) rfl
theorem q434 : (Jvm.Cond.lays "SwapBook" "SwapBook" "stepMany" "I") ∈ lw_all := lw_g (lw_at lw_m2 50 rfl) rfl
theorem q435 : (Jvm.Cond.soleField "SwapBook" "stepMany") ∈ lw_all := lw_g (lw_at lw_m2 51 rfl) rfl
theorem q436 : (Jvm.Cond.lays "SwapBook" "SwapBook" "orderMany" "I") ∈ lw_all := lw_g (lw_at lw_m2 52 rfl) rfl
theorem q437 : (Jvm.Cond.soleField "SwapBook" "orderMany") ∈ lw_all := lw_g (lw_at lw_m2 53 rfl) rfl
theorem q438 : (Jvm.Cond.lays "SwapBook" "SwapBook" "status" "I") ∈ lw_all := lw_g (lw_at lw_m2 54 rfl) rfl
theorem q439 : (Jvm.Cond.soleField "SwapBook" "status") ∈ lw_all := lw_g (lw_at lw_m2 55 rfl) rfl
theorem q440 : (Jvm.Cond.lays "SwapBook" "SwapBook" "faultKind" "I") ∈ lw_all := lw_g (lw_at lw_m2 56 rfl) rfl
theorem q441 : (Jvm.Cond.soleField "SwapBook" "faultKind") ∈ lw_all := lw_g (lw_at lw_m2 57 rfl) rfl
theorem q442 : (Jvm.Cond.lays "SwapBook" "SwapBook" "faultPlace" "I") ∈ lw_all := lw_g (lw_at lw_m2 58 rfl) rfl
theorem q443 : (Jvm.Cond.soleField "SwapBook" "faultPlace") ∈ lw_all := lw_g (lw_at lw_m2 59 rfl) rfl
theorem q444 : (Jvm.Cond.lays "SwapBook" "SwapBook" "top" "J") ∈ lw_all := lw_g (lw_at lw_m2 60 rfl) rfl
theorem q445 : (Jvm.Cond.soleField "SwapBook" "top") ∈ lw_all := lw_g (lw_at lw_m2 61 rfl) rfl
theorem q446 : (Jvm.Cond.lays "SwapBook" "SwapBook" "bottom" "J") ∈ lw_all := lw_g (lw_at lw_m2 62 rfl) rfl
theorem q447 : (Jvm.Cond.soleField "SwapBook" "bottom") ∈ lw_all := lw_g (lw_at lw_m2 63 rfl) rfl
theorem q448 : (Jvm.Cond.laysFinal "SwapBook" "SwapBook" "things" "[I") ∈ lw_all := lw_g (lw_at lw_m2 64 rfl) rfl
theorem q449 : (Jvm.Cond.soleField "SwapBook" "things") ∈ lw_all := lw_g (lw_at lw_m2 65 rfl) rfl
theorem q450 : (Jvm.Cond.laysFinal "SwapBook" "SwapBook" "keys" "[I") ∈ lw_all := lw_g (lw_at lw_m2 66 rfl) rfl
theorem q451 : (Jvm.Cond.soleField "SwapBook" "keys") ∈ lw_all := lw_g (lw_at lw_m2 67 rfl) rfl
theorem q452 : (Jvm.Cond.laysFinal "SwapBook" "SwapBook" "others" "[I") ∈ lw_all := lw_g (lw_at lw_m2 68 rfl) rfl
theorem q453 : (Jvm.Cond.soleField "SwapBook" "others") ∈ lw_all := lw_g (lw_at lw_m2 69 rfl) rfl
theorem q454 : (Jvm.Cond.lays "SwapBook" "SwapBook" "thingMany" "I") ∈ lw_all := lw_g (lw_at lw_m2 70 rfl) rfl
theorem q455 : (Jvm.Cond.soleField "SwapBook" "thingMany") ∈ lw_all := lw_g (lw_at lw_m2 71 rfl) rfl
theorem q456 : (Jvm.Cond.laysFinal "SwapBook" "SwapBook" "rest" "[J") ∈ lw_all := lw_g (lw_at lw_m2 72 rfl) rfl
theorem q457 : (Jvm.Cond.soleField "SwapBook" "rest") ∈ lw_all := lw_g (lw_at lw_m2 73 rfl) rfl
theorem q458 : (Jvm.Cond.laysFinal "SwapBook" "SwapBook" "come" "[J") ∈ lw_all := lw_g (lw_at lw_m2 74 rfl) rfl
theorem q459 : (Jvm.Cond.soleField "SwapBook" "come") ∈ lw_all := lw_g (lw_at lw_m2 75 rfl) rfl
theorem q460 : (Jvm.Cond.laysFinal "SwapBook" "SwapBook" "stands" "[I") ∈ lw_all := lw_g (lw_at lw_m2 76 rfl) rfl
theorem q461 : (Jvm.Cond.soleField "SwapBook" "stands") ∈ lw_all := lw_g (lw_at lw_m2 77 rfl) rfl
theorem q462 : (Jvm.Cond.laysFinal "SwapBook" "SwapBook" "cargo" "[I") ∈ lw_all := lw_g (lw_at lw_m2 78 rfl) rfl
theorem q463 : (Jvm.Cond.soleField "SwapBook" "cargo") ∈ lw_all := lw_g (lw_at lw_m2 79 rfl) rfl
theorem q464 : (Jvm.Cond.laysFinal "SwapBook" "SwapBook" "cargoTo" "[I") ∈ lw_all := lw_g (lw_at lw_m2 80 rfl) rfl
theorem q465 : (Jvm.Cond.soleField "SwapBook" "cargoTo") ∈ lw_all := lw_g (lw_at lw_m2 81 rfl) rfl
theorem q466 : (Jvm.Cond.laysFinal "SwapBook" "SwapBook" "cargoDay" "[I") ∈ lw_all := lw_g (lw_at lw_m2 82 rfl) rfl
theorem q467 : (Jvm.Cond.soleField "SwapBook" "cargoDay") ∈ lw_all := lw_g (lw_at lw_m2 83 rfl) rfl
theorem q468 : (Jvm.Cond.laysFinal "SwapBook" "SwapBook" "cargoShip" "[I") ∈ lw_all := lw_g (lw_at lw_m2 84 rfl) rfl
theorem q469 : (Jvm.Cond.soleField "SwapBook" "cargoShip") ∈ lw_all := lw_g (lw_at lw_m2 85 rfl) rfl
theorem q470 : (Jvm.Cond.lays "SwapBook" "SwapBook" "cargoMany" "I") ∈ lw_all := lw_g (lw_at lw_m2 86 rfl) rfl
theorem q471 : (Jvm.Cond.soleField "SwapBook" "cargoMany") ∈ lw_all := lw_g (lw_at lw_m2 87 rfl) rfl
theorem q472 : (Jvm.Cond.lays "SwapBook" "SwapBook" "drawn" "I") ∈ lw_all := lw_g (lw_at lw_m2 88 rfl) rfl
theorem q473 : (Jvm.Cond.soleField "SwapBook" "drawn") ∈ lw_all := lw_g (lw_at lw_m2 89 rfl) rfl
theorem q474 : (Jvm.Cond.lays "SwapBook" "SwapBook" "day" "I") ∈ lw_all := lw_g (lw_at lw_m2 90 rfl) rfl
theorem q475 : (Jvm.Cond.soleField "SwapBook" "day") ∈ lw_all := lw_g (lw_at lw_m2 91 rfl) rfl
theorem q476 : (Jvm.Cond.lays "SwapBook" "SwapBook" "missed" "I") ∈ lw_all := lw_g (lw_at lw_m2 92 rfl) rfl
theorem q477 : (Jvm.Cond.soleField "SwapBook" "missed") ∈ lw_all := lw_g (lw_at lw_m2 93 rfl) rfl
theorem q478 : (Jvm.Cond.lays "SwapBook" "SwapBook" "came" "I") ∈ lw_all := lw_g (lw_at lw_m2 94 rfl) rfl
theorem q479 : (Jvm.Cond.soleField "SwapBook" "came") ∈ lw_all := lw_g (lw_at lw_m2 95 rfl) rfl
theorem q480 : (Jvm.Cond.lays "SwapBook" "SwapBook" "lost" "I") ∈ lw_all := lw_g (lw_at lw_m2 96 rfl) rfl
theorem q481 : (Jvm.Cond.soleField "SwapBook" "lost") ∈ lw_all := lw_g (lw_at lw_m2 97 rfl) rfl
theorem q482 : (Jvm.Cond.lays "SwapBook" "SwapBook" "ships" "I") ∈ lw_all := lw_g (lw_at lw_m2 98 rfl) rfl
theorem q483 : (Jvm.Cond.soleField "SwapBook" "ships") ∈ lw_all := lw_g (lw_at lw_m2 99 rfl) rfl
theorem q484 : (Jvm.Cond.lays "SwapBook" "SwapBook" "ranSteps" "I") ∈ lw_all := lw_g (lw_at lw_m2 100 rfl) rfl
theorem q485 : (Jvm.Cond.soleField "SwapBook" "ranSteps") ∈ lw_all := lw_g (lw_at lw_m2 101 rfl) rfl
theorem q486 : (Jvm.Cond.laysFinal "SwapBook" "SwapBook" "told" "[I") ∈ lw_all := lw_g (lw_at lw_m2 102 rfl) rfl
theorem q487 : (Jvm.Cond.soleField "SwapBook" "told") ∈ lw_all := lw_g (lw_at lw_m2 103 rfl) rfl
theorem q488 : (Jvm.Cond.lays "SwapBook" "SwapBook" "isTold" "Z") ∈ lw_all := lw_g (lw_at lw_m2 104 rfl) rfl
theorem q489 : (Jvm.Cond.soleField "SwapBook" "isTold") ∈ lw_all := lw_g (lw_at lw_m2 105 rfl) rfl
theorem q490 : (Jvm.Cond.laysFinal "SwapBook" "SwapBook" "before" "[I") ∈ lw_all := lw_g (lw_at lw_m2 106 rfl) rfl
theorem q491 : (Jvm.Cond.soleField "SwapBook" "before") ∈ lw_all := lw_g (lw_at lw_m2 107 rfl) rfl
theorem q492 : (Jvm.Cond.laysFinal "SwapBook" "SwapBook" "kept" "[LSwapBook$Kept;") ∈ lw_all := lw_g (lw_at lw_m2 108 rfl) rfl
theorem q493 : (Jvm.Cond.soleField "SwapBook" "kept") ∈ lw_all := lw_g (lw_at lw_m2 109 rfl) rfl
theorem q494 : (Jvm.Cond.lays "SwapBook" "SwapBook" "marks" "I") ∈ lw_all := lw_g (lw_at lw_m2 110 rfl) rfl
theorem q495 : (Jvm.Cond.soleField "SwapBook" "marks") ∈ lw_all := lw_g (lw_at lw_m2 111 rfl) rfl
theorem q496 : (Jvm.Cond.superclass "SwapBook" "java/lang/Object") ∈ lw_all := lw_g (lw_at lw_m2 112 rfl) rfl
theorem q498 : (Jvm.Cond.instanceMethod ({ cls := "SwapBook", name := "status", desc := "()I" } : Jvm.MethodName)) ∈ lw_all := lw_g (lw_at lw_m2 114 rfl) rfl
theorem q499 : (Jvm.Cond.selects "SwapBook" ({ cls := "SwapBook", name := "status", desc := "()I" } : Jvm.MethodName) ({ cls := "SwapBook", name := "status", desc := "()I" } : Jvm.MethodName)) ∈ lw_all := lw_g (lw_at lw_m2 115 rfl) rfl
theorem q500 : (Jvm.Cond.code ({ cls := "SwapBook", name := "status", desc := "()I" } : Jvm.MethodName) prog_1_method_2_code (1 : Nat) (Option.some Jvm.ClassFile.FieldType.int)) ∈ lw_all := lw_g (lw_at lw_m2 116 rfl) rfl
theorem q502 : (Jvm.Cond.instanceMethod ({ cls := "SwapBook", name := "top", desc := "()J" } : Jvm.MethodName)) ∈ lw_all := lw_g (lw_at lw_m2 118 rfl) rfl
theorem q503 : (Jvm.Cond.selects "SwapBook" ({ cls := "SwapBook", name := "top", desc := "()J" } : Jvm.MethodName) ({ cls := "SwapBook", name := "top", desc := "()J" } : Jvm.MethodName)) ∈ lw_all := lw_g (lw_at lw_m2 119 rfl) rfl
theorem q504 : (Jvm.Cond.code ({ cls := "SwapBook", name := "top", desc := "()J" } : Jvm.MethodName) prog_1_method_3_code (1 : Nat) (Option.some Jvm.ClassFile.FieldType.long)) ∈ lw_all := lw_g (lw_at lw_m2 120 rfl) rfl
theorem q506 : (Jvm.Cond.instanceMethod ({ cls := "SwapBook", name := "bottom", desc := "()J" } : Jvm.MethodName)) ∈ lw_all := lw_g (lw_at lw_m2 122 rfl) rfl
theorem q507 : (Jvm.Cond.selects "SwapBook" ({ cls := "SwapBook", name := "bottom", desc := "()J" } : Jvm.MethodName) ({ cls := "SwapBook", name := "bottom", desc := "()J" } : Jvm.MethodName)) ∈ lw_all := lw_g (lw_at lw_m2 123 rfl) rfl
theorem q508 : (Jvm.Cond.code ({ cls := "SwapBook", name := "bottom", desc := "()J" } : Jvm.MethodName) prog_1_method_4_code (1 : Nat) (Option.some Jvm.ClassFile.FieldType.long)) ∈ lw_all := lw_g (lw_at lw_m2 124 rfl) rfl
theorem q510 : (Jvm.Cond.instanceMethod ({ cls := "SwapBook", name := "tray", desc := "(III)Z" } : Jvm.MethodName)) ∈ lw_all := lw_g (lw_at lw_m2 126 rfl) rfl
theorem q511 : (Jvm.Cond.selects "SwapBook" ({ cls := "SwapBook", name := "tray", desc := "(III)Z" } : Jvm.MethodName) ({ cls := "SwapBook", name := "tray", desc := "(III)Z" } : Jvm.MethodName)) ∈ lw_all := lw_g (lw_at lw_m2 127 rfl) rfl
theorem q512 : (Jvm.Cond.codeWith ({ cls := "SwapBook", name := "tray", desc := "(III)Z" } : Jvm.MethodName) prog_1_method_10_code (5 : Nat) (Option.some Jvm.ClassFile.FieldType.boolean) [((34 : Nat), (45 : Nat), (48 : Nat), (114 : Nat))]) ∈ lw_all := lw_g (lw_at lw_m2 128 rfl) rfl
theorem q513 : (Jvm.Cond.classLink "SwapBook" (114 : Nat) "java/lang/NegativeArraySizeException") ∈ lw_all := lw_g (lw_at lw_m2 129 rfl) rfl
theorem q540 : (Jvm.Cond.methodLink "SwapBook" (107 : Nat) ({ cls := "SwapBook", name := "isTray", desc := "(I)Z" } : Jvm.MethodName)) ∈ lw_all := lw_g (lw_at lw_m2 156 rfl) rfl
theorem q541 : (Jvm.Cond.static ({ cls := "SwapBook", name := "isTray", desc := "(I)Z" } : Jvm.MethodName)) ∈ lw_all := lw_g (lw_at lw_m2 157 rfl) rfl
theorem q542 : (Jvm.Cond.code ({ cls := "SwapBook", name := "isTray", desc := "(I)Z" } : Jvm.MethodName) prog_1_method_9_code (1 : Nat) (Option.some Jvm.ClassFile.FieldType.boolean)) ∈ lw_all := lw_g (lw_at lw_m2 158 rfl) rfl
theorem q543 : (Jvm.Cond.methodLink "SwapBook" (103 : Nat) ({ cls := "SwapBook", name := "is", desc := "(I)Z" } : Jvm.MethodName)) ∈ lw_all := lw_g (lw_at lw_m2 159 rfl) rfl
theorem q544 : (Jvm.Cond.privateMethod ({ cls := "SwapBook", name := "is", desc := "(I)Z" } : Jvm.MethodName)) ∈ lw_tbl := lw_at lw_m2 160 rfl
theorem q545 : (Jvm.Cond.instanceMethod ({ cls := "SwapBook", name := "is", desc := "(I)Z" } : Jvm.MethodName)) ∈ lw_all := lw_g (lw_at lw_m2 161 rfl) rfl
theorem q546 : (Jvm.Cond.code ({ cls := "SwapBook", name := "is", desc := "(I)Z" } : Jvm.MethodName) prog_1_method_5_code (2 : Nat) (Option.some Jvm.ClassFile.FieldType.boolean)) ∈ lw_all := lw_g (lw_at lw_m2 162 rfl) rfl
theorem q547 : (Jvm.Cond.methodLink "SwapBook" (110 : Nat) ({ cls := "SwapBook$Tray", name := "make", desc := "(II)V" } : Jvm.MethodName)) ∈ lw_all := lw_g (lw_at lw_m2 163 rfl) rfl
theorem q553 : (Jvm.Cond.instanceMethod ({ cls := "SwapBook", name := "write", desc := "(IIJ)Z" } : Jvm.MethodName)) ∈ lw_all := lw_g (lw_at lw_m2 169 rfl) rfl
theorem q554 : (Jvm.Cond.selects "SwapBook" ({ cls := "SwapBook", name := "write", desc := "(IIJ)Z" } : Jvm.MethodName) ({ cls := "SwapBook", name := "write", desc := "(IIJ)Z" } : Jvm.MethodName)) ∈ lw_all := lw_g (lw_at lw_m2 170 rfl) rfl
theorem q555 : (Jvm.Cond.codeWith ({ cls := "SwapBook", name := "write", desc := "(IIJ)Z" } : Jvm.MethodName) prog_1_method_11_code (6 : Nat) (Option.some Jvm.ClassFile.FieldType.boolean) [((13 : Nat), (24 : Nat), (27 : Nat), (120 : Nat)), ((13 : Nat), (24 : Nat), (35 : Nat), (122 : Nat))]) ∈ lw_all := lw_g (lw_at lw_m2 171 rfl) rfl
theorem q556 : (Jvm.Cond.classLink "SwapBook" (120 : Nat) "java/lang/NullPointerException") ∈ lw_all := lw_g (lw_at lw_m2 172 rfl) rfl
theorem q581 : (Jvm.Cond.classLink "SwapBook" (122 : Nat) "java/lang/ArrayIndexOutOfBoundsException") ∈ lw_all := lw_g (lw_at lw_m2 197 rfl) rfl
theorem q600 : (Jvm.Cond.methodLink "SwapBook" (116 : Nat) ({ cls := "SwapBook$Tray", name := "set", desc := "(IJ)V" } : Jvm.MethodName)) ∈ lw_all := lw_g (lw_at lw_m2 216 rfl) rfl
theorem q609 : (Jvm.Cond.instanceMethod ({ cls := "SwapBook", name := "read", desc := "(II)J" } : Jvm.MethodName)) ∈ lw_all := lw_g (lw_at lw_m2 225 rfl) rfl
theorem q610 : (Jvm.Cond.selects "SwapBook" ({ cls := "SwapBook", name := "read", desc := "(II)J" } : Jvm.MethodName) ({ cls := "SwapBook", name := "read", desc := "(II)J" } : Jvm.MethodName)) ∈ lw_all := lw_g (lw_at lw_m2 226 rfl) rfl
theorem q611 : (Jvm.Cond.codeWith ({ cls := "SwapBook", name := "read", desc := "(II)J" } : Jvm.MethodName) prog_1_method_12_code (4 : Nat) (Option.some Jvm.ClassFile.FieldType.long) [((19 : Nat), (29 : Nat), (30 : Nat), (120 : Nat)), ((19 : Nat), (29 : Nat), (39 : Nat), (122 : Nat))]) ∈ lw_all := lw_g (lw_at lw_m2 227 rfl) rfl
theorem q612 : (Jvm.Cond.methodLink "SwapBook" (124 : Nat) ({ cls := "SwapBook", name := "none", desc := "(I)I" } : Jvm.MethodName)) ∈ lw_all := lw_g (lw_at lw_m2 228 rfl) rfl
theorem q613 : (Jvm.Cond.privateMethod ({ cls := "SwapBook", name := "none", desc := "(I)I" } : Jvm.MethodName)) ∈ lw_tbl := lw_at lw_m2 229 rfl
theorem q614 : (Jvm.Cond.instanceMethod ({ cls := "SwapBook", name := "none", desc := "(I)I" } : Jvm.MethodName)) ∈ lw_all := lw_g (lw_at lw_m2 230 rfl) rfl
theorem q615 : (Jvm.Cond.code ({ cls := "SwapBook", name := "none", desc := "(I)I" } : Jvm.MethodName) prog_1_method_6_code (2 : Nat) (Option.some Jvm.ClassFile.FieldType.int)) ∈ lw_all := lw_g (lw_at lw_m2 231 rfl) rfl
theorem q616 : (Jvm.Cond.methodLink "SwapBook" (128 : Nat) ({ cls := "SwapBook$Tray", name := "get", desc := "(I)J" } : Jvm.MethodName)) ∈ lw_all := lw_g (lw_at lw_m2 232 rfl) rfl
theorem q620 : (Jvm.Cond.constantLong "SwapBook" (132 : Nat) (-1 : Int64)) ∈ lw_all := lw_g (lw_at lw_m2 236 rfl) rfl
theorem q622 : (Jvm.Cond.instanceMethod ({ cls := "SwapBook", name := "pour", desc := "(IIIII)Z" } : Jvm.MethodName)) ∈ lw_all := lw_g (lw_at lw_m2 238 rfl) rfl
theorem q623 : (Jvm.Cond.selects "SwapBook" ({ cls := "SwapBook", name := "pour", desc := "(IIIII)Z" } : Jvm.MethodName) ({ cls := "SwapBook", name := "pour", desc := "(IIIII)Z" } : Jvm.MethodName)) ∈ lw_all := lw_g (lw_at lw_m2 239 rfl) rfl
theorem q624 : (Jvm.Cond.codeWith ({ cls := "SwapBook", name := "pour", desc := "(IIIII)Z" } : Jvm.MethodName) prog_1_method_13_code (9 : Nat) (Option.some Jvm.ClassFile.FieldType.boolean) [((80 : Nat), (92 : Nat), (95 : Nat), (120 : Nat)), ((80 : Nat), (92 : Nat), (103 : Nat), (147 : Nat))]) ∈ lw_all := lw_g (lw_at lw_m3 0 rfl) rfl
theorem q625 : (Jvm.Cond.classLink "SwapBook" (147 : Nat) "java/lang/IndexOutOfBoundsException") ∈ lw_all := lw_g (lw_at lw_m3 1 rfl) rfl
theorem q626 : (Jvm.Cond.methodLink "SwapBook" (141 : Nat) ({ cls := "java/lang/System", name := "arraycopy", desc := "(Ljava/lang/Object;ILjava/lang/Object;II)V" } : Jvm.MethodName)) ∈ lw_all := lw_g (lw_at lw_m3 2 rfl) rfl
theorem q630 : (Jvm.Cond.instanceMethod ({ cls := "SwapBook", name := "feed", desc := "(IIIII)I" } : Jvm.MethodName)) ∈ lw_all := lw_g (lw_at lw_m3 6 rfl) rfl
theorem q631 : (Jvm.Cond.selects "SwapBook" ({ cls := "SwapBook", name := "feed", desc := "(IIIII)I" } : Jvm.MethodName) ({ cls := "SwapBook", name := "feed", desc := "(IIIII)I" } : Jvm.MethodName)) ∈ lw_all := lw_g (lw_at lw_m3 7 rfl) rfl
theorem q632 : (Jvm.Cond.code ({ cls := "SwapBook", name := "feed", desc := "(IIIII)I" } : Jvm.MethodName) prog_1_method_18_code (6 : Nat) (Option.some Jvm.ClassFile.FieldType.int)) ∈ lw_all := lw_g (lw_at lw_m3 8 rfl) rfl
theorem q633 : (Jvm.Cond.methodLink "SwapBook" (162 : Nat) ({ cls := "SwapBook", name := "four", desc := "(I)V" } : Jvm.MethodName)) ∈ lw_all := lw_g (lw_at lw_m3 9 rfl) rfl
theorem q634 : (Jvm.Cond.privateMethod ({ cls := "SwapBook", name := "four", desc := "(I)V" } : Jvm.MethodName)) ∈ lw_tbl := lw_at lw_m3 10 rfl
theorem q635 : (Jvm.Cond.instanceMethod ({ cls := "SwapBook", name := "four", desc := "(I)V" } : Jvm.MethodName)) ∈ lw_all := lw_g (lw_at lw_m3 11 rfl) rfl
theorem q636 : (Jvm.Cond.code ({ cls := "SwapBook", name := "four", desc := "(I)V" } : Jvm.MethodName) prog_1_method_19_code (3 : Nat) (Option.none : Option Jvm.ClassFile.FieldType)) ∈ lw_all := lw_g (lw_at lw_m3 12 rfl) rfl
theorem q638 : (Jvm.Cond.instanceMethod ({ cls := "SwapBook", name := "book", desc := "(I)I" } : Jvm.MethodName)) ∈ lw_all := lw_g (lw_at lw_m3 14 rfl) rfl
theorem q639 : (Jvm.Cond.selects "SwapBook" ({ cls := "SwapBook", name := "book", desc := "(I)I" } : Jvm.MethodName) ({ cls := "SwapBook", name := "book", desc := "(I)I" } : Jvm.MethodName)) ∈ lw_all := lw_g (lw_at lw_m3 15 rfl) rfl
theorem q640 : (Jvm.Cond.codeWith ({ cls := "SwapBook", name := "book", desc := "(I)I" } : Jvm.MethodName) prog_1_method_22_code (3 : Nat) (Option.some Jvm.ClassFile.FieldType.int) [((17 : Nat), (29 : Nat), (32 : Nat), (17 : Nat))]) ∈ lw_all := lw_g (lw_at lw_m3 16 rfl) rfl
theorem q641 : (Jvm.Cond.methodLink "SwapBook" (176 : Nat) ({ cls := "SwapBook", name := "takes", desc := "(II)Z" } : Jvm.MethodName)) ∈ lw_all := lw_g (lw_at lw_m3 17 rfl) rfl
theorem q642 : (Jvm.Cond.privateMethod ({ cls := "SwapBook", name := "takes", desc := "(II)Z" } : Jvm.MethodName)) ∈ lw_tbl := lw_at lw_m3 18 rfl
theorem q643 : (Jvm.Cond.instanceMethod ({ cls := "SwapBook", name := "takes", desc := "(II)Z" } : Jvm.MethodName)) ∈ lw_all := lw_g (lw_at lw_m3 19 rfl) rfl
theorem q644 : (Jvm.Cond.code ({ cls := "SwapBook", name := "takes", desc := "(II)Z" } : Jvm.MethodName) prog_1_method_20_code (3 : Nat) (Option.some Jvm.ClassFile.FieldType.boolean)) ∈ lw_all := lw_g (lw_at lw_m3 20 rfl) rfl
theorem q645 : (Jvm.Cond.methodLink "SwapBook" (180 : Nat) ({ cls := "SwapBook$Reader", name := "book", desc := "(I)LSwapBook$Book;" } : Jvm.MethodName)) ∈ lw_all := lw_g (lw_at lw_m3 21 rfl) rfl
theorem q808 : (Jvm.Cond.fieldLinkNest "SwapBook" (233 : Nat) "SwapBook$Put" "says" "I" "SwapBook") ∈ lw_tbl := lw_at lw_m3 184 rfl
theorem q817 : (Jvm.Cond.fieldLink "SwapBook" (236 : Nat) "SwapBook$Change" "thing" "I") ∈ lw_all := lw_g (lw_at lw_m3 193 rfl) rfl
theorem q827 : (Jvm.Cond.fieldLink "SwapBook" (245 : Nat) "SwapBook$Change" "needs" "I") ∈ lw_all := lw_g (lw_at lw_m3 203 rfl) rfl
theorem q829 : (Jvm.Cond.fieldLink "SwapBook" (242 : Nat) "SwapBook$Change" "hangs" "I") ∈ lw_all := lw_g (lw_at lw_m3 205 rfl) rfl
theorem q831 : (Jvm.Cond.fieldLink "SwapBook" (239 : Nat) "SwapBook$Change" "level" "I") ∈ lw_all := lw_g (lw_at lw_m3 207 rfl) rfl
theorem q834 : (Jvm.Cond.fieldLink "SwapBook" (216 : Nat) "SwapBook$Change" "quarrels" "I") ∈ lw_all := lw_g (lw_at lw_m3 210 rfl) rfl
theorem q1001 : (Jvm.Cond.methodLink "SwapBook" (183 : Nat) ({ cls := "SwapBook", name := "refused", desc := "(LSwapBook$Wrong;)I" } : Jvm.MethodName)) ∈ lw_all := lw_g (lw_at lw_m4 137 rfl) rfl
theorem q1002 : (Jvm.Cond.privateMethod ({ cls := "SwapBook", name := "refused", desc := "(LSwapBook$Wrong;)I" } : Jvm.MethodName)) ∈ lw_tbl := lw_at lw_m4 138 rfl
theorem q1003 : (Jvm.Cond.instanceMethod ({ cls := "SwapBook", name := "refused", desc := "(LSwapBook$Wrong;)I" } : Jvm.MethodName)) ∈ lw_all := lw_g (lw_at lw_m4 139 rfl) rfl
theorem q1004 : (Jvm.Cond.code ({ cls := "SwapBook", name := "refused", desc := "(LSwapBook$Wrong;)I" } : Jvm.MethodName) prog_1_method_21_code (2 : Nat) (Option.some Jvm.ClassFile.FieldType.int)) ∈ lw_all := lw_g (lw_at lw_m4 140 rfl) rfl
theorem q1005 : (Jvm.Cond.methodLink "SwapBook" (197 : Nat) ({ cls := "SwapBook", name := "gives", desc := "(I)I" } : Jvm.MethodName)) ∈ lw_all := lw_g (lw_at lw_m4 141 rfl) rfl
theorem q1006 : (Jvm.Cond.privateMethod ({ cls := "SwapBook", name := "gives", desc := "(I)I" } : Jvm.MethodName)) ∈ lw_tbl := lw_at lw_m4 142 rfl
theorem q1007 : (Jvm.Cond.instanceMethod ({ cls := "SwapBook", name := "gives", desc := "(I)I" } : Jvm.MethodName)) ∈ lw_all := lw_g (lw_at lw_m4 143 rfl) rfl
theorem q1008 : (Jvm.Cond.code ({ cls := "SwapBook", name := "gives", desc := "(I)I" } : Jvm.MethodName) prog_1_method_7_code (2 : Nat) (Option.some Jvm.ClassFile.FieldType.int)) ∈ lw_all := lw_g (lw_at lw_m4 144 rfl) rfl
theorem q1010 : (Jvm.Cond.instanceMethod ({ cls := "SwapBook", name := "log", desc := "(I)I" } : Jvm.MethodName)) ∈ lw_all := lw_g (lw_at lw_m4 146 rfl) rfl
theorem q1011 : (Jvm.Cond.selects "SwapBook" ({ cls := "SwapBook", name := "log", desc := "(I)I" } : Jvm.MethodName) ({ cls := "SwapBook", name := "log", desc := "(I)I" } : Jvm.MethodName)) ∈ lw_all := lw_g (lw_at lw_m4 147 rfl) rfl
theorem q1012 : (Jvm.Cond.codeWith ({ cls := "SwapBook", name := "log", desc := "(I)I" } : Jvm.MethodName) prog_1_method_23_code (3 : Nat) (Option.some Jvm.ClassFile.FieldType.int) [((17 : Nat), (33 : Nat), (36 : Nat), (17 : Nat))]) ∈ lw_all := lw_g (lw_at lw_m4 148 rfl) rfl
theorem q1013 : (Jvm.Cond.methodLink "SwapBook" (200 : Nat) ({ cls := "SwapBook$Reader", name := "log", desc := "(ILSwapBook$Book;)[LSwapBook$Step;" } : Jvm.MethodName)) ∈ lw_all := lw_g (lw_at lw_m4 149 rfl) rfl
theorem q1029 : (Jvm.Cond.fieldLink "SwapBook" (375 : Nat) "SwapBook$Step" "kind" "I") ∈ lw_all := lw_g (lw_at lw_m4 165 rfl) rfl
theorem q1031 : (Jvm.Cond.fieldLinkNest "SwapBook" (350 : Nat) "SwapBook$Step" "one" "I" "SwapBook") ∈ lw_tbl := lw_at lw_m4 167 rfl
theorem q1033 : (Jvm.Cond.fieldLinkNest "SwapBook" (355 : Nat) "SwapBook$Step" "two" "I" "SwapBook") ∈ lw_tbl := lw_at lw_m4 169 rfl
theorem q1035 : (Jvm.Cond.fieldLinkNest "SwapBook" (358 : Nat) "SwapBook$Step" "late" "I" "SwapBook") ∈ lw_tbl := lw_at lw_m4 171 rfl
theorem q1037 : (Jvm.Cond.fieldLinkNest "SwapBook" (379 : Nat) "SwapBook$Step" "number" "I" "SwapBook") ∈ lw_tbl := lw_at lw_m4 173 rfl
theorem q1039 : (Jvm.Cond.fieldLinkNest "SwapBook" (388 : Nat) "SwapBook$Step" "test" "I" "SwapBook") ∈ lw_tbl := lw_at lw_m4 175 rfl
theorem q1041 : (Jvm.Cond.fieldLinkNest "SwapBook" (391 : Nat) "SwapBook$Step" "to" "I" "SwapBook") ∈ lw_tbl := lw_at lw_m4 177 rfl
theorem q1042 : (Jvm.Cond.fieldLinkNest "SwapBook" (394 : Nat) "SwapBook$Step" "rounds" "I" "SwapBook") ∈ lw_tbl := lw_at lw_m4 178 rfl
theorem q1044 : (Jvm.Cond.fieldLinkNest "SwapBook" (361 : Nat) "SwapBook$Step" "twice" "Z" "SwapBook") ∈ lw_tbl := lw_at lw_m4 180 rfl
theorem q1081 : (Jvm.Cond.instanceMethod ({ cls := "SwapBook", name := "fault", desc := "(I)I" } : Jvm.MethodName)) ∈ lw_all := lw_g (lw_at lw_m4 217 rfl) rfl
theorem q1082 : (Jvm.Cond.selects "SwapBook" ({ cls := "SwapBook", name := "fault", desc := "(I)I" } : Jvm.MethodName) ({ cls := "SwapBook", name := "fault", desc := "(I)I" } : Jvm.MethodName)) ∈ lw_all := lw_g (lw_at lw_m4 218 rfl) rfl
theorem q1083 : (Jvm.Cond.code ({ cls := "SwapBook", name := "fault", desc := "(I)I" } : Jvm.MethodName) prog_1_method_24_code (2 : Nat) (Option.some Jvm.ClassFile.FieldType.int)) ∈ lw_all := lw_g (lw_at lw_m4 219 rfl) rfl
theorem q1085 : (Jvm.Cond.instanceMethod ({ cls := "SwapBook", name := "many", desc := "(I)I" } : Jvm.MethodName)) ∈ lw_all := lw_g (lw_at lw_m4 221 rfl) rfl
theorem q1086 : (Jvm.Cond.selects "SwapBook" ({ cls := "SwapBook", name := "many", desc := "(I)I" } : Jvm.MethodName) ({ cls := "SwapBook", name := "many", desc := "(I)I" } : Jvm.MethodName)) ∈ lw_all := lw_g (lw_at lw_m4 222 rfl) rfl
theorem q1087 : (Jvm.Cond.code ({ cls := "SwapBook", name := "many", desc := "(I)I" } : Jvm.MethodName) prog_1_method_25_code (4 : Nat) (Option.some Jvm.ClassFile.FieldType.int)) ∈ lw_all := lw_g (lw_at lw_m4 223 rfl) rfl
theorem q1088 : (Jvm.Cond.methodLink "SwapBook" (212 : Nat) ({ cls := "SwapBook$Change", name := "kind", desc := "()I" } : Jvm.MethodName)) ∈ lw_all := lw_g (lw_at lw_m4 224 rfl) rfl
theorem q1089 : (Jvm.Cond.methodLink "SwapBook" (219 : Nat) ({ cls := "java/lang/Integer", name := "bitCount", desc := "(I)I" } : Jvm.MethodName)) ∈ lw_all := lw_g (lw_at lw_m4 225 rfl) rfl
theorem q1096 : (Jvm.Cond.instanceMethod ({ cls := "SwapBook", name := "change", desc := "(II)I" } : Jvm.MethodName)) ∈ lw_all := lw_g (lw_at lw_m4 232 rfl) rfl
theorem q1097 : (Jvm.Cond.selects "SwapBook" ({ cls := "SwapBook", name := "change", desc := "(II)I" } : Jvm.MethodName) ({ cls := "SwapBook", name := "change", desc := "(II)I" } : Jvm.MethodName)) ∈ lw_all := lw_g (lw_at lw_m4 233 rfl) rfl
theorem q1098 : (Jvm.Cond.code ({ cls := "SwapBook", name := "change", desc := "(II)I" } : Jvm.MethodName) prog_1_method_26_code (5 : Nat) (Option.some Jvm.ClassFile.FieldType.int)) ∈ lw_all := lw_g (lw_at lw_m4 234 rfl) rfl
theorem q1099 : (Jvm.Cond.methodLink "SwapBook" (224 : Nat) ({ cls := "SwapBook", name := "isChange", desc := "(J)Z" } : Jvm.MethodName)) ∈ lw_all := lw_g (lw_at lw_m4 235 rfl) rfl
theorem q1100 : (Jvm.Cond.privateMethod ({ cls := "SwapBook", name := "isChange", desc := "(J)Z" } : Jvm.MethodName)) ∈ lw_tbl := lw_at lw_m4 236 rfl
theorem q1101 : (Jvm.Cond.instanceMethod ({ cls := "SwapBook", name := "isChange", desc := "(J)Z" } : Jvm.MethodName)) ∈ lw_all := lw_g (lw_at lw_m4 237 rfl) rfl
theorem q1102 : (Jvm.Cond.code ({ cls := "SwapBook", name := "isChange", desc := "(J)Z" } : Jvm.MethodName) prog_1_method_15_code (3 : Nat) (Option.some Jvm.ClassFile.FieldType.boolean)) ∈ lw_all := lw_g (lw_at lw_m4 238 rfl) rfl
theorem q1103 : (Jvm.Cond.methodLink "SwapBook" (228 : Nat) ({ cls := "SwapBook$Change", name := "tells", desc := "()I" } : Jvm.MethodName)) ∈ lw_all := lw_g (lw_at lw_m4 239 rfl) rfl
theorem q1115 : (Jvm.Cond.classLink "SwapBook" (231 : Nat) "SwapBook$Put") ∈ lw_all := lw_g (lw_at lw_m5 11 rfl) rfl
theorem q1117 : (Jvm.Cond.instanceMethod ({ cls := "SwapBook", name := "hangs", desc := "(II)I" } : Jvm.MethodName)) ∈ lw_all := lw_g (lw_at lw_m5 13 rfl) rfl
theorem q1118 : (Jvm.Cond.selects "SwapBook" ({ cls := "SwapBook", name := "hangs", desc := "(II)I" } : Jvm.MethodName) ({ cls := "SwapBook", name := "hangs", desc := "(II)I" } : Jvm.MethodName)) ∈ lw_all := lw_g (lw_at lw_m5 14 rfl) rfl
theorem q1119 : (Jvm.Cond.code ({ cls := "SwapBook", name := "hangs", desc := "(II)I" } : Jvm.MethodName) prog_1_method_28_code (4 : Nat) (Option.some Jvm.ClassFile.FieldType.int)) ∈ lw_all := lw_g (lw_at lw_m5 15 rfl) rfl
theorem q1120 : (Jvm.Cond.methodLink "SwapBook" (248 : Nat) ({ cls := "SwapBook", name := "hung", desc := "(I)I" } : Jvm.MethodName)) ∈ lw_all := lw_g (lw_at lw_m5 16 rfl) rfl
theorem q1121 : (Jvm.Cond.privateMethod ({ cls := "SwapBook", name := "hung", desc := "(I)I" } : Jvm.MethodName)) ∈ lw_tbl := lw_at lw_m5 17 rfl
theorem q1122 : (Jvm.Cond.instanceMethod ({ cls := "SwapBook", name := "hung", desc := "(I)I" } : Jvm.MethodName)) ∈ lw_all := lw_g (lw_at lw_m5 18 rfl) rfl
theorem q1123 : (Jvm.Cond.code ({ cls := "SwapBook", name := "hung", desc := "(I)I" } : Jvm.MethodName) prog_1_method_27_code (4 : Nat) (Option.some Jvm.ClassFile.FieldType.int)) ∈ lw_all := lw_g (lw_at lw_m5 19 rfl) rfl
theorem q1125 : (Jvm.Cond.instanceMethod ({ cls := "SwapBook", name := "holds", desc := "(I)I" } : Jvm.MethodName)) ∈ lw_all := lw_g (lw_at lw_m5 21 rfl) rfl
theorem q1126 : (Jvm.Cond.selects "SwapBook" ({ cls := "SwapBook", name := "holds", desc := "(I)I" } : Jvm.MethodName) ({ cls := "SwapBook", name := "holds", desc := "(I)I" } : Jvm.MethodName)) ∈ lw_all := lw_g (lw_at lw_m5 22 rfl) rfl
theorem q1127 : (Jvm.Cond.code ({ cls := "SwapBook", name := "holds", desc := "(I)I" } : Jvm.MethodName) prog_1_method_29_code (2 : Nat) (Option.some Jvm.ClassFile.FieldType.int)) ∈ lw_all := lw_g (lw_at lw_m5 23 rfl) rfl
theorem q1128 : (Jvm.Cond.methodLink "SwapBook" (251 : Nat) ({ cls := "SwapBook", name := "isSet", desc := "(I)Z" } : Jvm.MethodName)) ∈ lw_all := lw_g (lw_at lw_m5 24 rfl) rfl
theorem q1129 : (Jvm.Cond.privateMethod ({ cls := "SwapBook", name := "isSet", desc := "(I)Z" } : Jvm.MethodName)) ∈ lw_tbl := lw_at lw_m5 25 rfl
theorem q1130 : (Jvm.Cond.instanceMethod ({ cls := "SwapBook", name := "isSet", desc := "(I)Z" } : Jvm.MethodName)) ∈ lw_all := lw_g (lw_at lw_m5 26 rfl) rfl
theorem q1131 : (Jvm.Cond.code ({ cls := "SwapBook", name := "isSet", desc := "(I)Z" } : Jvm.MethodName) prog_1_method_17_code (2 : Nat) (Option.some Jvm.ClassFile.FieldType.boolean)) ∈ lw_all := lw_g (lw_at lw_m5 27 rfl) rfl
theorem q1132 : (Jvm.Cond.methodLink "SwapBook" (155 : Nat) ({ cls := "SwapBook$Book", name := "all", desc := "()I" } : Jvm.MethodName)) ∈ lw_all := lw_g (lw_at lw_m5 28 rfl) rfl
theorem q1136 : (Jvm.Cond.methodLink "SwapBook" (254 : Nat) ({ cls := "SwapBook$Book", name := "holds", desc := "(I)Z" } : Jvm.MethodName)) ∈ lw_all := lw_g (lw_at lw_m5 32 rfl) rfl
theorem q1141 : (Jvm.Cond.instanceMethod ({ cls := "SwapBook", name := "lacks", desc := "(I)I" } : Jvm.MethodName)) ∈ lw_all := lw_g (lw_at lw_m5 37 rfl) rfl
theorem q1142 : (Jvm.Cond.selects "SwapBook" ({ cls := "SwapBook", name := "lacks", desc := "(I)I" } : Jvm.MethodName) ({ cls := "SwapBook", name := "lacks", desc := "(I)I" } : Jvm.MethodName)) ∈ lw_all := lw_g (lw_at lw_m5 38 rfl) rfl
theorem q1143 : (Jvm.Cond.code ({ cls := "SwapBook", name := "lacks", desc := "(I)I" } : Jvm.MethodName) prog_1_method_30_code (4 : Nat) (Option.some Jvm.ClassFile.FieldType.int)) ∈ lw_all := lw_g (lw_at lw_m5 39 rfl) rfl
theorem q1145 : (Jvm.Cond.instanceMethod ({ cls := "SwapBook", name := "out", desc := "(II)I" } : Jvm.MethodName)) ∈ lw_all := lw_g (lw_at lw_m5 41 rfl) rfl
theorem q1146 : (Jvm.Cond.selects "SwapBook" ({ cls := "SwapBook", name := "out", desc := "(II)I" } : Jvm.MethodName) ({ cls := "SwapBook", name := "out", desc := "(II)I" } : Jvm.MethodName)) ∈ lw_all := lw_g (lw_at lw_m5 42 rfl) rfl
theorem q1147 : (Jvm.Cond.code ({ cls := "SwapBook", name := "out", desc := "(II)I" } : Jvm.MethodName) prog_1_method_32_code (3 : Nat) (Option.some Jvm.ClassFile.FieldType.int)) ∈ lw_all := lw_g (lw_at lw_m5 43 rfl) rfl
theorem q1148 : (Jvm.Cond.methodLink "SwapBook" (257 : Nat) ({ cls := "SwapBook", name := "without", desc := "(II)I" } : Jvm.MethodName)) ∈ lw_all := lw_g (lw_at lw_m5 44 rfl) rfl
theorem q1149 : (Jvm.Cond.privateMethod ({ cls := "SwapBook", name := "without", desc := "(II)I" } : Jvm.MethodName)) ∈ lw_tbl := lw_at lw_m5 45 rfl
theorem q1150 : (Jvm.Cond.instanceMethod ({ cls := "SwapBook", name := "without", desc := "(II)I" } : Jvm.MethodName)) ∈ lw_all := lw_g (lw_at lw_m5 46 rfl) rfl
theorem q1151 : (Jvm.Cond.code ({ cls := "SwapBook", name := "without", desc := "(II)I" } : Jvm.MethodName) prog_1_method_31_code (3 : Nat) (Option.some Jvm.ClassFile.FieldType.int)) ∈ lw_all := lw_g (lw_at lw_m5 47 rfl) rfl
theorem q1153 : (Jvm.Cond.instanceMethod ({ cls := "SwapBook", name := "pick", desc := "(II)I" } : Jvm.MethodName)) ∈ lw_all := lw_g (lw_at lw_m5 49 rfl) rfl
theorem q1154 : (Jvm.Cond.selects "SwapBook" ({ cls := "SwapBook", name := "pick", desc := "(II)I" } : Jvm.MethodName) ({ cls := "SwapBook", name := "pick", desc := "(II)I" } : Jvm.MethodName)) ∈ lw_all := lw_g (lw_at lw_m5 50 rfl) rfl
theorem q1155 : (Jvm.Cond.code ({ cls := "SwapBook", name := "pick", desc := "(II)I" } : Jvm.MethodName) prog_1_method_33_code (3 : Nat) (Option.some Jvm.ClassFile.FieldType.int)) ∈ lw_all := lw_g (lw_at lw_m5 51 rfl) rfl
theorem q1157 : (Jvm.Cond.instanceMethod ({ cls := "SwapBook", name := "heaviest", desc := "()I" } : Jvm.MethodName)) ∈ lw_all := lw_g (lw_at lw_m5 53 rfl) rfl
theorem q1158 : (Jvm.Cond.selects "SwapBook" ({ cls := "SwapBook", name := "heaviest", desc := "()I" } : Jvm.MethodName) ({ cls := "SwapBook", name := "heaviest", desc := "()I" } : Jvm.MethodName)) ∈ lw_all := lw_g (lw_at lw_m5 54 rfl) rfl
theorem q1159 : (Jvm.Cond.code ({ cls := "SwapBook", name := "heaviest", desc := "()I" } : Jvm.MethodName) prog_1_method_34_code (5 : Nat) (Option.some Jvm.ClassFile.FieldType.int)) ∈ lw_all := lw_g (lw_at lw_m5 55 rfl) rfl
theorem q1161 : (Jvm.Cond.instanceMethod ({ cls := "SwapBook", name := "alone", desc := "()I" } : Jvm.MethodName)) ∈ lw_all := lw_g (lw_at lw_m5 57 rfl) rfl
theorem q1162 : (Jvm.Cond.selects "SwapBook" ({ cls := "SwapBook", name := "alone", desc := "()I" } : Jvm.MethodName) ({ cls := "SwapBook", name := "alone", desc := "()I" } : Jvm.MethodName)) ∈ lw_all := lw_g (lw_at lw_m5 58 rfl) rfl
theorem q1163 : (Jvm.Cond.code ({ cls := "SwapBook", name := "alone", desc := "()I" } : Jvm.MethodName) prog_1_method_35_code (3 : Nat) (Option.some Jvm.ClassFile.FieldType.int)) ∈ lw_all := lw_g (lw_at lw_m5 59 rfl) rfl
theorem q1165 : (Jvm.Cond.instanceMethod ({ cls := "SwapBook", name := "size", desc := "(I)I" } : Jvm.MethodName)) ∈ lw_all := lw_g (lw_at lw_m5 61 rfl) rfl
theorem q1166 : (Jvm.Cond.selects "SwapBook" ({ cls := "SwapBook", name := "size", desc := "(I)I" } : Jvm.MethodName) ({ cls := "SwapBook", name := "size", desc := "(I)I" } : Jvm.MethodName)) ∈ lw_all := lw_g (lw_at lw_m5 62 rfl) rfl
theorem q1167 : (Jvm.Cond.code ({ cls := "SwapBook", name := "size", desc := "(I)I" } : Jvm.MethodName) prog_1_method_39_code (3 : Nat) (Option.some Jvm.ClassFile.FieldType.int)) ∈ lw_all := lw_g (lw_at lw_m5 63 rfl) rfl
theorem q1168 : (Jvm.Cond.methodLink "SwapBook" (270 : Nat) ({ cls := "SwapBook", name := "wrongSet", desc := "(I)I" } : Jvm.MethodName)) ∈ lw_all := lw_g (lw_at lw_m5 64 rfl) rfl
theorem q1169 : (Jvm.Cond.privateMethod ({ cls := "SwapBook", name := "wrongSet", desc := "(I)I" } : Jvm.MethodName)) ∈ lw_tbl := lw_at lw_m5 65 rfl
theorem q1170 : (Jvm.Cond.instanceMethod ({ cls := "SwapBook", name := "wrongSet", desc := "(I)I" } : Jvm.MethodName)) ∈ lw_all := lw_g (lw_at lw_m5 66 rfl) rfl
theorem q1171 : (Jvm.Cond.code ({ cls := "SwapBook", name := "wrongSet", desc := "(I)I" } : Jvm.MethodName) prog_1_method_38_code (2 : Nat) (Option.some Jvm.ClassFile.FieldType.int)) ∈ lw_all := lw_g (lw_at lw_m5 67 rfl) rfl
theorem q1172 : (Jvm.Cond.methodLink "SwapBook" (273 : Nat) ({ cls := "SwapBook", name := "lists", desc := "(I)V" } : Jvm.MethodName)) ∈ lw_all := lw_g (lw_at lw_m5 68 rfl) rfl
theorem q1173 : (Jvm.Cond.privateMethod ({ cls := "SwapBook", name := "lists", desc := "(I)V" } : Jvm.MethodName)) ∈ lw_tbl := lw_at lw_m5 69 rfl
theorem q1174 : (Jvm.Cond.instanceMethod ({ cls := "SwapBook", name := "lists", desc := "(I)V" } : Jvm.MethodName)) ∈ lw_all := lw_g (lw_at lw_m5 70 rfl) rfl
theorem q1175 : (Jvm.Cond.code ({ cls := "SwapBook", name := "lists", desc := "(I)V" } : Jvm.MethodName) prog_1_method_36_code (5 : Nat) (Option.none : Option Jvm.ClassFile.FieldType)) ∈ lw_all := lw_g (lw_at lw_m5 71 rfl) rfl
theorem q1176 : (Jvm.Cond.methodLink "SwapBook" (264 : Nat) ({ cls := "SwapBook$Book", name := "isGone", desc := "(II)Z" } : Jvm.MethodName)) ∈ lw_all := lw_g (lw_at lw_m5 72 rfl) rfl
theorem q1189 : (Jvm.Cond.methodLink "SwapBook" (267 : Nat) ({ cls := "SwapBook$Book", name := "tells", desc := "(III)I" } : Jvm.MethodName)) ∈ lw_all := lw_g (lw_at lw_m5 85 rfl) rfl
theorem q1204 : (Jvm.Cond.instanceMethod ({ cls := "SwapBook", name := "thing", desc := "(II)I" } : Jvm.MethodName)) ∈ lw_all := lw_g (lw_at lw_m5 100 rfl) rfl
theorem q1205 : (Jvm.Cond.selects "SwapBook" ({ cls := "SwapBook", name := "thing", desc := "(II)I" } : Jvm.MethodName) ({ cls := "SwapBook", name := "thing", desc := "(II)I" } : Jvm.MethodName)) ∈ lw_all := lw_g (lw_at lw_m5 101 rfl) rfl
theorem q1206 : (Jvm.Cond.code ({ cls := "SwapBook", name := "thing", desc := "(II)I" } : Jvm.MethodName) prog_1_method_40_code (4 : Nat) (Option.some Jvm.ClassFile.FieldType.int)) ∈ lw_all := lw_g (lw_at lw_m5 102 rfl) rfl
theorem q1208 : (Jvm.Cond.instanceMethod ({ cls := "SwapBook", name := "says", desc := "(II)I" } : Jvm.MethodName)) ∈ lw_all := lw_g (lw_at lw_m5 104 rfl) rfl
theorem q1209 : (Jvm.Cond.selects "SwapBook" ({ cls := "SwapBook", name := "says", desc := "(II)I" } : Jvm.MethodName) ({ cls := "SwapBook", name := "says", desc := "(II)I" } : Jvm.MethodName)) ∈ lw_all := lw_g (lw_at lw_m5 105 rfl) rfl
theorem q1210 : (Jvm.Cond.code ({ cls := "SwapBook", name := "says", desc := "(II)I" } : Jvm.MethodName) prog_1_method_42_code (4 : Nat) (Option.some Jvm.ClassFile.FieldType.int)) ∈ lw_all := lw_g (lw_at lw_m5 106 rfl) rfl
theorem q1211 : (Jvm.Cond.methodLink "SwapBook" (279 : Nat) ({ cls := "SwapBook", name := "wrongThing", desc := "(II)I" } : Jvm.MethodName)) ∈ lw_all := lw_g (lw_at lw_m5 107 rfl) rfl
theorem q1212 : (Jvm.Cond.privateMethod ({ cls := "SwapBook", name := "wrongThing", desc := "(II)I" } : Jvm.MethodName)) ∈ lw_tbl := lw_at lw_m5 108 rfl
theorem q1213 : (Jvm.Cond.instanceMethod ({ cls := "SwapBook", name := "wrongThing", desc := "(II)I" } : Jvm.MethodName)) ∈ lw_all := lw_g (lw_at lw_m5 109 rfl) rfl
theorem q1214 : (Jvm.Cond.code ({ cls := "SwapBook", name := "wrongThing", desc := "(II)I" } : Jvm.MethodName) prog_1_method_41_code (3 : Nat) (Option.some Jvm.ClassFile.FieldType.int)) ∈ lw_all := lw_g (lw_at lw_m5 110 rfl) rfl
theorem q1215 : (Jvm.Cond.methodLink "SwapBook" (276 : Nat) ({ cls := "SwapBook", name := "placeOf", desc := "(I)I" } : Jvm.MethodName)) ∈ lw_all := lw_g (lw_at lw_m5 111 rfl) rfl
theorem q1216 : (Jvm.Cond.privateMethod ({ cls := "SwapBook", name := "placeOf", desc := "(I)I" } : Jvm.MethodName)) ∈ lw_tbl := lw_at lw_m5 112 rfl
theorem q1217 : (Jvm.Cond.instanceMethod ({ cls := "SwapBook", name := "placeOf", desc := "(I)I" } : Jvm.MethodName)) ∈ lw_all := lw_g (lw_at lw_m5 113 rfl) rfl
theorem q1218 : (Jvm.Cond.code ({ cls := "SwapBook", name := "placeOf", desc := "(I)I" } : Jvm.MethodName) prog_1_method_37_code (3 : Nat) (Option.some Jvm.ClassFile.FieldType.int)) ∈ lw_all := lw_g (lw_at lw_m5 114 rfl) rfl
theorem q1220 : (Jvm.Cond.instanceMethod ({ cls := "SwapBook", name := "key", desc := "(II)I" } : Jvm.MethodName)) ∈ lw_all := lw_g (lw_at lw_m5 116 rfl) rfl
theorem q1221 : (Jvm.Cond.selects "SwapBook" ({ cls := "SwapBook", name := "key", desc := "(II)I" } : Jvm.MethodName) ({ cls := "SwapBook", name := "key", desc := "(II)I" } : Jvm.MethodName)) ∈ lw_all := lw_g (lw_at lw_m5 117 rfl) rfl
theorem q1222 : (Jvm.Cond.code ({ cls := "SwapBook", name := "key", desc := "(II)I" } : Jvm.MethodName) prog_1_method_43_code (4 : Nat) (Option.some Jvm.ClassFile.FieldType.int)) ∈ lw_all := lw_g (lw_at lw_m5 118 rfl) rfl
theorem q1224 : (Jvm.Cond.instanceMethod ({ cls := "SwapBook", name := "place", desc := "(II)I" } : Jvm.MethodName)) ∈ lw_all := lw_g (lw_at lw_m5 120 rfl) rfl
theorem q1225 : (Jvm.Cond.selects "SwapBook" ({ cls := "SwapBook", name := "place", desc := "(II)I" } : Jvm.MethodName) ({ cls := "SwapBook", name := "place", desc := "(II)I" } : Jvm.MethodName)) ∈ lw_all := lw_g (lw_at lw_m5 121 rfl) rfl
theorem q1226 : (Jvm.Cond.code ({ cls := "SwapBook", name := "place", desc := "(II)I" } : Jvm.MethodName) prog_1_method_44_code (4 : Nat) (Option.some Jvm.ClassFile.FieldType.int)) ∈ lw_all := lw_g (lw_at lw_m5 122 rfl) rfl
theorem q1228 : (Jvm.Cond.instanceMethod ({ cls := "SwapBook", name := "like", desc := "(II)I" } : Jvm.MethodName)) ∈ lw_all := lw_g (lw_at lw_m5 124 rfl) rfl
theorem q1229 : (Jvm.Cond.selects "SwapBook" ({ cls := "SwapBook", name := "like", desc := "(II)I" } : Jvm.MethodName) ({ cls := "SwapBook", name := "like", desc := "(II)I" } : Jvm.MethodName)) ∈ lw_all := lw_g (lw_at lw_m5 125 rfl) rfl
theorem q1230 : (Jvm.Cond.code ({ cls := "SwapBook", name := "like", desc := "(II)I" } : Jvm.MethodName) prog_1_method_47_code (6 : Nat) (Option.some Jvm.ClassFile.FieldType.int)) ∈ lw_all := lw_g (lw_at lw_m5 126 rfl) rfl
theorem q1231 : (Jvm.Cond.methodLink "SwapBook" (287 : Nat) ({ cls := "SwapBook", name := "wrongSets", desc := "(II)I" } : Jvm.MethodName)) ∈ lw_all := lw_g (lw_at lw_m5 127 rfl) rfl
theorem q1232 : (Jvm.Cond.privateMethod ({ cls := "SwapBook", name := "wrongSets", desc := "(II)I" } : Jvm.MethodName)) ∈ lw_tbl := lw_at lw_m5 128 rfl
theorem q1233 : (Jvm.Cond.instanceMethod ({ cls := "SwapBook", name := "wrongSets", desc := "(II)I" } : Jvm.MethodName)) ∈ lw_all := lw_g (lw_at lw_m5 129 rfl) rfl
theorem q1234 : (Jvm.Cond.code ({ cls := "SwapBook", name := "wrongSets", desc := "(II)I" } : Jvm.MethodName) prog_1_method_45_code (3 : Nat) (Option.some Jvm.ClassFile.FieldType.int)) ∈ lw_all := lw_g (lw_at lw_m5 130 rfl) rfl
theorem q1235 : (Jvm.Cond.methodLink "SwapBook" (290 : Nat) ({ cls := "SwapBook", name := "differs", desc := "(IIZ)I" } : Jvm.MethodName)) ∈ lw_all := lw_g (lw_at lw_m5 131 rfl) rfl
theorem q1236 : (Jvm.Cond.privateMethod ({ cls := "SwapBook", name := "differs", desc := "(IIZ)I" } : Jvm.MethodName)) ∈ lw_tbl := lw_at lw_m5 132 rfl
theorem q1237 : (Jvm.Cond.instanceMethod ({ cls := "SwapBook", name := "differs", desc := "(IIZ)I" } : Jvm.MethodName)) ∈ lw_all := lw_g (lw_at lw_m5 133 rfl) rfl
theorem q1238 : (Jvm.Cond.code ({ cls := "SwapBook", name := "differs", desc := "(IIZ)I" } : Jvm.MethodName) prog_1_method_46_code (7 : Nat) (Option.some Jvm.ClassFile.FieldType.int)) ∈ lw_all := lw_g (lw_at lw_m5 134 rfl) rfl
theorem q1239 : (Jvm.Cond.methodLink "SwapBook" (282 : Nat) ({ cls := "java/lang/Math", name := "max", desc := "(II)I" } : Jvm.MethodName)) ∈ lw_all := lw_g (lw_at lw_m5 135 rfl) rfl
theorem q1240 : (Jvm.Cond.methodLink "SwapBook" (294 : Nat) ({ cls := "SwapBook", name := "inSet", desc := "(II)I" } : Jvm.MethodName)) ∈ lw_all := lw_g (lw_at lw_m5 136 rfl) rfl
theorem q1241 : (Jvm.Cond.privateMethod ({ cls := "SwapBook", name := "inSet", desc := "(II)I" } : Jvm.MethodName)) ∈ lw_tbl := lw_at lw_m5 137 rfl
theorem q1242 : (Jvm.Cond.instanceMethod ({ cls := "SwapBook", name := "inSet", desc := "(II)I" } : Jvm.MethodName)) ∈ lw_all := lw_g (lw_at lw_m5 138 rfl) rfl
theorem q1243 : (Jvm.Cond.code ({ cls := "SwapBook", name := "inSet", desc := "(II)I" } : Jvm.MethodName) prog_1_method_48_code (3 : Nat) (Option.some Jvm.ClassFile.FieldType.int)) ∈ lw_all := lw_g (lw_at lw_m5 139 rfl) rfl
theorem q1244 : (Jvm.Cond.methodLink "SwapBook" (297 : Nat) ({ cls := "SwapBook$Book", name := "quarrels", desc := "(II)I" } : Jvm.MethodName)) ∈ lw_all := lw_g (lw_at lw_m5 140 rfl) rfl
theorem q1246 : (Jvm.Cond.instanceMethod ({ cls := "SwapBook", name := "apart", desc := "(II)I" } : Jvm.MethodName)) ∈ lw_all := lw_g (lw_at lw_m5 142 rfl) rfl
theorem q1247 : (Jvm.Cond.selects "SwapBook" ({ cls := "SwapBook", name := "apart", desc := "(II)I" } : Jvm.MethodName) ({ cls := "SwapBook", name := "apart", desc := "(II)I" } : Jvm.MethodName)) ∈ lw_all := lw_g (lw_at lw_m5 143 rfl) rfl
theorem q1248 : (Jvm.Cond.code ({ cls := "SwapBook", name := "apart", desc := "(II)I" } : Jvm.MethodName) prog_1_method_49_code (5 : Nat) (Option.some Jvm.ClassFile.FieldType.int)) ∈ lw_all := lw_g (lw_at lw_m5 144 rfl) rfl
theorem q1250 : (Jvm.Cond.instanceMethod ({ cls := "SwapBook", name := "quarrels", desc := "(I)I" } : Jvm.MethodName)) ∈ lw_all := lw_g (lw_at lw_m5 146 rfl) rfl
theorem q1251 : (Jvm.Cond.selects "SwapBook" ({ cls := "SwapBook", name := "quarrels", desc := "(I)I" } : Jvm.MethodName) ({ cls := "SwapBook", name := "quarrels", desc := "(I)I" } : Jvm.MethodName)) ∈ lw_all := lw_g (lw_at lw_m5 147 rfl) rfl
theorem q1252 : (Jvm.Cond.code ({ cls := "SwapBook", name := "quarrels", desc := "(I)I" } : Jvm.MethodName) prog_1_method_50_code (4 : Nat) (Option.some Jvm.ClassFile.FieldType.int)) ∈ lw_all := lw_g (lw_at lw_m5 148 rfl) rfl
theorem q1254 : (Jvm.Cond.instanceMethod ({ cls := "SwapBook", name := "with", desc := "(II)I" } : Jvm.MethodName)) ∈ lw_all := lw_g (lw_at lw_m5 150 rfl) rfl
theorem q1255 : (Jvm.Cond.selects "SwapBook" ({ cls := "SwapBook", name := "with", desc := "(II)I" } : Jvm.MethodName) ({ cls := "SwapBook", name := "with", desc := "(II)I" } : Jvm.MethodName)) ∈ lw_all := lw_g (lw_at lw_m5 151 rfl) rfl
theorem q1256 : (Jvm.Cond.code ({ cls := "SwapBook", name := "with", desc := "(II)I" } : Jvm.MethodName) prog_1_method_51_code (3 : Nat) (Option.some Jvm.ClassFile.FieldType.int)) ∈ lw_all := lw_g (lw_at lw_m5 152 rfl) rfl
theorem q1258 : (Jvm.Cond.instanceMethod ({ cls := "SwapBook", name := "leastOut", desc := "(I)I" } : Jvm.MethodName)) ∈ lw_all := lw_g (lw_at lw_m5 154 rfl) rfl
theorem q1259 : (Jvm.Cond.selects "SwapBook" ({ cls := "SwapBook", name := "leastOut", desc := "(I)I" } : Jvm.MethodName) ({ cls := "SwapBook", name := "leastOut", desc := "(I)I" } : Jvm.MethodName)) ∈ lw_all := lw_g (lw_at lw_m5 155 rfl) rfl
theorem q1260 : (Jvm.Cond.code ({ cls := "SwapBook", name := "leastOut", desc := "(I)I" } : Jvm.MethodName) prog_1_method_53_code (3 : Nat) (Option.some Jvm.ClassFile.FieldType.int)) ∈ lw_all := lw_g (lw_at lw_m5 156 rfl) rfl
theorem q1261 : (Jvm.Cond.methodLink "SwapBook" (302 : Nat) ({ cls := "SwapBook", name := "quietest", desc := "(I)I" } : Jvm.MethodName)) ∈ lw_all := lw_g (lw_at lw_m5 157 rfl) rfl
theorem q1262 : (Jvm.Cond.privateMethod ({ cls := "SwapBook", name := "quietest", desc := "(I)I" } : Jvm.MethodName)) ∈ lw_tbl := lw_at lw_m5 158 rfl
theorem q1263 : (Jvm.Cond.instanceMethod ({ cls := "SwapBook", name := "quietest", desc := "(I)I" } : Jvm.MethodName)) ∈ lw_all := lw_g (lw_at lw_m5 159 rfl) rfl
theorem q1264 : (Jvm.Cond.code ({ cls := "SwapBook", name := "quietest", desc := "(I)I" } : Jvm.MethodName) prog_1_method_52_code (5 : Nat) (Option.some Jvm.ClassFile.FieldType.int)) ∈ lw_all := lw_g (lw_at lw_m5 160 rfl) rfl
theorem q1265 : (Jvm.Cond.methodLink "SwapBook" (299 : Nat) ({ cls := "SwapBook$Book", name := "isQuiet", desc := "(I)Z" } : Jvm.MethodName)) ∈ lw_all := lw_g (lw_at lw_m5 161 rfl) rfl
theorem q1270 : (Jvm.Cond.instanceMethod ({ cls := "SwapBook", name := "mostQuiet", desc := "()I" } : Jvm.MethodName)) ∈ lw_all := lw_g (lw_at lw_m5 166 rfl) rfl
theorem q1271 : (Jvm.Cond.selects "SwapBook" ({ cls := "SwapBook", name := "mostQuiet", desc := "()I" } : Jvm.MethodName) ({ cls := "SwapBook", name := "mostQuiet", desc := "()I" } : Jvm.MethodName)) ∈ lw_all := lw_g (lw_at lw_m5 167 rfl) rfl
theorem q1272 : (Jvm.Cond.code ({ cls := "SwapBook", name := "mostQuiet", desc := "()I" } : Jvm.MethodName) prog_1_method_54_code (1 : Nat) (Option.some Jvm.ClassFile.FieldType.int)) ∈ lw_all := lw_g (lw_at lw_m5 168 rfl) rfl
theorem q1274 : (Jvm.Cond.instanceMethod ({ cls := "SwapBook", name := "orders", desc := "(I)J" } : Jvm.MethodName)) ∈ lw_all := lw_g (lw_at lw_m5 170 rfl) rfl
theorem q1275 : (Jvm.Cond.selects "SwapBook" ({ cls := "SwapBook", name := "orders", desc := "(I)J" } : Jvm.MethodName) ({ cls := "SwapBook", name := "orders", desc := "(I)J" } : Jvm.MethodName)) ∈ lw_all := lw_g (lw_at lw_m5 171 rfl) rfl
theorem q1276 : (Jvm.Cond.code ({ cls := "SwapBook", name := "orders", desc := "(I)J" } : Jvm.MethodName) prog_1_method_57_code (3 : Nat) (Option.some Jvm.ClassFile.FieldType.long)) ∈ lw_all := lw_g (lw_at lw_m5 172 rfl) rfl
theorem q1277 : (Jvm.Cond.methodLink "SwapBook" (308 : Nat) ({ cls := "SwapBook", name := "counts", desc := "(I)V" } : Jvm.MethodName)) ∈ lw_all := lw_g (lw_at lw_m5 173 rfl) rfl
theorem q1278 : (Jvm.Cond.privateMethod ({ cls := "SwapBook", name := "counts", desc := "(I)V" } : Jvm.MethodName)) ∈ lw_tbl := lw_at lw_m5 174 rfl
theorem q1279 : (Jvm.Cond.instanceMethod ({ cls := "SwapBook", name := "counts", desc := "(I)V" } : Jvm.MethodName)) ∈ lw_all := lw_g (lw_at lw_m5 175 rfl) rfl
theorem q1280 : (Jvm.Cond.code ({ cls := "SwapBook", name := "counts", desc := "(I)V" } : Jvm.MethodName) prog_1_method_56_code (4 : Nat) (Option.none : Option Jvm.ClassFile.FieldType)) ∈ lw_all := lw_g (lw_at lw_m5 176 rfl) rfl
theorem q1281 : (Jvm.Cond.methodLink "SwapBook" (305 : Nat) ({ cls := "SwapBook", name := "mayCome", desc := "(II)Z" } : Jvm.MethodName)) ∈ lw_all := lw_g (lw_at lw_m5 177 rfl) rfl
theorem q1282 : (Jvm.Cond.privateMethod ({ cls := "SwapBook", name := "mayCome", desc := "(II)Z" } : Jvm.MethodName)) ∈ lw_tbl := lw_at lw_m5 178 rfl
theorem q1283 : (Jvm.Cond.instanceMethod ({ cls := "SwapBook", name := "mayCome", desc := "(II)Z" } : Jvm.MethodName)) ∈ lw_all := lw_g (lw_at lw_m5 179 rfl) rfl
theorem q1284 : (Jvm.Cond.code ({ cls := "SwapBook", name := "mayCome", desc := "(II)Z" } : Jvm.MethodName) prog_1_method_55_code (3 : Nat) (Option.some Jvm.ClassFile.FieldType.boolean)) ∈ lw_all := lw_g (lw_at lw_m5 180 rfl) rfl
theorem q1286 : (Jvm.Cond.instanceMethod ({ cls := "SwapBook", name := "ahead", desc := "(III)Z" } : Jvm.MethodName)) ∈ lw_all := lw_g (lw_at lw_m5 182 rfl) rfl
theorem q1287 : (Jvm.Cond.selects "SwapBook" ({ cls := "SwapBook", name := "ahead", desc := "(III)Z" } : Jvm.MethodName) ({ cls := "SwapBook", name := "ahead", desc := "(III)Z" } : Jvm.MethodName)) ∈ lw_all := lw_g (lw_at lw_m5 183 rfl) rfl
theorem q1288 : (Jvm.Cond.code ({ cls := "SwapBook", name := "ahead", desc := "(III)Z" } : Jvm.MethodName) prog_1_method_58_code (8 : Nat) (Option.some Jvm.ClassFile.FieldType.boolean)) ∈ lw_all := lw_g (lw_at lw_m5 184 rfl) rfl
theorem q1289 : (Jvm.Cond.methodLink "SwapBook" (311 : Nat) ({ cls := "SwapBook", name := "tell", desc := "(JJ)Z" } : Jvm.MethodName)) ∈ lw_all := lw_g (lw_at lw_m5 185 rfl) rfl
theorem q1290 : (Jvm.Cond.privateMethod ({ cls := "SwapBook", name := "tell", desc := "(JJ)Z" } : Jvm.MethodName)) ∈ lw_tbl := lw_at lw_m5 186 rfl
theorem q1291 : (Jvm.Cond.instanceMethod ({ cls := "SwapBook", name := "tell", desc := "(JJ)Z" } : Jvm.MethodName)) ∈ lw_all := lw_g (lw_at lw_m5 187 rfl) rfl
theorem q1292 : (Jvm.Cond.code ({ cls := "SwapBook", name := "tell", desc := "(JJ)Z" } : Jvm.MethodName) prog_1_method_8_code (11 : Nat) (Option.some Jvm.ClassFile.FieldType.boolean)) ∈ lw_all := lw_g (lw_at lw_m5 188 rfl) rfl
theorem q1294 : (Jvm.Cond.instanceMethod ({ cls := "SwapBook", name := "ordered", desc := "(IJ)I" } : Jvm.MethodName)) ∈ lw_all := lw_g (lw_at lw_m5 190 rfl) rfl
theorem q1295 : (Jvm.Cond.selects "SwapBook" ({ cls := "SwapBook", name := "ordered", desc := "(IJ)I" } : Jvm.MethodName) ({ cls := "SwapBook", name := "ordered", desc := "(IJ)I" } : Jvm.MethodName)) ∈ lw_all := lw_g (lw_at lw_m5 191 rfl) rfl
theorem q1296 : (Jvm.Cond.code ({ cls := "SwapBook", name := "ordered", desc := "(IJ)I" } : Jvm.MethodName) prog_1_method_59_code (9 : Nat) (Option.some Jvm.ClassFile.FieldType.int)) ∈ lw_all := lw_g (lw_at lw_m5 192 rfl) rfl
theorem q1298 : (Jvm.Cond.instanceMethod ({ cls := "SwapBook", name := "order", desc := "(II)Z" } : Jvm.MethodName)) ∈ lw_all := lw_g (lw_at lw_m5 194 rfl) rfl
theorem q1299 : (Jvm.Cond.selects "SwapBook" ({ cls := "SwapBook", name := "order", desc := "(II)Z" } : Jvm.MethodName) ({ cls := "SwapBook", name := "order", desc := "(II)Z" } : Jvm.MethodName)) ∈ lw_all := lw_g (lw_at lw_m5 195 rfl) rfl
theorem q1300 : (Jvm.Cond.code ({ cls := "SwapBook", name := "order", desc := "(II)Z" } : Jvm.MethodName) prog_1_method_60_code (8 : Nat) (Option.some Jvm.ClassFile.FieldType.boolean)) ∈ lw_all := lw_g (lw_at lw_m5 196 rfl) rfl
theorem q1301 : (Jvm.Cond.constantLong "SwapBook" (315 : Nat) (16 : Int64)) ∈ lw_all := lw_g (lw_at lw_m5 197 rfl) rfl
theorem q1302 : (Jvm.Cond.methodLink "SwapBook" (317 : Nat) ({ cls := "SwapBook", name := "isFrom", desc := "(JJJ)Z" } : Jvm.MethodName)) ∈ lw_all := lw_g (lw_at lw_m5 198 rfl) rfl
theorem q1303 : (Jvm.Cond.static ({ cls := "SwapBook", name := "isFrom", desc := "(JJJ)Z" } : Jvm.MethodName)) ∈ lw_all := lw_g (lw_at lw_m5 199 rfl) rfl
theorem q1304 : (Jvm.Cond.code ({ cls := "SwapBook", name := "isFrom", desc := "(JJJ)Z" } : Jvm.MethodName) prog_1_method_14_code (6 : Nat) (Option.some Jvm.ClassFile.FieldType.boolean)) ∈ lw_all := lw_g (lw_at lw_m5 200 rfl) rfl
theorem q1305 : (Jvm.Cond.methodLink "SwapBook" (321 : Nat) ({ cls := "SwapBook$Tray", name := "many", desc := "()I" } : Jvm.MethodName)) ∈ lw_all := lw_g (lw_at lw_m5 201 rfl) rfl
theorem q1310 : (Jvm.Cond.instanceMethod ({ cls := "SwapBook", name := "number", desc := "()J" } : Jvm.MethodName)) ∈ lw_all := lw_g (lw_at lw_m5 206 rfl) rfl
theorem q1311 : (Jvm.Cond.selects "SwapBook" ({ cls := "SwapBook", name := "number", desc := "()J" } : Jvm.MethodName) ({ cls := "SwapBook", name := "number", desc := "()J" } : Jvm.MethodName)) ∈ lw_all := lw_g (lw_at lw_m5 207 rfl) rfl
theorem q1312 : (Jvm.Cond.code ({ cls := "SwapBook", name := "number", desc := "()J" } : Jvm.MethodName) prog_1_method_62_code (7 : Nat) (Option.some Jvm.ClassFile.FieldType.long)) ∈ lw_all := lw_g (lw_at lw_m5 208 rfl) rfl
theorem q1313 : (Jvm.Cond.methodLink "SwapBook" (323 : Nat) ({ cls := "SwapBook", name := "upTo", desc := "(I)I" } : Jvm.MethodName)) ∈ lw_all := lw_g (lw_at lw_m5 209 rfl) rfl
theorem q1314 : (Jvm.Cond.privateMethod ({ cls := "SwapBook", name := "upTo", desc := "(I)I" } : Jvm.MethodName)) ∈ lw_tbl := lw_at lw_m5 210 rfl
theorem q1315 : (Jvm.Cond.instanceMethod ({ cls := "SwapBook", name := "upTo", desc := "(I)I" } : Jvm.MethodName)) ∈ lw_all := lw_g (lw_at lw_m5 211 rfl) rfl
theorem q1316 : (Jvm.Cond.code ({ cls := "SwapBook", name := "upTo", desc := "(I)I" } : Jvm.MethodName) prog_1_method_61_code (4 : Nat) (Option.some Jvm.ClassFile.FieldType.int)) ∈ lw_all := lw_g (lw_at lw_m5 212 rfl) rfl
theorem q1318 : (Jvm.Cond.instanceMethod ({ cls := "SwapBook", name := "orderAt", desc := "(I)I" } : Jvm.MethodName)) ∈ lw_all := lw_g (lw_at lw_m5 214 rfl) rfl
theorem q1319 : (Jvm.Cond.selects "SwapBook" ({ cls := "SwapBook", name := "orderAt", desc := "(I)I" } : Jvm.MethodName) ({ cls := "SwapBook", name := "orderAt", desc := "(I)I" } : Jvm.MethodName)) ∈ lw_all := lw_g (lw_at lw_m5 215 rfl) rfl
theorem q1320 : (Jvm.Cond.code ({ cls := "SwapBook", name := "orderAt", desc := "(I)I" } : Jvm.MethodName) prog_1_method_63_code (2 : Nat) (Option.some Jvm.ClassFile.FieldType.int)) ∈ lw_all := lw_g (lw_at lw_m5 216 rfl) rfl
theorem q1322 : (Jvm.Cond.instanceMethod ({ cls := "SwapBook", name := "acts", desc := "(I)I" } : Jvm.MethodName)) ∈ lw_all := lw_g (lw_at lw_m5 218 rfl) rfl
theorem q1323 : (Jvm.Cond.selects "SwapBook" ({ cls := "SwapBook", name := "acts", desc := "(I)I" } : Jvm.MethodName) ({ cls := "SwapBook", name := "acts", desc := "(I)I" } : Jvm.MethodName)) ∈ lw_all := lw_g (lw_at lw_m5 219 rfl) rfl
theorem q1324 : (Jvm.Cond.code ({ cls := "SwapBook", name := "acts", desc := "(I)I" } : Jvm.MethodName) prog_1_method_64_code (3 : Nat) (Option.some Jvm.ClassFile.FieldType.int)) ∈ lw_all := lw_g (lw_at lw_m5 220 rfl) rfl
theorem q1326 : (Jvm.Cond.instanceMethod ({ cls := "SwapBook", name := "swap", desc := "(I)Z" } : Jvm.MethodName)) ∈ lw_all := lw_g (lw_at lw_m5 222 rfl) rfl
theorem q1327 : (Jvm.Cond.selects "SwapBook" ({ cls := "SwapBook", name := "swap", desc := "(I)Z" } : Jvm.MethodName) ({ cls := "SwapBook", name := "swap", desc := "(I)Z" } : Jvm.MethodName)) ∈ lw_all := lw_g (lw_at lw_m5 223 rfl) rfl
theorem q1328 : (Jvm.Cond.code ({ cls := "SwapBook", name := "swap", desc := "(I)Z" } : Jvm.MethodName) prog_1_method_67_code (2 : Nat) (Option.some Jvm.ClassFile.FieldType.boolean)) ∈ lw_all := lw_g (lw_at lw_m5 224 rfl) rfl
theorem q1329 : (Jvm.Cond.methodLink "SwapBook" (326 : Nat) ({ cls := "SwapBook", name := "maySwap", desc := "(I)Z" } : Jvm.MethodName)) ∈ lw_all := lw_g (lw_at lw_m5 225 rfl) rfl
theorem q1330 : (Jvm.Cond.privateMethod ({ cls := "SwapBook", name := "maySwap", desc := "(I)Z" } : Jvm.MethodName)) ∈ lw_tbl := lw_at lw_m5 226 rfl
theorem q1331 : (Jvm.Cond.instanceMethod ({ cls := "SwapBook", name := "maySwap", desc := "(I)Z" } : Jvm.MethodName)) ∈ lw_all := lw_g (lw_at lw_m5 227 rfl) rfl
theorem q1332 : (Jvm.Cond.code ({ cls := "SwapBook", name := "maySwap", desc := "(I)Z" } : Jvm.MethodName) prog_1_method_65_code (2 : Nat) (Option.some Jvm.ClassFile.FieldType.boolean)) ∈ lw_all := lw_g (lw_at lw_m5 228 rfl) rfl
theorem q1333 : (Jvm.Cond.methodLink "SwapBook" (329 : Nat) ({ cls := "SwapBook", name := "swaps", desc := "(I)V" } : Jvm.MethodName)) ∈ lw_all := lw_g (lw_at lw_m5 229 rfl) rfl
theorem q1334 : (Jvm.Cond.privateMethod ({ cls := "SwapBook", name := "swaps", desc := "(I)V" } : Jvm.MethodName)) ∈ lw_tbl := lw_at lw_m5 230 rfl
theorem q1335 : (Jvm.Cond.instanceMethod ({ cls := "SwapBook", name := "swaps", desc := "(I)V" } : Jvm.MethodName)) ∈ lw_all := lw_g (lw_at lw_m5 231 rfl) rfl
theorem q1336 : (Jvm.Cond.code ({ cls := "SwapBook", name := "swaps", desc := "(I)V" } : Jvm.MethodName) prog_1_method_66_code (3 : Nat) (Option.none : Option Jvm.ClassFile.FieldType)) ∈ lw_all := lw_g (lw_at lw_m5 232 rfl) rfl
theorem q1338 : (Jvm.Cond.instanceMethod ({ cls := "SwapBook", name := "forward", desc := "(I)I" } : Jvm.MethodName)) ∈ lw_all := lw_g (lw_at lw_m5 234 rfl) rfl
theorem q1339 : (Jvm.Cond.selects "SwapBook" ({ cls := "SwapBook", name := "forward", desc := "(I)I" } : Jvm.MethodName) ({ cls := "SwapBook", name := "forward", desc := "(I)I" } : Jvm.MethodName)) ∈ lw_all := lw_g (lw_at lw_m5 235 rfl) rfl
theorem q1340 : (Jvm.Cond.code ({ cls := "SwapBook", name := "forward", desc := "(I)I" } : Jvm.MethodName) prog_1_method_68_code (3 : Nat) (Option.some Jvm.ClassFile.FieldType.int)) ∈ lw_all := lw_g (lw_at lw_m5 236 rfl) rfl
theorem q1342 : (Jvm.Cond.instanceMethod ({ cls := "SwapBook", name := "swaps", desc := "()I" } : Jvm.MethodName)) ∈ lw_all := lw_g (lw_at lw_m5 238 rfl) rfl
theorem q1343 : (Jvm.Cond.selects "SwapBook" ({ cls := "SwapBook", name := "swaps", desc := "()I" } : Jvm.MethodName) ({ cls := "SwapBook", name := "swaps", desc := "()I" } : Jvm.MethodName)) ∈ lw_all := lw_g (lw_at lw_m5 239 rfl) rfl
theorem q1344 : (Jvm.Cond.code ({ cls := "SwapBook", name := "swaps", desc := "()I" } : Jvm.MethodName) prog_1_method_69_code (6 : Nat) (Option.some Jvm.ClassFile.FieldType.int)) ∈ lw_all := lw_g (lw_at lw_m6 0 rfl) rfl
theorem q1346 : (Jvm.Cond.instanceMethod ({ cls := "SwapBook", name := "has", desc := "(I)I" } : Jvm.MethodName)) ∈ lw_all := lw_g (lw_at lw_m6 2 rfl) rfl
theorem q1347 : (Jvm.Cond.selects "SwapBook" ({ cls := "SwapBook", name := "has", desc := "(I)I" } : Jvm.MethodName) ({ cls := "SwapBook", name := "has", desc := "(I)I" } : Jvm.MethodName)) ∈ lw_all := lw_g (lw_at lw_m6 3 rfl) rfl
theorem q1348 : (Jvm.Cond.code ({ cls := "SwapBook", name := "has", desc := "(I)I" } : Jvm.MethodName) prog_1_method_70_code (2 : Nat) (Option.some Jvm.ClassFile.FieldType.int)) ∈ lw_all := lw_g (lw_at lw_m6 4 rfl) rfl
theorem q1349 : (Jvm.Cond.methodLink "SwapBook" (332 : Nat) ({ cls := "SwapBook", name := "isIsland", desc := "(I)Z" } : Jvm.MethodName)) ∈ lw_all := lw_g (lw_at lw_m6 5 rfl) rfl
theorem q1350 : (Jvm.Cond.privateMethod ({ cls := "SwapBook", name := "isIsland", desc := "(I)Z" } : Jvm.MethodName)) ∈ lw_tbl := lw_at lw_m6 6 rfl
theorem q1351 : (Jvm.Cond.instanceMethod ({ cls := "SwapBook", name := "isIsland", desc := "(I)Z" } : Jvm.MethodName)) ∈ lw_all := lw_g (lw_at lw_m6 7 rfl) rfl
theorem q1352 : (Jvm.Cond.code ({ cls := "SwapBook", name := "isIsland", desc := "(I)Z" } : Jvm.MethodName) prog_1_method_16_code (2 : Nat) (Option.some Jvm.ClassFile.FieldType.boolean)) ∈ lw_all := lw_g (lw_at lw_m6 8 rfl) rfl
theorem q1354 : (Jvm.Cond.instanceMethod ({ cls := "SwapBook", name := "give", desc := "(II)Z" } : Jvm.MethodName)) ∈ lw_all := lw_g (lw_at lw_m6 10 rfl) rfl
theorem q1355 : (Jvm.Cond.selects "SwapBook" ({ cls := "SwapBook", name := "give", desc := "(II)Z" } : Jvm.MethodName) ({ cls := "SwapBook", name := "give", desc := "(II)Z" } : Jvm.MethodName)) ∈ lw_all := lw_g (lw_at lw_m6 11 rfl) rfl
theorem q1356 : (Jvm.Cond.code ({ cls := "SwapBook", name := "give", desc := "(II)Z" } : Jvm.MethodName) prog_1_method_71_code (3 : Nat) (Option.some Jvm.ClassFile.FieldType.boolean)) ∈ lw_all := lw_g (lw_at lw_m6 12 rfl) rfl
theorem q1358 : (Jvm.Cond.instanceMethod ({ cls := "SwapBook", name := "sail", desc := "(I)I" } : Jvm.MethodName)) ∈ lw_all := lw_g (lw_at lw_m6 14 rfl) rfl
theorem q1359 : (Jvm.Cond.selects "SwapBook" ({ cls := "SwapBook", name := "sail", desc := "(I)I" } : Jvm.MethodName) ({ cls := "SwapBook", name := "sail", desc := "(I)I" } : Jvm.MethodName)) ∈ lw_all := lw_g (lw_at lw_m6 15 rfl) rfl
theorem q1360 : (Jvm.Cond.code ({ cls := "SwapBook", name := "sail", desc := "(I)I" } : Jvm.MethodName) prog_1_method_81_code (2 : Nat) (Option.some Jvm.ClassFile.FieldType.int)) ∈ lw_all := lw_g (lw_at lw_m6 16 rfl) rfl
theorem q1361 : (Jvm.Cond.constantLong "SwapBook" (411 : Nat) (9999 : Int64)) ∈ lw_all := lw_g (lw_at lw_m6 17 rfl) rfl
theorem q1362 : (Jvm.Cond.methodLink "SwapBook" (413 : Nat) ({ cls := "SwapBook", name := "sails", desc := "(I)V" } : Jvm.MethodName)) ∈ lw_all := lw_g (lw_at lw_m6 18 rfl) rfl
theorem q1363 : (Jvm.Cond.privateMethod ({ cls := "SwapBook", name := "sails", desc := "(I)V" } : Jvm.MethodName)) ∈ lw_tbl := lw_at lw_m6 19 rfl
theorem q1364 : (Jvm.Cond.instanceMethod ({ cls := "SwapBook", name := "sails", desc := "(I)V" } : Jvm.MethodName)) ∈ lw_all := lw_g (lw_at lw_m6 20 rfl) rfl
theorem q1365 : (Jvm.Cond.code ({ cls := "SwapBook", name := "sails", desc := "(I)V" } : Jvm.MethodName) prog_1_method_80_code (4 : Nat) (Option.none : Option Jvm.ClassFile.FieldType)) ∈ lw_all := lw_g (lw_at lw_m6 21 rfl) rfl
theorem q1366 : (Jvm.Cond.methodLink "SwapBook" (403 : Nat) ({ cls := "SwapBook", name := "does", desc := "(LSwapBook$Step;)Z" } : Jvm.MethodName)) ∈ lw_all := lw_g (lw_at lw_m6 22 rfl) rfl
theorem q1367 : (Jvm.Cond.privateMethod ({ cls := "SwapBook", name := "does", desc := "(LSwapBook$Step;)Z" } : Jvm.MethodName)) ∈ lw_tbl := lw_at lw_m6 23 rfl
theorem q1368 : (Jvm.Cond.instanceMethod ({ cls := "SwapBook", name := "does", desc := "(LSwapBook$Step;)Z" } : Jvm.MethodName)) ∈ lw_all := lw_g (lw_at lw_m6 24 rfl) rfl
theorem q1369 : (Jvm.Cond.code ({ cls := "SwapBook", name := "does", desc := "(LSwapBook$Step;)Z" } : Jvm.MethodName) prog_1_method_77_code (5 : Nat) (Option.some Jvm.ClassFile.FieldType.boolean)) ∈ lw_all := lw_g (lw_at lw_m6 25 rfl) rfl
theorem q1370 : (Jvm.Cond.methodLink "SwapBook" (376 : Nat) ({ cls := "SwapBook", name := "ships", desc := "(LSwapBook$Step;)Z" } : Jvm.MethodName)) ∈ lw_all := lw_g (lw_at lw_m6 26 rfl) rfl
theorem q1371 : (Jvm.Cond.privateMethod ({ cls := "SwapBook", name := "ships", desc := "(LSwapBook$Step;)Z" } : Jvm.MethodName)) ∈ lw_tbl := lw_at lw_m6 27 rfl
theorem q1372 : (Jvm.Cond.instanceMethod ({ cls := "SwapBook", name := "ships", desc := "(LSwapBook$Step;)Z" } : Jvm.MethodName)) ∈ lw_all := lw_g (lw_at lw_m6 28 rfl) rfl
theorem q1373 : (Jvm.Cond.code ({ cls := "SwapBook", name := "ships", desc := "(LSwapBook$Step;)Z" } : Jvm.MethodName) prog_1_method_75_code (4 : Nat) (Option.some Jvm.ClassFile.FieldType.boolean)) ∈ lw_all := lw_g (lw_at lw_m6 29 rfl) rfl
theorem q1374 : (Jvm.Cond.methodLink "SwapBook" (365 : Nat) ({ cls := "SwapBook", name := "sets", desc := "(III)V" } : Jvm.MethodName)) ∈ lw_all := lw_g (lw_at lw_m6 30 rfl) rfl
theorem q1375 : (Jvm.Cond.privateMethod ({ cls := "SwapBook", name := "sets", desc := "(III)V" } : Jvm.MethodName)) ∈ lw_tbl := lw_at lw_m6 31 rfl
theorem q1376 : (Jvm.Cond.instanceMethod ({ cls := "SwapBook", name := "sets", desc := "(III)V" } : Jvm.MethodName)) ∈ lw_all := lw_g (lw_at lw_m6 32 rfl) rfl
theorem q1377 : (Jvm.Cond.code ({ cls := "SwapBook", name := "sets", desc := "(III)V" } : Jvm.MethodName) prog_1_method_72_code (4 : Nat) (Option.none : Option Jvm.ClassFile.FieldType)) ∈ lw_all := lw_g (lw_at lw_m6 33 rfl) rfl
theorem q1378 : (Jvm.Cond.methodLink "SwapBook" (382 : Nat) ({ cls := "SwapBook", name := "arrives", desc := "()V" } : Jvm.MethodName)) ∈ lw_all := lw_g (lw_at lw_m6 34 rfl) rfl
theorem q1379 : (Jvm.Cond.privateMethod ({ cls := "SwapBook", name := "arrives", desc := "()V" } : Jvm.MethodName)) ∈ lw_tbl := lw_at lw_m6 35 rfl
theorem q1380 : (Jvm.Cond.instanceMethod ({ cls := "SwapBook", name := "arrives", desc := "()V" } : Jvm.MethodName)) ∈ lw_all := lw_g (lw_at lw_m6 36 rfl) rfl
theorem q1381 : (Jvm.Cond.code ({ cls := "SwapBook", name := "arrives", desc := "()V" } : Jvm.MethodName) prog_1_method_74_code (2 : Nat) (Option.none : Option Jvm.ClassFile.FieldType)) ∈ lw_all := lw_g (lw_at lw_m6 37 rfl) rfl
theorem q1382 : (Jvm.Cond.methodLink "SwapBook" (347 : Nat) ({ cls := "SwapBook", name := "removes", desc := "(I)V" } : Jvm.MethodName)) ∈ lw_all := lw_g (lw_at lw_m6 38 rfl) rfl
theorem q1383 : (Jvm.Cond.privateMethod ({ cls := "SwapBook", name := "removes", desc := "(I)V" } : Jvm.MethodName)) ∈ lw_tbl := lw_at lw_m6 39 rfl
theorem q1384 : (Jvm.Cond.instanceMethod ({ cls := "SwapBook", name := "removes", desc := "(I)V" } : Jvm.MethodName)) ∈ lw_all := lw_g (lw_at lw_m6 40 rfl) rfl
theorem q1385 : (Jvm.Cond.code ({ cls := "SwapBook", name := "removes", desc := "(I)V" } : Jvm.MethodName) prog_1_method_73_code (3 : Nat) (Option.none : Option Jvm.ClassFile.FieldType)) ∈ lw_all := lw_g (lw_at lw_m6 41 rfl) rfl
theorem q1386 : (Jvm.Cond.methodLink "SwapBook" (385 : Nat) ({ cls := "SwapBook", name := "draws", desc := "(I)V" } : Jvm.MethodName)) ∈ lw_all := lw_g (lw_at lw_m6 42 rfl) rfl
theorem q1387 : (Jvm.Cond.privateMethod ({ cls := "SwapBook", name := "draws", desc := "(I)V" } : Jvm.MethodName)) ∈ lw_tbl := lw_at lw_m6 43 rfl
theorem q1388 : (Jvm.Cond.instanceMethod ({ cls := "SwapBook", name := "draws", desc := "(I)V" } : Jvm.MethodName)) ∈ lw_all := lw_g (lw_at lw_m6 44 rfl) rfl
theorem q1389 : (Jvm.Cond.code ({ cls := "SwapBook", name := "draws", desc := "(I)V" } : Jvm.MethodName) prog_1_method_76_code (3 : Nat) (Option.none : Option Jvm.ClassFile.FieldType)) ∈ lw_all := lw_g (lw_at lw_m6 45 rfl) rfl
theorem q1390 : (Jvm.Cond.methodLink "SwapBook" (406 : Nat) ({ cls := "SwapBook", name := "holds", desc := "(LSwapBook$Step;)Z" } : Jvm.MethodName)) ∈ lw_all := lw_g (lw_at lw_m6 46 rfl) rfl
theorem q1391 : (Jvm.Cond.privateMethod ({ cls := "SwapBook", name := "holds", desc := "(LSwapBook$Step;)Z" } : Jvm.MethodName)) ∈ lw_tbl := lw_at lw_m6 47 rfl
theorem q1392 : (Jvm.Cond.instanceMethod ({ cls := "SwapBook", name := "holds", desc := "(LSwapBook$Step;)Z" } : Jvm.MethodName)) ∈ lw_all := lw_g (lw_at lw_m6 48 rfl) rfl
theorem q1393 : (Jvm.Cond.code ({ cls := "SwapBook", name := "holds", desc := "(LSwapBook$Step;)Z" } : Jvm.MethodName) prog_1_method_78_code (2 : Nat) (Option.some Jvm.ClassFile.FieldType.boolean)) ∈ lw_all := lw_g (lw_at lw_m6 49 rfl) rfl
theorem q1394 : (Jvm.Cond.methodLink "SwapBook" (408 : Nat) ({ cls := "SwapBook", name := "behindEnds", desc := "(I)I" } : Jvm.MethodName)) ∈ lw_all := lw_g (lw_at lw_m6 50 rfl) rfl
theorem q1395 : (Jvm.Cond.privateMethod ({ cls := "SwapBook", name := "behindEnds", desc := "(I)I" } : Jvm.MethodName)) ∈ lw_tbl := lw_at lw_m6 51 rfl
theorem q1396 : (Jvm.Cond.instanceMethod ({ cls := "SwapBook", name := "behindEnds", desc := "(I)I" } : Jvm.MethodName)) ∈ lw_all := lw_g (lw_at lw_m6 52 rfl) rfl
theorem q1397 : (Jvm.Cond.code ({ cls := "SwapBook", name := "behindEnds", desc := "(I)I" } : Jvm.MethodName) prog_1_method_79_code (5 : Nat) (Option.some Jvm.ClassFile.FieldType.int)) ∈ lw_all := lw_g (lw_at lw_m6 53 rfl) rfl
theorem q1399 : (Jvm.Cond.instanceMethod ({ cls := "SwapBook", name := "sailed", desc := "(I)I" } : Jvm.MethodName)) ∈ lw_all := lw_g (lw_at lw_m6 55 rfl) rfl
theorem q1400 : (Jvm.Cond.selects "SwapBook" ({ cls := "SwapBook", name := "sailed", desc := "(I)I" } : Jvm.MethodName) ({ cls := "SwapBook", name := "sailed", desc := "(I)I" } : Jvm.MethodName)) ∈ lw_all := lw_g (lw_at lw_m6 56 rfl) rfl
theorem q1401 : (Jvm.Cond.code ({ cls := "SwapBook", name := "sailed", desc := "(I)I" } : Jvm.MethodName) prog_1_method_82_code (2 : Nat) (Option.some Jvm.ClassFile.FieldType.int)) ∈ lw_all := lw_g (lw_at lw_m6 57 rfl) rfl
theorem q1403 : (Jvm.Cond.instanceMethod ({ cls := "SwapBook", name := "agreed", desc := "(II)I" } : Jvm.MethodName)) ∈ lw_all := lw_g (lw_at lw_m6 59 rfl) rfl
theorem q1404 : (Jvm.Cond.selects "SwapBook" ({ cls := "SwapBook", name := "agreed", desc := "(II)I" } : Jvm.MethodName) ({ cls := "SwapBook", name := "agreed", desc := "(II)I" } : Jvm.MethodName)) ∈ lw_all := lw_g (lw_at lw_m6 60 rfl) rfl
theorem q1405 : (Jvm.Cond.code ({ cls := "SwapBook", name := "agreed", desc := "(II)I" } : Jvm.MethodName) prog_1_method_83_code (7 : Nat) (Option.some Jvm.ClassFile.FieldType.int)) ∈ lw_all := lw_g (lw_at lw_m6 61 rfl) rfl
theorem q1406 : (Jvm.Cond.constantLong "SwapBook" (419 : Nat) (30 : Int64)) ∈ lw_all := lw_g (lw_at lw_m6 62 rfl) rfl
theorem q1408 : (Jvm.Cond.instanceMethod ({ cls := "SwapBook", name := "seal", desc := "(II)I" } : Jvm.MethodName)) ∈ lw_all := lw_g (lw_at lw_m6 64 rfl) rfl
theorem q1409 : (Jvm.Cond.selects "SwapBook" ({ cls := "SwapBook", name := "seal", desc := "(II)I" } : Jvm.MethodName) ({ cls := "SwapBook", name := "seal", desc := "(II)I" } : Jvm.MethodName)) ∈ lw_all := lw_g (lw_at lw_m6 65 rfl) rfl
theorem q1410 : (Jvm.Cond.code ({ cls := "SwapBook", name := "seal", desc := "(II)I" } : Jvm.MethodName) prog_1_method_84_code (9 : Nat) (Option.some Jvm.ClassFile.FieldType.int)) ∈ lw_all := lw_g (lw_at lw_m6 66 rfl) rfl
theorem q1412 : (Jvm.Cond.instanceMethod ({ cls := "SwapBook", name := "open", desc := "(I)I" } : Jvm.MethodName)) ∈ lw_all := lw_g (lw_at lw_m6 68 rfl) rfl
theorem q1413 : (Jvm.Cond.selects "SwapBook" ({ cls := "SwapBook", name := "open", desc := "(I)I" } : Jvm.MethodName) ({ cls := "SwapBook", name := "open", desc := "(I)I" } : Jvm.MethodName)) ∈ lw_all := lw_g (lw_at lw_m6 69 rfl) rfl
theorem q1414 : (Jvm.Cond.code ({ cls := "SwapBook", name := "open", desc := "(I)I" } : Jvm.MethodName) prog_1_method_85_code (9 : Nat) (Option.some Jvm.ClassFile.FieldType.int)) ∈ lw_all := lw_g (lw_at lw_m6 70 rfl) rfl
theorem q1415 : (Jvm.Cond.constantLong "SwapBook" (421 : Nat) (5 : Int64)) ∈ lw_all := lw_g (lw_at lw_m6 71 rfl) rfl
theorem q1417 : (Jvm.Cond.instanceMethod ({ cls := "SwapBook", name := "mark", desc := "()I" } : Jvm.MethodName)) ∈ lw_all := lw_g (lw_at lw_m6 73 rfl) rfl
theorem q1418 : (Jvm.Cond.selects "SwapBook" ({ cls := "SwapBook", name := "mark", desc := "()I" } : Jvm.MethodName) ({ cls := "SwapBook", name := "mark", desc := "()I" } : Jvm.MethodName)) ∈ lw_all := lw_g (lw_at lw_m6 74 rfl) rfl
theorem q1419 : (Jvm.Cond.code ({ cls := "SwapBook", name := "mark", desc := "()I" } : Jvm.MethodName) prog_1_method_86_code (2 : Nat) (Option.some Jvm.ClassFile.FieldType.int)) ∈ lw_all := lw_g (lw_at lw_m6 75 rfl) rfl
theorem q1421 : (Jvm.Cond.methodLinkNest "SwapBook" (426 : Nat) ({ cls := "SwapBook$Kept", name := "<init>", desc := "()V" } : Jvm.MethodName) "SwapBook") ∈ lw_tbl := lw_at lw_m6 77 rfl
theorem q1426 : (Jvm.Cond.fieldLink "SwapBook" (427 : Nat) "SwapBook$Kept" "had" "[I") ∈ lw_all := lw_g (lw_at lw_m6 82 rfl) rfl
theorem q1428 : (Jvm.Cond.fieldLink "SwapBook" (428 : Nat) "SwapBook$Kept" "order" "[I") ∈ lw_all := lw_g (lw_at lw_m6 84 rfl) rfl
theorem q1429 : (Jvm.Cond.fieldLink "SwapBook" (429 : Nat) "SwapBook$Kept" "book" "LSwapBook$Book;") ∈ lw_all := lw_g (lw_at lw_m6 85 rfl) rfl
theorem q1430 : (Jvm.Cond.fieldLink "SwapBook" (430 : Nat) "SwapBook$Kept" "steps" "[LSwapBook$Step;") ∈ lw_all := lw_g (lw_at lw_m6 86 rfl) rfl
theorem q1431 : (Jvm.Cond.fieldLink "SwapBook" (431 : Nat) "SwapBook$Kept" "stepMany" "I") ∈ lw_all := lw_g (lw_at lw_m6 87 rfl) rfl
theorem q1432 : (Jvm.Cond.fieldLink "SwapBook" (432 : Nat) "SwapBook$Kept" "orderMany" "I") ∈ lw_all := lw_g (lw_at lw_m6 88 rfl) rfl
theorem q1447 : (Jvm.Cond.instanceMethod ({ cls := "SwapBook", name := "back", desc := "()I" } : Jvm.MethodName)) ∈ lw_all := lw_g (lw_at lw_m6 103 rfl) rfl
theorem q1448 : (Jvm.Cond.selects "SwapBook" ({ cls := "SwapBook", name := "back", desc := "()I" } : Jvm.MethodName) ({ cls := "SwapBook", name := "back", desc := "()I" } : Jvm.MethodName)) ∈ lw_all := lw_g (lw_at lw_m6 104 rfl) rfl
theorem q1449 : (Jvm.Cond.code ({ cls := "SwapBook", name := "back", desc := "()I" } : Jvm.MethodName) prog_1_method_87_code (2 : Nat) (Option.some Jvm.ClassFile.FieldType.int)) ∈ lw_all := lw_g (lw_at lw_m6 105 rfl) rfl
theorem in_X0 : ∀ w ∈ wsX00, w ∈ lw_all := lw_in wsX00 [422, 424, 426, 428, 430, 432, 434, 436, 438, 440, 442, 444, 446, 448, 450, 452, 454, 456, 458, 460, 462, 464, 466, 468, 470, 472, 474, 476, 478, 480, 482, 484, 486, 488, 490, 492, 494] (by decide +kernel) (by decide +kernel)
