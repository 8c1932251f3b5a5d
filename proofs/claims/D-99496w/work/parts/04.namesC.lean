/-! SweptSnowModel -/
set_option maxRecDepth 100000
def RX4 : String := "SweptSnowModel"
def TX4 : u_T := fun k => match k with
  | 0 => ("SweptSnowModel", "tape", "[B", true)
  | 1 => ("SweptSnowModel", "taped", "I", false)
  | 2 => ("SweptSnowModel", "rules", "I", false)
  | 3 => ("SweptSnowModel", "sign", "[I", true)
  | 4 => ("SweptSnowModel", "length", "[I", true)
  | 5 => ("SweptSnowModel", "clause", "[I", true)
  | 6 => ("SweptSnowModel", "clauses", "[I", true)
  | 7 => ("SweptSnowModel", "read", "[I", true)
  | 8 => ("SweptSnowModel", "next", "I", false)
  | 9 => ("SweptSnowModel", "wrong", "I", false)
  | 10 => ("SweptSnowModel", "number", "I", false)
  | 11 => ("SweptSnowModel", "text", "I", false)
  | 12 => ("SweptSnowModel", "made", "I", false)
  | 13 => ("SweptSnowModel", "deep", "I", false)
  | 14 => ("SweptSnowModel", "lines", "I", false)
  | 15 => ("SweptSnowModel", "open", "[I", true)
  | 16 => ("SweptSnowModel", "opened", "I", false)
  | 17 => ("SweptSnowModel", "firstStep", "I", false)
  | 18 => ("SweptSnowModel", "secondStep", "I", false)
  | 19 => ("SweptSnowModel", "stack", "[J", true)
  | 20 => ("SweptSnowModel", "top", "I", false)
  | 21 => ("SweptSnowModel", "word", "[J", true)
  | 22 => ("SweptSnowModel", "said", "[I", true)
  | 23 => ("SweptSnowModel", "force", "I", false)
  | 24 => ("SweptSnowModel", "x", "I", false)
  | 25 => ("SweptSnowModel", "thrown", "[I", true)
  | 26 => ("SweptSnowModel", "fallen", "[I", true)
  | 27 => ("SweptSnowModel", "wasSaid", "[I", true)
  | 28 => ("SweptSnowModel", "undone", "I", false)
  | 29 => ("SweptSnowModel", "kept", "[I", true)
  | 30 => ("SweptSnowModel", "lies", "[I", true)
  | 31 => ("SweptSnowModel", "price", "[I", true)
  | 32 => ("SweptSnowModel", "hasBy", "[I", true)
  | 33 => ("SweptSnowModel", "isFit", "[Z", true)
  | 34 => ("SweptSnowModel", "snowThen", "[I", true)
  | 35 => ("SweptSnowModel", "drawX", "J", false)
  | 36 => ("SweptSnowModel", "images", "[I", true)
  | 37 => ("SweptSnowModel", "imageForce", "[I", true)
  | 38 => ("SweptSnowModel", "imageX", "[I", true)
  | _ => ("SweptSnowModel", "isMade", "[Z", true)
def tyX4 : Nat → FieldType := fun k => match k with
  | 0 => .array .byte
  | 1 => .int
  | 2 => .int
  | 3 => .array .int
  | 4 => .array .int
  | 5 => .array .int
  | 6 => .array .int
  | 7 => .array .int
  | 8 => .int
  | 9 => .int
  | 10 => .int
  | 11 => .int
  | 12 => .int
  | 13 => .int
  | 14 => .int
  | 15 => .array .int
  | 16 => .int
  | 17 => .int
  | 18 => .int
  | 19 => .array .long
  | 20 => .int
  | 21 => .array .long
  | 22 => .array .int
  | 23 => .int
  | 24 => .int
  | 25 => .array .int
  | 26 => .array .int
  | 27 => .array .int
  | 28 => .int
  | 29 => .array .int
  | 30 => .array .int
  | 31 => .array .int
  | 32 => .array .int
  | 33 => .array .boolean
  | 34 => .array .int
  | 35 => .long
  | 36 => .array .int
  | 37 => .array .int
  | 38 => .array .int
  | _ => .array .boolean
abbrev wsX40 : List Cond := u_ws RX4 TX4 40
set_option maxRecDepth 100000 in
theorem nmX4 : ∀ a, a < 40 → ∀ b, b < 40 → a ≠ b → (TX4 a).2.1 ≠ (TX4 b).2.1 := by decide +kernel
set_option maxRecDepth 100000 in
theorem tyX4_ok : ∀ k, k < 40 → parseFieldDescriptor (TX4 k).2.2.1 = some (tyX4 k) := by decide +kernel
abbrev cX4_init : ByteArray := prog_19_method_1_code
def yX4_init : MethodName := ⟨RX4, "<init>", "()V"⟩
def dkwX4_init_8 : List UInt8 := [188, 10, 181, 0, 80, 42, 7, 188, 4, 181, 0, 83, 177]
abbrev dktX4_init_8 : List UInt8 := dkwX4_init_8 ++ []
def dkwX4_init_7 : List UInt8 := [188, 10, 181, 0, 71, 42, 17, 1, 240, 188, 10, 181, 0, 74, 42, 7, 188, 10, 181, 0, 77, 42, 7]
abbrev dktX4_init_7 : List UInt8 := dkwX4_init_7 ++ dktX4_init_8
def dkwX4_init_6 : List UInt8 := [188, 10, 181, 0, 61, 42, 16, 64, 188, 10, 181, 0, 64, 42, 16, 7, 188, 4, 181, 0, 67, 42, 16, 56]
abbrev dktX4_init_6 : List UInt8 := dkwX4_init_6 ++ dktX4_init_7
def dkwX4_init_5 : List UInt8 := [181, 0, 52, 42, 16, 20, 188, 10, 181, 0, 55, 42, 17, 1, 232, 188, 10, 181, 0, 58, 42, 16, 8]
abbrev dktX4_init_5 : List UInt8 := dkwX4_init_5 ++ dktX4_init_6
def dkwX4_init_4 : List UInt8 := [42, 16, 8, 188, 10, 181, 0, 46, 42, 16, 8, 188, 10, 181, 0, 49, 42, 17, 1, 144, 188, 10]
abbrev dktX4_init_4 : List UInt8 := dkwX4_init_4 ++ dktX4_init_5
def dkwX4_init_3 : List UInt8 := [181, 0, 32, 42, 16, 12, 188, 11, 181, 0, 36, 42, 16, 124, 188, 10, 181, 0, 39, 42, 2, 181, 0, 42]
abbrev dktX4_init_3 : List UInt8 := dkwX4_init_3 ++ dktX4_init_4
def dkwX4_init_2 : List UInt8 := [42, 16, 93, 188, 10, 181, 0, 26, 42, 17, 1, 144, 188, 10, 181, 0, 29, 42, 16, 64, 188, 11]
abbrev dktX4_init_2 : List UInt8 := dkwX4_init_2 ++ dktX4_init_3
def dkwX4_init_1 : List UInt8 := [16, 7, 188, 10, 181, 0, 17, 42, 17, 1, 32, 188, 10, 181, 0, 20, 42, 16, 6, 188, 10, 181, 0, 23]
abbrev dktX4_init_1 : List UInt8 := dkwX4_init_1 ++ dktX4_init_2
def dkwX4_init_0 : List UInt8 := [42, 183, 0, 1, 42, 17, 1, 144, 188, 8, 181, 0, 7, 42, 17, 9, 96, 188, 10, 181, 0, 13, 42]
abbrev dktX4_init_0 : List UInt8 := dkwX4_init_0 ++ dktX4_init_1
theorem dksX4_init_0 : cX4_init.data.toList.drop 0 = dktX4_init_0 := by decide +kernel
theorem dksX4_init_1 : cX4_init.data.toList.drop 23 = dktX4_init_1 := dk_seg dksX4_init_0 23 rfl rfl
theorem dksX4_init_2 : cX4_init.data.toList.drop 47 = dktX4_init_2 := dk_seg dksX4_init_1 24 rfl rfl
theorem dksX4_init_3 : cX4_init.data.toList.drop 69 = dktX4_init_3 := dk_seg dksX4_init_2 22 rfl rfl
theorem dksX4_init_4 : cX4_init.data.toList.drop 93 = dktX4_init_4 := dk_seg dksX4_init_3 24 rfl rfl
theorem dksX4_init_5 : cX4_init.data.toList.drop 115 = dktX4_init_5 := dk_seg dksX4_init_4 22 rfl rfl
theorem dksX4_init_6 : cX4_init.data.toList.drop 138 = dktX4_init_6 := dk_seg dksX4_init_5 23 rfl rfl
theorem dksX4_init_7 : cX4_init.data.toList.drop 162 = dktX4_init_7 := dk_seg dksX4_init_6 24 rfl rfl
theorem dksX4_init_8 : cX4_init.data.toList.drop 185 = dktX4_init_8 := dk_seg dksX4_init_7 23 rfl rfl
theorem dX4_init_0 : decode cX4_init 0 = .ok (.aload_n 0, 1) := dk_42 (dk_at dksX4_init_0 0 rfl rfl)
theorem dX4_init_1 : decode cX4_init 1 = .ok (.invokespecial 1, 3) := dk_183 0 1 (dk_at dksX4_init_0 1 rfl rfl)
theorem dX4_init_4 : decode cX4_init 4 = .ok (.aload_n 0, 1) := dk_42 (dk_at dksX4_init_0 4 rfl rfl)
theorem dX4_init_5 : decode cX4_init 5 = .ok (.sipush 400, 3) := dk_17 1 144 (dk_at dksX4_init_0 5 rfl rfl)
theorem dX4_init_8 : decode cX4_init 8 = .ok (.newarray .byte, 2) := dk_188_8 (dk_at dksX4_init_0 8 rfl rfl)
theorem dX4_init_10 : decode cX4_init 10 = .ok (.putfield 7, 3) := dk_181 0 7 (dk_at dksX4_init_0 10 rfl rfl)
theorem dX4_init_13 : decode cX4_init 13 = .ok (.aload_n 0, 1) := dk_42 (dk_at dksX4_init_0 13 rfl rfl)
theorem dX4_init_14 : decode cX4_init 14 = .ok (.sipush 2400, 3) := dk_17 9 96 (dk_at dksX4_init_0 14 rfl rfl)
theorem dX4_init_17 : decode cX4_init 17 = .ok (.newarray .int, 2) := dk_188_10 (dk_at dksX4_init_0 17 rfl rfl)
theorem dX4_init_19 : decode cX4_init 19 = .ok (.putfield 13, 3) := dk_181 0 13 (dk_at dksX4_init_0 19 rfl rfl)
theorem dX4_init_22 : decode cX4_init 22 = .ok (.aload_n 0, 1) := dk_42 (dk_at dksX4_init_0 22 rfl rfl)
theorem dX4_init_23 : decode cX4_init 23 = .ok (.bipush 7, 2) := dk_16 7 (dk_at dksX4_init_1 0 rfl rfl)
theorem dX4_init_25 : decode cX4_init 25 = .ok (.newarray .int, 2) := dk_188_10 (dk_at dksX4_init_1 2 rfl rfl)
theorem dX4_init_27 : decode cX4_init 27 = .ok (.putfield 17, 3) := dk_181 0 17 (dk_at dksX4_init_1 4 rfl rfl)
theorem dX4_init_30 : decode cX4_init 30 = .ok (.aload_n 0, 1) := dk_42 (dk_at dksX4_init_1 7 rfl rfl)
theorem dX4_init_31 : decode cX4_init 31 = .ok (.sipush 288, 3) := dk_17 1 32 (dk_at dksX4_init_1 8 rfl rfl)
theorem dX4_init_34 : decode cX4_init 34 = .ok (.newarray .int, 2) := dk_188_10 (dk_at dksX4_init_1 11 rfl rfl)
theorem dX4_init_36 : decode cX4_init 36 = .ok (.putfield 20, 3) := dk_181 0 20 (dk_at dksX4_init_1 13 rfl rfl)
theorem dX4_init_39 : decode cX4_init 39 = .ok (.aload_n 0, 1) := dk_42 (dk_at dksX4_init_1 16 rfl rfl)
theorem dX4_init_40 : decode cX4_init 40 = .ok (.bipush 6, 2) := dk_16 6 (dk_at dksX4_init_1 17 rfl rfl)
theorem dX4_init_42 : decode cX4_init 42 = .ok (.newarray .int, 2) := dk_188_10 (dk_at dksX4_init_1 19 rfl rfl)
theorem dX4_init_44 : decode cX4_init 44 = .ok (.putfield 23, 3) := dk_181 0 23 (dk_at dksX4_init_1 21 rfl rfl)
theorem dX4_init_47 : decode cX4_init 47 = .ok (.aload_n 0, 1) := dk_42 (dk_at dksX4_init_2 0 rfl rfl)
theorem dX4_init_48 : decode cX4_init 48 = .ok (.bipush 93, 2) := dk_16 93 (dk_at dksX4_init_2 1 rfl rfl)
theorem dX4_init_50 : decode cX4_init 50 = .ok (.newarray .int, 2) := dk_188_10 (dk_at dksX4_init_2 3 rfl rfl)
theorem dX4_init_52 : decode cX4_init 52 = .ok (.putfield 26, 3) := dk_181 0 26 (dk_at dksX4_init_2 5 rfl rfl)
theorem dX4_init_55 : decode cX4_init 55 = .ok (.aload_n 0, 1) := dk_42 (dk_at dksX4_init_2 8 rfl rfl)
theorem dX4_init_56 : decode cX4_init 56 = .ok (.sipush 400, 3) := dk_17 1 144 (dk_at dksX4_init_2 9 rfl rfl)
theorem dX4_init_59 : decode cX4_init 59 = .ok (.newarray .int, 2) := dk_188_10 (dk_at dksX4_init_2 12 rfl rfl)
theorem dX4_init_61 : decode cX4_init 61 = .ok (.putfield 29, 3) := dk_181 0 29 (dk_at dksX4_init_2 14 rfl rfl)
theorem dX4_init_64 : decode cX4_init 64 = .ok (.aload_n 0, 1) := dk_42 (dk_at dksX4_init_2 17 rfl rfl)
theorem dX4_init_65 : decode cX4_init 65 = .ok (.bipush 64, 2) := dk_16 64 (dk_at dksX4_init_2 18 rfl rfl)
theorem dX4_init_67 : decode cX4_init 67 = .ok (.newarray .long, 2) := dk_188_11 (dk_at dksX4_init_2 20 rfl rfl)
theorem dX4_init_69 : decode cX4_init 69 = .ok (.putfield 32, 3) := dk_181 0 32 (dk_at dksX4_init_3 0 rfl rfl)
theorem dX4_init_72 : decode cX4_init 72 = .ok (.aload_n 0, 1) := dk_42 (dk_at dksX4_init_3 3 rfl rfl)
theorem dX4_init_73 : decode cX4_init 73 = .ok (.bipush 12, 2) := dk_16 12 (dk_at dksX4_init_3 4 rfl rfl)
theorem dX4_init_75 : decode cX4_init 75 = .ok (.newarray .long, 2) := dk_188_11 (dk_at dksX4_init_3 6 rfl rfl)
theorem dX4_init_77 : decode cX4_init 77 = .ok (.putfield 36, 3) := dk_181 0 36 (dk_at dksX4_init_3 8 rfl rfl)
theorem dX4_init_80 : decode cX4_init 80 = .ok (.aload_n 0, 1) := dk_42 (dk_at dksX4_init_3 11 rfl rfl)
theorem dX4_init_81 : decode cX4_init 81 = .ok (.bipush 124, 2) := dk_16 124 (dk_at dksX4_init_3 12 rfl rfl)
theorem dX4_init_83 : decode cX4_init 83 = .ok (.newarray .int, 2) := dk_188_10 (dk_at dksX4_init_3 14 rfl rfl)
theorem dX4_init_85 : decode cX4_init 85 = .ok (.putfield 39, 3) := dk_181 0 39 (dk_at dksX4_init_3 16 rfl rfl)
theorem dX4_init_88 : decode cX4_init 88 = .ok (.aload_n 0, 1) := dk_42 (dk_at dksX4_init_3 19 rfl rfl)
theorem dX4_init_89 : decode cX4_init 89 = .ok (.iconst (-1), 1) := dk_2 (dk_at dksX4_init_3 20 rfl rfl)
theorem dX4_init_90 : decode cX4_init 90 = .ok (.putfield 42, 3) := dk_181 0 42 (dk_at dksX4_init_3 21 rfl rfl)
theorem dX4_init_93 : decode cX4_init 93 = .ok (.aload_n 0, 1) := dk_42 (dk_at dksX4_init_4 0 rfl rfl)
theorem dX4_init_94 : decode cX4_init 94 = .ok (.bipush 8, 2) := dk_16 8 (dk_at dksX4_init_4 1 rfl rfl)
theorem dX4_init_96 : decode cX4_init 96 = .ok (.newarray .int, 2) := dk_188_10 (dk_at dksX4_init_4 3 rfl rfl)
theorem dX4_init_98 : decode cX4_init 98 = .ok (.putfield 46, 3) := dk_181 0 46 (dk_at dksX4_init_4 5 rfl rfl)
theorem dX4_init_101 : decode cX4_init 101 = .ok (.aload_n 0, 1) := dk_42 (dk_at dksX4_init_4 8 rfl rfl)
theorem dX4_init_102 : decode cX4_init 102 = .ok (.bipush 8, 2) := dk_16 8 (dk_at dksX4_init_4 9 rfl rfl)
theorem dX4_init_104 : decode cX4_init 104 = .ok (.newarray .int, 2) := dk_188_10 (dk_at dksX4_init_4 11 rfl rfl)
theorem dX4_init_106 : decode cX4_init 106 = .ok (.putfield 49, 3) := dk_181 0 49 (dk_at dksX4_init_4 13 rfl rfl)
theorem dX4_init_109 : decode cX4_init 109 = .ok (.aload_n 0, 1) := dk_42 (dk_at dksX4_init_4 16 rfl rfl)
theorem dX4_init_110 : decode cX4_init 110 = .ok (.sipush 400, 3) := dk_17 1 144 (dk_at dksX4_init_4 17 rfl rfl)
theorem dX4_init_113 : decode cX4_init 113 = .ok (.newarray .int, 2) := dk_188_10 (dk_at dksX4_init_4 20 rfl rfl)
theorem dX4_init_115 : decode cX4_init 115 = .ok (.putfield 52, 3) := dk_181 0 52 (dk_at dksX4_init_5 0 rfl rfl)
theorem dX4_init_118 : decode cX4_init 118 = .ok (.aload_n 0, 1) := dk_42 (dk_at dksX4_init_5 3 rfl rfl)
theorem dX4_init_119 : decode cX4_init 119 = .ok (.bipush 20, 2) := dk_16 20 (dk_at dksX4_init_5 4 rfl rfl)
theorem dX4_init_121 : decode cX4_init 121 = .ok (.newarray .int, 2) := dk_188_10 (dk_at dksX4_init_5 6 rfl rfl)
theorem dX4_init_123 : decode cX4_init 123 = .ok (.putfield 55, 3) := dk_181 0 55 (dk_at dksX4_init_5 8 rfl rfl)
theorem dX4_init_126 : decode cX4_init 126 = .ok (.aload_n 0, 1) := dk_42 (dk_at dksX4_init_5 11 rfl rfl)
theorem dX4_init_127 : decode cX4_init 127 = .ok (.sipush 488, 3) := dk_17 1 232 (dk_at dksX4_init_5 12 rfl rfl)
theorem dX4_init_130 : decode cX4_init 130 = .ok (.newarray .int, 2) := dk_188_10 (dk_at dksX4_init_5 15 rfl rfl)
theorem dX4_init_132 : decode cX4_init 132 = .ok (.putfield 58, 3) := dk_181 0 58 (dk_at dksX4_init_5 17 rfl rfl)
theorem dX4_init_135 : decode cX4_init 135 = .ok (.aload_n 0, 1) := dk_42 (dk_at dksX4_init_5 20 rfl rfl)
theorem dX4_init_136 : decode cX4_init 136 = .ok (.bipush 8, 2) := dk_16 8 (dk_at dksX4_init_5 21 rfl rfl)
theorem dX4_init_138 : decode cX4_init 138 = .ok (.newarray .int, 2) := dk_188_10 (dk_at dksX4_init_6 0 rfl rfl)
theorem dX4_init_140 : decode cX4_init 140 = .ok (.putfield 61, 3) := dk_181 0 61 (dk_at dksX4_init_6 2 rfl rfl)
theorem dX4_init_143 : decode cX4_init 143 = .ok (.aload_n 0, 1) := dk_42 (dk_at dksX4_init_6 5 rfl rfl)
theorem dX4_init_144 : decode cX4_init 144 = .ok (.bipush 64, 2) := dk_16 64 (dk_at dksX4_init_6 6 rfl rfl)
theorem dX4_init_146 : decode cX4_init 146 = .ok (.newarray .int, 2) := dk_188_10 (dk_at dksX4_init_6 8 rfl rfl)
theorem dX4_init_148 : decode cX4_init 148 = .ok (.putfield 64, 3) := dk_181 0 64 (dk_at dksX4_init_6 10 rfl rfl)
theorem dX4_init_151 : decode cX4_init 151 = .ok (.aload_n 0, 1) := dk_42 (dk_at dksX4_init_6 13 rfl rfl)
theorem dX4_init_152 : decode cX4_init 152 = .ok (.bipush 7, 2) := dk_16 7 (dk_at dksX4_init_6 14 rfl rfl)
theorem dX4_init_154 : decode cX4_init 154 = .ok (.newarray .boolean, 2) := dk_188_4 (dk_at dksX4_init_6 16 rfl rfl)
theorem dX4_init_156 : decode cX4_init 156 = .ok (.putfield 67, 3) := dk_181 0 67 (dk_at dksX4_init_6 18 rfl rfl)
theorem dX4_init_159 : decode cX4_init 159 = .ok (.aload_n 0, 1) := dk_42 (dk_at dksX4_init_6 21 rfl rfl)
theorem dX4_init_160 : decode cX4_init 160 = .ok (.bipush 56, 2) := dk_16 56 (dk_at dksX4_init_6 22 rfl rfl)
theorem dX4_init_162 : decode cX4_init 162 = .ok (.newarray .int, 2) := dk_188_10 (dk_at dksX4_init_7 0 rfl rfl)
theorem dX4_init_164 : decode cX4_init 164 = .ok (.putfield 71, 3) := dk_181 0 71 (dk_at dksX4_init_7 2 rfl rfl)
theorem dX4_init_167 : decode cX4_init 167 = .ok (.aload_n 0, 1) := dk_42 (dk_at dksX4_init_7 5 rfl rfl)
theorem dX4_init_168 : decode cX4_init 168 = .ok (.sipush 496, 3) := dk_17 1 240 (dk_at dksX4_init_7 6 rfl rfl)
theorem dX4_init_171 : decode cX4_init 171 = .ok (.newarray .int, 2) := dk_188_10 (dk_at dksX4_init_7 9 rfl rfl)
theorem dX4_init_173 : decode cX4_init 173 = .ok (.putfield 74, 3) := dk_181 0 74 (dk_at dksX4_init_7 11 rfl rfl)
theorem dX4_init_176 : decode cX4_init 176 = .ok (.aload_n 0, 1) := dk_42 (dk_at dksX4_init_7 14 rfl rfl)
theorem dX4_init_177 : decode cX4_init 177 = .ok (.iconst 4, 1) := dk_7 (dk_at dksX4_init_7 15 rfl rfl)
theorem dX4_init_178 : decode cX4_init 178 = .ok (.newarray .int, 2) := dk_188_10 (dk_at dksX4_init_7 16 rfl rfl)
theorem dX4_init_180 : decode cX4_init 180 = .ok (.putfield 77, 3) := dk_181 0 77 (dk_at dksX4_init_7 18 rfl rfl)
theorem dX4_init_183 : decode cX4_init 183 = .ok (.aload_n 0, 1) := dk_42 (dk_at dksX4_init_7 21 rfl rfl)
theorem dX4_init_184 : decode cX4_init 184 = .ok (.iconst 4, 1) := dk_7 (dk_at dksX4_init_7 22 rfl rfl)
theorem dX4_init_185 : decode cX4_init 185 = .ok (.newarray .int, 2) := dk_188_10 (dk_at dksX4_init_8 0 rfl rfl)
theorem dX4_init_187 : decode cX4_init 187 = .ok (.putfield 80, 3) := dk_181 0 80 (dk_at dksX4_init_8 2 rfl rfl)
theorem dX4_init_190 : decode cX4_init 190 = .ok (.aload_n 0, 1) := dk_42 (dk_at dksX4_init_8 5 rfl rfl)
theorem dX4_init_191 : decode cX4_init 191 = .ok (.iconst 4, 1) := dk_7 (dk_at dksX4_init_8 6 rfl rfl)
theorem dX4_init_192 : decode cX4_init 192 = .ok (.newarray .boolean, 2) := dk_188_4 (dk_at dksX4_init_8 7 rfl rfl)
theorem dX4_init_194 : decode cX4_init 194 = .ok (.putfield 83, 3) := dk_181 0 83 (dk_at dksX4_init_8 9 rfl rfl)
theorem dX4_init_197 : decode cX4_init 197 = .ok (.return_, 1) := dk_177 (dk_at dksX4_init_8 12 rfl rfl)
abbrev cX4_feed : ByteArray := prog_19_method_7_code
def yX4_feed : MethodName := ⟨RX4, "feed", "(IIIII)I"⟩
def dkwX4_feed_2 : List UInt8 := [172]
abbrev dktX4_feed_2 : List UInt8 := dkwX4_feed_2 ++ []
def dkwX4_feed_1 : List UInt8 := [182, 0, 89, 42, 29, 182, 0, 89, 42, 21, 4, 182, 0, 89, 42, 21, 5, 182, 0, 89, 42, 180, 0, 86]
abbrev dktX4_feed_1 : List UInt8 := dkwX4_feed_1 ++ dktX4_feed_2
def dkwX4_feed_0 : List UInt8 := [42, 180, 0, 86, 16, 20, 96, 17, 1, 144, 164, 0, 5, 2, 172, 42, 27, 182, 0, 89, 42, 28]
abbrev dktX4_feed_0 : List UInt8 := dkwX4_feed_0 ++ dktX4_feed_1
theorem dksX4_feed_0 : cX4_feed.data.toList.drop 0 = dktX4_feed_0 := by decide +kernel
theorem dksX4_feed_1 : cX4_feed.data.toList.drop 22 = dktX4_feed_1 := dk_seg dksX4_feed_0 22 rfl rfl
theorem dksX4_feed_2 : cX4_feed.data.toList.drop 46 = dktX4_feed_2 := dk_seg dksX4_feed_1 24 rfl rfl
theorem dX4_feed_0 : decode cX4_feed 0 = .ok (.aload_n 0, 1) := dk_42 (dk_at dksX4_feed_0 0 rfl rfl)
theorem dX4_feed_1 : decode cX4_feed 1 = .ok (.getfield 86, 3) := dk_180 0 86 (dk_at dksX4_feed_0 1 rfl rfl)
theorem dX4_feed_4 : decode cX4_feed 4 = .ok (.bipush 20, 2) := dk_16 20 (dk_at dksX4_feed_0 4 rfl rfl)
theorem dX4_feed_6 : decode cX4_feed 6 = .ok (.iadd, 1) := dk_96 (dk_at dksX4_feed_0 6 rfl rfl)
theorem dX4_feed_7 : decode cX4_feed 7 = .ok (.sipush 400, 3) := dk_17 1 144 (dk_at dksX4_feed_0 7 rfl rfl)
theorem dX4_feed_10 : decode cX4_feed 10 = .ok (.if_icmp .le 5, 3) := dk_164 0 5 (dk_at dksX4_feed_0 10 rfl rfl)
theorem dX4_feed_13 : decode cX4_feed 13 = .ok (.iconst (-1), 1) := dk_2 (dk_at dksX4_feed_0 13 rfl rfl)
theorem dX4_feed_14 : decode cX4_feed 14 = .ok (.ireturn, 1) := dk_172 (dk_at dksX4_feed_0 14 rfl rfl)
theorem dX4_feed_15 : decode cX4_feed 15 = .ok (.aload_n 0, 1) := dk_42 (dk_at dksX4_feed_0 15 rfl rfl)
theorem dX4_feed_16 : decode cX4_feed 16 = .ok (.iload_n 1, 1) := dk_27 (dk_at dksX4_feed_0 16 rfl rfl)
theorem dX4_feed_17 : decode cX4_feed 17 = .ok (.invokevirtual 89, 3) := dk_182 0 89 (dk_at dksX4_feed_0 17 rfl rfl)
theorem dX4_feed_20 : decode cX4_feed 20 = .ok (.aload_n 0, 1) := dk_42 (dk_at dksX4_feed_0 20 rfl rfl)
theorem dX4_feed_21 : decode cX4_feed 21 = .ok (.iload_n 2, 1) := dk_28 (dk_at dksX4_feed_0 21 rfl rfl)
theorem dX4_feed_22 : decode cX4_feed 22 = .ok (.invokevirtual 89, 3) := dk_182 0 89 (dk_at dksX4_feed_1 0 rfl rfl)
theorem dX4_feed_25 : decode cX4_feed 25 = .ok (.aload_n 0, 1) := dk_42 (dk_at dksX4_feed_1 3 rfl rfl)
theorem dX4_feed_26 : decode cX4_feed 26 = .ok (.iload_n 3, 1) := dk_29 (dk_at dksX4_feed_1 4 rfl rfl)
theorem dX4_feed_27 : decode cX4_feed 27 = .ok (.invokevirtual 89, 3) := dk_182 0 89 (dk_at dksX4_feed_1 5 rfl rfl)
theorem dX4_feed_30 : decode cX4_feed 30 = .ok (.aload_n 0, 1) := dk_42 (dk_at dksX4_feed_1 8 rfl rfl)
theorem dX4_feed_31 : decode cX4_feed 31 = .ok (.iload 4, 2) := dk_21 4 (dk_at dksX4_feed_1 9 rfl rfl)
theorem dX4_feed_33 : decode cX4_feed 33 = .ok (.invokevirtual 89, 3) := dk_182 0 89 (dk_at dksX4_feed_1 11 rfl rfl)
theorem dX4_feed_36 : decode cX4_feed 36 = .ok (.aload_n 0, 1) := dk_42 (dk_at dksX4_feed_1 14 rfl rfl)
theorem dX4_feed_37 : decode cX4_feed 37 = .ok (.iload 5, 2) := dk_21 5 (dk_at dksX4_feed_1 15 rfl rfl)
theorem dX4_feed_39 : decode cX4_feed 39 = .ok (.invokevirtual 89, 3) := dk_182 0 89 (dk_at dksX4_feed_1 17 rfl rfl)
theorem dX4_feed_42 : decode cX4_feed 42 = .ok (.aload_n 0, 1) := dk_42 (dk_at dksX4_feed_1 20 rfl rfl)
theorem dX4_feed_43 : decode cX4_feed 43 = .ok (.getfield 86, 3) := dk_180 0 86 (dk_at dksX4_feed_1 21 rfl rfl)
theorem dX4_feed_46 : decode cX4_feed 46 = .ok (.ireturn, 1) := dk_172 (dk_at dksX4_feed_2 0 rfl rfl)
abbrev cX4_four : ByteArray := prog_19_method_6_code
def yX4_four : MethodName := ⟨RX4, "four", "(I)V"⟩
def dkwX4_four_1 : List UInt8 := [180, 0, 86, 4, 96, 181, 0, 86, 132, 2, 248, 167, 255, 226, 177]
abbrev dktX4_four_1 : List UInt8 := dkwX4_four_1 ++ []
def dkwX4_four_0 : List UInt8 := [16, 24, 61, 28, 155, 0, 32, 42, 180, 0, 7, 42, 180, 0, 86, 27, 28, 122, 145, 84, 42, 89]
abbrev dktX4_four_0 : List UInt8 := dkwX4_four_0 ++ dktX4_four_1
theorem dksX4_four_0 : cX4_four.data.toList.drop 0 = dktX4_four_0 := by decide +kernel
theorem dksX4_four_1 : cX4_four.data.toList.drop 22 = dktX4_four_1 := dk_seg dksX4_four_0 22 rfl rfl
theorem dX4_four_0 : decode cX4_four 0 = .ok (.bipush 24, 2) := dk_16 24 (dk_at dksX4_four_0 0 rfl rfl)
theorem dX4_four_2 : decode cX4_four 2 = .ok (.istore_n 2, 1) := dk_61 (dk_at dksX4_four_0 2 rfl rfl)
theorem dX4_four_3 : decode cX4_four 3 = .ok (.iload_n 2, 1) := dk_28 (dk_at dksX4_four_0 3 rfl rfl)
theorem dX4_four_4 : decode cX4_four 4 = .ok (.ifCond .lt 32, 3) := dk_155 0 32 (dk_at dksX4_four_0 4 rfl rfl)
theorem dX4_four_7 : decode cX4_four 7 = .ok (.aload_n 0, 1) := dk_42 (dk_at dksX4_four_0 7 rfl rfl)
theorem dX4_four_8 : decode cX4_four 8 = .ok (.getfield 7, 3) := dk_180 0 7 (dk_at dksX4_four_0 8 rfl rfl)
theorem dX4_four_11 : decode cX4_four 11 = .ok (.aload_n 0, 1) := dk_42 (dk_at dksX4_four_0 11 rfl rfl)
theorem dX4_four_12 : decode cX4_four 12 = .ok (.getfield 86, 3) := dk_180 0 86 (dk_at dksX4_four_0 12 rfl rfl)
theorem dX4_four_15 : decode cX4_four 15 = .ok (.iload_n 1, 1) := dk_27 (dk_at dksX4_four_0 15 rfl rfl)
theorem dX4_four_16 : decode cX4_four 16 = .ok (.iload_n 2, 1) := dk_28 (dk_at dksX4_four_0 16 rfl rfl)
theorem dX4_four_17 : decode cX4_four 17 = .ok (.ishr, 1) := dk_122 (dk_at dksX4_four_0 17 rfl rfl)
theorem dX4_four_18 : decode cX4_four 18 = .ok (.i2b, 1) := dk_145 (dk_at dksX4_four_0 18 rfl rfl)
theorem dX4_four_19 : decode cX4_four 19 = .ok (.bastore, 1) := dk_84 (dk_at dksX4_four_0 19 rfl rfl)
theorem dX4_four_20 : decode cX4_four 20 = .ok (.aload_n 0, 1) := dk_42 (dk_at dksX4_four_0 20 rfl rfl)
theorem dX4_four_21 : decode cX4_four 21 = .ok (.dup, 1) := dk_89 (dk_at dksX4_four_0 21 rfl rfl)
theorem dX4_four_22 : decode cX4_four 22 = .ok (.getfield 86, 3) := dk_180 0 86 (dk_at dksX4_four_1 0 rfl rfl)
theorem dX4_four_25 : decode cX4_four 25 = .ok (.iconst 1, 1) := dk_4 (dk_at dksX4_four_1 3 rfl rfl)
theorem dX4_four_26 : decode cX4_four 26 = .ok (.iadd, 1) := dk_96 (dk_at dksX4_four_1 4 rfl rfl)
theorem dX4_four_27 : decode cX4_four 27 = .ok (.putfield 86, 3) := dk_181 0 86 (dk_at dksX4_four_1 5 rfl rfl)
theorem dX4_four_30 : decode cX4_four 30 = .ok (.iinc 2 (-8), 3) := dk_132 2 248 (dk_at dksX4_four_1 8 rfl rfl)
theorem dX4_four_33 : decode cX4_four 33 = .ok (.goto (-30), 3) := dk_167 255 226 (dk_at dksX4_four_1 11 rfl rfl)
theorem dX4_four_36 : decode cX4_four 36 = .ok (.return_, 1) := dk_177 (dk_at dksX4_four_1 14 rfl rfl)
abbrev cX4_end : ByteArray := prog_19_method_8_code
def yX4_end : MethodName := ⟨RX4, "end", "(I)I"⟩
def dkwX4_end_0 : List UInt8 := [27, 155, 0, 11, 27, 42, 180, 0, 86, 164, 0, 5, 2, 172, 42, 27, 181, 0, 86, 27, 172]
abbrev dktX4_end_0 : List UInt8 := dkwX4_end_0 ++ []
theorem dksX4_end_0 : cX4_end.data.toList.drop 0 = dktX4_end_0 := by decide +kernel
theorem dX4_end_0 : decode cX4_end 0 = .ok (.iload_n 1, 1) := dk_27 (dk_at dksX4_end_0 0 rfl rfl)
theorem dX4_end_1 : decode cX4_end 1 = .ok (.ifCond .lt 11, 3) := dk_155 0 11 (dk_at dksX4_end_0 1 rfl rfl)
theorem dX4_end_4 : decode cX4_end 4 = .ok (.iload_n 1, 1) := dk_27 (dk_at dksX4_end_0 4 rfl rfl)
theorem dX4_end_5 : decode cX4_end 5 = .ok (.aload_n 0, 1) := dk_42 (dk_at dksX4_end_0 5 rfl rfl)
theorem dX4_end_6 : decode cX4_end 6 = .ok (.getfield 86, 3) := dk_180 0 86 (dk_at dksX4_end_0 6 rfl rfl)
theorem dX4_end_9 : decode cX4_end 9 = .ok (.if_icmp .le 5, 3) := dk_164 0 5 (dk_at dksX4_end_0 9 rfl rfl)
theorem dX4_end_12 : decode cX4_end 12 = .ok (.iconst (-1), 1) := dk_2 (dk_at dksX4_end_0 12 rfl rfl)
theorem dX4_end_13 : decode cX4_end 13 = .ok (.ireturn, 1) := dk_172 (dk_at dksX4_end_0 13 rfl rfl)
theorem dX4_end_14 : decode cX4_end 14 = .ok (.aload_n 0, 1) := dk_42 (dk_at dksX4_end_0 14 rfl rfl)
theorem dX4_end_15 : decode cX4_end 15 = .ok (.iload_n 1, 1) := dk_27 (dk_at dksX4_end_0 15 rfl rfl)
theorem dX4_end_16 : decode cX4_end 16 = .ok (.putfield 86, 3) := dk_181 0 86 (dk_at dksX4_end_0 16 rfl rfl)
theorem dX4_end_19 : decode cX4_end 19 = .ok (.iload_n 1, 1) := dk_27 (dk_at dksX4_end_0 19 rfl rfl)
theorem dX4_end_20 : decode cX4_end 20 = .ok (.ireturn, 1) := dk_172 (dk_at dksX4_end_0 20 rfl rfl)
abbrev cX4_rule : ByteArray := prog_19_method_44_code
def yX4_rule : MethodName := ⟨RX4, "rule", "()I"⟩
def dkwX4_rule_2 : List UInt8 := [180, 1, 24, 4, 96, 181, 1, 24, 42, 180, 1, 24, 4, 100, 172]
abbrev dktX4_rule_2 : List UInt8 := dkwX4_rule_2 ++ []
def dkwX4_rule_1 : List UInt8 := [180, 0, 152, 3, 79, 42, 182, 1, 27, 154, 0, 11, 16, 254, 42, 180, 0, 93, 100, 172, 42, 89]
abbrev dktX4_rule_1 : List UInt8 := dkwX4_rule_1 ++ dktX4_rule_2
def dkwX4_rule_0 : List UInt8 := [42, 180, 1, 24, 16, 6, 160, 0, 5, 2, 172, 42, 42, 180, 1, 24, 181, 0, 152, 42, 180, 0, 23, 42]
abbrev dktX4_rule_0 : List UInt8 := dkwX4_rule_0 ++ dktX4_rule_1
theorem dksX4_rule_0 : cX4_rule.data.toList.drop 0 = dktX4_rule_0 := by decide +kernel
theorem dksX4_rule_1 : cX4_rule.data.toList.drop 24 = dktX4_rule_1 := dk_seg dksX4_rule_0 24 rfl rfl
theorem dksX4_rule_2 : cX4_rule.data.toList.drop 46 = dktX4_rule_2 := dk_seg dksX4_rule_1 22 rfl rfl
theorem dX4_rule_0 : decode cX4_rule 0 = .ok (.aload_n 0, 1) := dk_42 (dk_at dksX4_rule_0 0 rfl rfl)
theorem dX4_rule_1 : decode cX4_rule 1 = .ok (.getfield 280, 3) := dk_180 1 24 (dk_at dksX4_rule_0 1 rfl rfl)
theorem dX4_rule_4 : decode cX4_rule 4 = .ok (.bipush 6, 2) := dk_16 6 (dk_at dksX4_rule_0 4 rfl rfl)
theorem dX4_rule_6 : decode cX4_rule 6 = .ok (.if_icmp .ne 5, 3) := dk_160 0 5 (dk_at dksX4_rule_0 6 rfl rfl)
theorem dX4_rule_9 : decode cX4_rule 9 = .ok (.iconst (-1), 1) := dk_2 (dk_at dksX4_rule_0 9 rfl rfl)
theorem dX4_rule_10 : decode cX4_rule 10 = .ok (.ireturn, 1) := dk_172 (dk_at dksX4_rule_0 10 rfl rfl)
theorem dX4_rule_11 : decode cX4_rule 11 = .ok (.aload_n 0, 1) := dk_42 (dk_at dksX4_rule_0 11 rfl rfl)
theorem dX4_rule_12 : decode cX4_rule 12 = .ok (.aload_n 0, 1) := dk_42 (dk_at dksX4_rule_0 12 rfl rfl)
theorem dX4_rule_13 : decode cX4_rule 13 = .ok (.getfield 280, 3) := dk_180 1 24 (dk_at dksX4_rule_0 13 rfl rfl)
theorem dX4_rule_16 : decode cX4_rule 16 = .ok (.putfield 152, 3) := dk_181 0 152 (dk_at dksX4_rule_0 16 rfl rfl)
theorem dX4_rule_19 : decode cX4_rule 19 = .ok (.aload_n 0, 1) := dk_42 (dk_at dksX4_rule_0 19 rfl rfl)
theorem dX4_rule_20 : decode cX4_rule 20 = .ok (.getfield 23, 3) := dk_180 0 23 (dk_at dksX4_rule_0 20 rfl rfl)
theorem dX4_rule_23 : decode cX4_rule 23 = .ok (.aload_n 0, 1) := dk_42 (dk_at dksX4_rule_0 23 rfl rfl)
theorem dX4_rule_24 : decode cX4_rule 24 = .ok (.getfield 152, 3) := dk_180 0 152 (dk_at dksX4_rule_1 0 rfl rfl)
theorem dX4_rule_27 : decode cX4_rule 27 = .ok (.iconst 0, 1) := dk_3 (dk_at dksX4_rule_1 3 rfl rfl)
theorem dX4_rule_28 : decode cX4_rule 28 = .ok (.iastore, 1) := dk_79 (dk_at dksX4_rule_1 4 rfl rfl)
theorem dX4_rule_29 : decode cX4_rule 29 = .ok (.aload_n 0, 1) := dk_42 (dk_at dksX4_rule_1 5 rfl rfl)
theorem dX4_rule_30 : decode cX4_rule 30 = .ok (.invokevirtual 283, 3) := dk_182 1 27 (dk_at dksX4_rule_1 6 rfl rfl)
theorem dX4_rule_33 : decode cX4_rule 33 = .ok (.ifCond .ne 11, 3) := dk_154 0 11 (dk_at dksX4_rule_1 9 rfl rfl)
theorem dX4_rule_36 : decode cX4_rule 36 = .ok (.bipush (-2), 2) := dk_16 254 (dk_at dksX4_rule_1 12 rfl rfl)
theorem dX4_rule_38 : decode cX4_rule 38 = .ok (.aload_n 0, 1) := dk_42 (dk_at dksX4_rule_1 14 rfl rfl)
theorem dX4_rule_39 : decode cX4_rule 39 = .ok (.getfield 93, 3) := dk_180 0 93 (dk_at dksX4_rule_1 15 rfl rfl)
theorem dX4_rule_42 : decode cX4_rule 42 = .ok (.isub, 1) := dk_100 (dk_at dksX4_rule_1 18 rfl rfl)
theorem dX4_rule_43 : decode cX4_rule 43 = .ok (.ireturn, 1) := dk_172 (dk_at dksX4_rule_1 19 rfl rfl)
theorem dX4_rule_44 : decode cX4_rule 44 = .ok (.aload_n 0, 1) := dk_42 (dk_at dksX4_rule_1 20 rfl rfl)
theorem dX4_rule_45 : decode cX4_rule 45 = .ok (.dup, 1) := dk_89 (dk_at dksX4_rule_1 21 rfl rfl)
theorem dX4_rule_46 : decode cX4_rule 46 = .ok (.getfield 280, 3) := dk_180 1 24 (dk_at dksX4_rule_2 0 rfl rfl)
theorem dX4_rule_49 : decode cX4_rule 49 = .ok (.iconst 1, 1) := dk_4 (dk_at dksX4_rule_2 3 rfl rfl)
theorem dX4_rule_50 : decode cX4_rule 50 = .ok (.iadd, 1) := dk_96 (dk_at dksX4_rule_2 4 rfl rfl)
theorem dX4_rule_51 : decode cX4_rule 51 = .ok (.putfield 280, 3) := dk_181 1 24 (dk_at dksX4_rule_2 5 rfl rfl)
theorem dX4_rule_54 : decode cX4_rule 54 = .ok (.aload_n 0, 1) := dk_42 (dk_at dksX4_rule_2 8 rfl rfl)
theorem dX4_rule_55 : decode cX4_rule 55 = .ok (.getfield 280, 3) := dk_180 1 24 (dk_at dksX4_rule_2 9 rfl rfl)
theorem dX4_rule_58 : decode cX4_rule 58 = .ok (.iconst 1, 1) := dk_4 (dk_at dksX4_rule_2 12 rfl rfl)
theorem dX4_rule_59 : decode cX4_rule 59 = .ok (.isub, 1) := dk_100 (dk_at dksX4_rule_2 13 rfl rfl)
theorem dX4_rule_60 : decode cX4_rule 60 = .ok (.ireturn, 1) := dk_172 (dk_at dksX4_rule_2 14 rfl rfl)
abbrev cX4_readsAll : ByteArray := prog_19_method_43_code
def yX4_readsAll : MethodName := ⟨RX4, "readsAll", "()Z"⟩
def dkwX4_readsAll_4 : List UInt8 := [181, 0, 86, 42, 180, 0, 93, 154, 0, 7, 4, 167, 0, 4, 3, 172]
abbrev dktX4_readsAll_4 : List UInt8 := dkwX4_readsAll_4 ++ []
def dkwX4_readsAll_3 : List UInt8 := [153, 0, 21, 42, 182, 0, 99, 2, 159, 0, 13, 42, 3, 42, 180, 0, 96, 182, 0, 117, 87, 42, 3]
abbrev dktX4_readsAll_3 : List UInt8 := dkwX4_readsAll_3 ++ dktX4_readsAll_4
def dkwX4_readsAll_2 : List UInt8 := [160, 0, 21, 42, 89, 180, 0, 96, 4, 96, 181, 0, 96, 42, 182, 1, 21, 60, 167, 255, 228, 27]
abbrev dktX4_readsAll_2 : List UInt8 := dkwX4_readsAll_2 ++ dktX4_readsAll_3
def dkwX4_readsAll_1 : List UInt8 := [181, 0, 93, 42, 3, 181, 0, 155, 42, 182, 1, 21, 60, 27, 153, 0, 30, 42, 182, 0, 99, 16, 59]
abbrev dktX4_readsAll_1 : List UInt8 := dkwX4_readsAll_1 ++ dktX4_readsAll_2
def dkwX4_readsAll_0 : List UInt8 := [42, 180, 0, 17, 42, 180, 0, 152, 3, 79, 42, 3, 181, 1, 12, 42, 3, 181, 0, 96, 42, 3]
abbrev dktX4_readsAll_0 : List UInt8 := dkwX4_readsAll_0 ++ dktX4_readsAll_1
theorem dksX4_readsAll_0 : cX4_readsAll.data.toList.drop 0 = dktX4_readsAll_0 := by decide +kernel
theorem dksX4_readsAll_1 : cX4_readsAll.data.toList.drop 22 = dktX4_readsAll_1 := dk_seg dksX4_readsAll_0 22 rfl rfl
theorem dksX4_readsAll_2 : cX4_readsAll.data.toList.drop 45 = dktX4_readsAll_2 := dk_seg dksX4_readsAll_1 23 rfl rfl
theorem dksX4_readsAll_3 : cX4_readsAll.data.toList.drop 67 = dktX4_readsAll_3 := dk_seg dksX4_readsAll_2 22 rfl rfl
theorem dksX4_readsAll_4 : cX4_readsAll.data.toList.drop 90 = dktX4_readsAll_4 := dk_seg dksX4_readsAll_3 23 rfl rfl
theorem dX4_readsAll_0 : decode cX4_readsAll 0 = .ok (.aload_n 0, 1) := dk_42 (dk_at dksX4_readsAll_0 0 rfl rfl)
theorem dX4_readsAll_1 : decode cX4_readsAll 1 = .ok (.getfield 17, 3) := dk_180 0 17 (dk_at dksX4_readsAll_0 1 rfl rfl)
theorem dX4_readsAll_4 : decode cX4_readsAll 4 = .ok (.aload_n 0, 1) := dk_42 (dk_at dksX4_readsAll_0 4 rfl rfl)
theorem dX4_readsAll_5 : decode cX4_readsAll 5 = .ok (.getfield 152, 3) := dk_180 0 152 (dk_at dksX4_readsAll_0 5 rfl rfl)
theorem dX4_readsAll_8 : decode cX4_readsAll 8 = .ok (.iconst 0, 1) := dk_3 (dk_at dksX4_readsAll_0 8 rfl rfl)
theorem dX4_readsAll_9 : decode cX4_readsAll 9 = .ok (.iastore, 1) := dk_79 (dk_at dksX4_readsAll_0 9 rfl rfl)
theorem dX4_readsAll_10 : decode cX4_readsAll 10 = .ok (.aload_n 0, 1) := dk_42 (dk_at dksX4_readsAll_0 10 rfl rfl)
theorem dX4_readsAll_11 : decode cX4_readsAll 11 = .ok (.iconst 0, 1) := dk_3 (dk_at dksX4_readsAll_0 11 rfl rfl)
theorem dX4_readsAll_12 : decode cX4_readsAll 12 = .ok (.putfield 268, 3) := dk_181 1 12 (dk_at dksX4_readsAll_0 12 rfl rfl)
theorem dX4_readsAll_15 : decode cX4_readsAll 15 = .ok (.aload_n 0, 1) := dk_42 (dk_at dksX4_readsAll_0 15 rfl rfl)
theorem dX4_readsAll_16 : decode cX4_readsAll 16 = .ok (.iconst 0, 1) := dk_3 (dk_at dksX4_readsAll_0 16 rfl rfl)
theorem dX4_readsAll_17 : decode cX4_readsAll 17 = .ok (.putfield 96, 3) := dk_181 0 96 (dk_at dksX4_readsAll_0 17 rfl rfl)
theorem dX4_readsAll_20 : decode cX4_readsAll 20 = .ok (.aload_n 0, 1) := dk_42 (dk_at dksX4_readsAll_0 20 rfl rfl)
theorem dX4_readsAll_21 : decode cX4_readsAll 21 = .ok (.iconst 0, 1) := dk_3 (dk_at dksX4_readsAll_0 21 rfl rfl)
theorem dX4_readsAll_22 : decode cX4_readsAll 22 = .ok (.putfield 93, 3) := dk_181 0 93 (dk_at dksX4_readsAll_1 0 rfl rfl)
theorem dX4_readsAll_25 : decode cX4_readsAll 25 = .ok (.aload_n 0, 1) := dk_42 (dk_at dksX4_readsAll_1 3 rfl rfl)
theorem dX4_readsAll_26 : decode cX4_readsAll 26 = .ok (.iconst 0, 1) := dk_3 (dk_at dksX4_readsAll_1 4 rfl rfl)
theorem dX4_readsAll_27 : decode cX4_readsAll 27 = .ok (.putfield 155, 3) := dk_181 0 155 (dk_at dksX4_readsAll_1 5 rfl rfl)
theorem dX4_readsAll_30 : decode cX4_readsAll 30 = .ok (.aload_n 0, 1) := dk_42 (dk_at dksX4_readsAll_1 8 rfl rfl)
theorem dX4_readsAll_31 : decode cX4_readsAll 31 = .ok (.invokevirtual 277, 3) := dk_182 1 21 (dk_at dksX4_readsAll_1 9 rfl rfl)
theorem dX4_readsAll_34 : decode cX4_readsAll 34 = .ok (.istore_n 1, 1) := dk_60 (dk_at dksX4_readsAll_1 12 rfl rfl)
theorem dX4_readsAll_35 : decode cX4_readsAll 35 = .ok (.iload_n 1, 1) := dk_27 (dk_at dksX4_readsAll_1 13 rfl rfl)
theorem dX4_readsAll_36 : decode cX4_readsAll 36 = .ok (.ifCond .eq 30, 3) := dk_153 0 30 (dk_at dksX4_readsAll_1 14 rfl rfl)
theorem dX4_readsAll_39 : decode cX4_readsAll 39 = .ok (.aload_n 0, 1) := dk_42 (dk_at dksX4_readsAll_1 17 rfl rfl)
theorem dX4_readsAll_40 : decode cX4_readsAll 40 = .ok (.invokevirtual 99, 3) := dk_182 0 99 (dk_at dksX4_readsAll_1 18 rfl rfl)
theorem dX4_readsAll_43 : decode cX4_readsAll 43 = .ok (.bipush 59, 2) := dk_16 59 (dk_at dksX4_readsAll_1 21 rfl rfl)
theorem dX4_readsAll_45 : decode cX4_readsAll 45 = .ok (.if_icmp .ne 21, 3) := dk_160 0 21 (dk_at dksX4_readsAll_2 0 rfl rfl)
theorem dX4_readsAll_48 : decode cX4_readsAll 48 = .ok (.aload_n 0, 1) := dk_42 (dk_at dksX4_readsAll_2 3 rfl rfl)
theorem dX4_readsAll_49 : decode cX4_readsAll 49 = .ok (.dup, 1) := dk_89 (dk_at dksX4_readsAll_2 4 rfl rfl)
theorem dX4_readsAll_50 : decode cX4_readsAll 50 = .ok (.getfield 96, 3) := dk_180 0 96 (dk_at dksX4_readsAll_2 5 rfl rfl)
theorem dX4_readsAll_53 : decode cX4_readsAll 53 = .ok (.iconst 1, 1) := dk_4 (dk_at dksX4_readsAll_2 8 rfl rfl)
theorem dX4_readsAll_54 : decode cX4_readsAll 54 = .ok (.iadd, 1) := dk_96 (dk_at dksX4_readsAll_2 9 rfl rfl)
theorem dX4_readsAll_55 : decode cX4_readsAll 55 = .ok (.putfield 96, 3) := dk_181 0 96 (dk_at dksX4_readsAll_2 10 rfl rfl)
theorem dX4_readsAll_58 : decode cX4_readsAll 58 = .ok (.aload_n 0, 1) := dk_42 (dk_at dksX4_readsAll_2 13 rfl rfl)
theorem dX4_readsAll_59 : decode cX4_readsAll 59 = .ok (.invokevirtual 277, 3) := dk_182 1 21 (dk_at dksX4_readsAll_2 14 rfl rfl)
theorem dX4_readsAll_62 : decode cX4_readsAll 62 = .ok (.istore_n 1, 1) := dk_60 (dk_at dksX4_readsAll_2 17 rfl rfl)
theorem dX4_readsAll_63 : decode cX4_readsAll 63 = .ok (.goto (-28), 3) := dk_167 255 228 (dk_at dksX4_readsAll_2 18 rfl rfl)
theorem dX4_readsAll_66 : decode cX4_readsAll 66 = .ok (.iload_n 1, 1) := dk_27 (dk_at dksX4_readsAll_2 21 rfl rfl)
theorem dX4_readsAll_67 : decode cX4_readsAll 67 = .ok (.ifCond .eq 21, 3) := dk_153 0 21 (dk_at dksX4_readsAll_3 0 rfl rfl)
theorem dX4_readsAll_70 : decode cX4_readsAll 70 = .ok (.aload_n 0, 1) := dk_42 (dk_at dksX4_readsAll_3 3 rfl rfl)
theorem dX4_readsAll_71 : decode cX4_readsAll 71 = .ok (.invokevirtual 99, 3) := dk_182 0 99 (dk_at dksX4_readsAll_3 4 rfl rfl)
theorem dX4_readsAll_74 : decode cX4_readsAll 74 = .ok (.iconst (-1), 1) := dk_2 (dk_at dksX4_readsAll_3 7 rfl rfl)
theorem dX4_readsAll_75 : decode cX4_readsAll 75 = .ok (.if_icmp .eq 13, 3) := dk_159 0 13 (dk_at dksX4_readsAll_3 8 rfl rfl)
theorem dX4_readsAll_78 : decode cX4_readsAll 78 = .ok (.aload_n 0, 1) := dk_42 (dk_at dksX4_readsAll_3 11 rfl rfl)
theorem dX4_readsAll_79 : decode cX4_readsAll 79 = .ok (.iconst 0, 1) := dk_3 (dk_at dksX4_readsAll_3 12 rfl rfl)
theorem dX4_readsAll_80 : decode cX4_readsAll 80 = .ok (.aload_n 0, 1) := dk_42 (dk_at dksX4_readsAll_3 13 rfl rfl)
theorem dX4_readsAll_81 : decode cX4_readsAll 81 = .ok (.getfield 96, 3) := dk_180 0 96 (dk_at dksX4_readsAll_3 14 rfl rfl)
theorem dX4_readsAll_84 : decode cX4_readsAll 84 = .ok (.invokevirtual 117, 3) := dk_182 0 117 (dk_at dksX4_readsAll_3 17 rfl rfl)
theorem dX4_readsAll_87 : decode cX4_readsAll 87 = .ok (.pop, 1) := dk_87 (dk_at dksX4_readsAll_3 20 rfl rfl)
theorem dX4_readsAll_88 : decode cX4_readsAll 88 = .ok (.aload_n 0, 1) := dk_42 (dk_at dksX4_readsAll_3 21 rfl rfl)
theorem dX4_readsAll_89 : decode cX4_readsAll 89 = .ok (.iconst 0, 1) := dk_3 (dk_at dksX4_readsAll_3 22 rfl rfl)
theorem dX4_readsAll_90 : decode cX4_readsAll 90 = .ok (.putfield 86, 3) := dk_181 0 86 (dk_at dksX4_readsAll_4 0 rfl rfl)
theorem dX4_readsAll_93 : decode cX4_readsAll 93 = .ok (.aload_n 0, 1) := dk_42 (dk_at dksX4_readsAll_4 3 rfl rfl)
theorem dX4_readsAll_94 : decode cX4_readsAll 94 = .ok (.getfield 93, 3) := dk_180 0 93 (dk_at dksX4_readsAll_4 4 rfl rfl)
theorem dX4_readsAll_97 : decode cX4_readsAll 97 = .ok (.ifCond .ne 7, 3) := dk_154 0 7 (dk_at dksX4_readsAll_4 7 rfl rfl)
theorem dX4_readsAll_100 : decode cX4_readsAll 100 = .ok (.iconst 1, 1) := dk_4 (dk_at dksX4_readsAll_4 10 rfl rfl)
theorem dX4_readsAll_101 : decode cX4_readsAll 101 = .ok (.goto 4, 3) := dk_167 0 4 (dk_at dksX4_readsAll_4 11 rfl rfl)
theorem dX4_readsAll_104 : decode cX4_readsAll 104 = .ok (.iconst 0, 1) := dk_3 (dk_at dksX4_readsAll_4 14 rfl rfl)
theorem dX4_readsAll_105 : decode cX4_readsAll 105 = .ok (.ireturn, 1) := dk_172 (dk_at dksX4_readsAll_4 15 rfl rfl)
abbrev cX4_clauseHere : ByteArray := prog_19_method_42_code
def yX4_clauseHere : MethodName := ⟨RX4, "clauseHere", "()Z"⟩
def dkwX4_clauseHere_4 : List UInt8 := [153, 0, 11, 42, 27, 182, 1, 15, 167, 0, 7, 42, 182, 1, 18, 172]
abbrev dktX4_clauseHere_4 : List UInt8 := dkwX4_clauseHere_4 ++ []
def dkwX4_clauseHere_3 : List UInt8 := [16, 12, 160, 0, 10, 42, 7, 27, 182, 0, 117, 172, 42, 89, 180, 1, 12, 4, 96, 181, 1, 12, 28]
abbrev dktX4_clauseHere_3 : List UInt8 := dkwX4_clauseHere_3 ++ dktX4_clauseHere_4
def dkwX4_clauseHere_2 : List UInt8 := [154, 0, 10, 42, 3, 27, 182, 0, 117, 172, 42, 180, 1, 12, 28, 153, 0, 8, 16, 40, 167, 0, 5]
abbrev dktX4_clauseHere_2 : List UInt8 := dkwX4_clauseHere_2 ++ dktX4_clauseHere_3
def dkwX4_clauseHere_1 : List UInt8 := [61, 28, 153, 0, 13, 42, 182, 1, 7, 154, 0, 23, 167, 0, 13, 42, 20, 1, 10, 182, 0, 107]
abbrev dktX4_clauseHere_1 : List UInt8 := dkwX4_clauseHere_1 ++ dktX4_clauseHere_2
def dkwX4_clauseHere_0 : List UInt8 := [42, 182, 0, 99, 87, 42, 180, 0, 96, 60, 42, 180, 0, 152, 16, 6, 160, 0, 7, 4, 167, 0, 4, 3]
abbrev dktX4_clauseHere_0 : List UInt8 := dkwX4_clauseHere_0 ++ dktX4_clauseHere_1
theorem dksX4_clauseHere_0 : cX4_clauseHere.data.toList.drop 0 = dktX4_clauseHere_0 := by decide +kernel
theorem dksX4_clauseHere_1 : cX4_clauseHere.data.toList.drop 24 = dktX4_clauseHere_1 := dk_seg dksX4_clauseHere_0 24 rfl rfl
theorem dksX4_clauseHere_2 : cX4_clauseHere.data.toList.drop 46 = dktX4_clauseHere_2 := dk_seg dksX4_clauseHere_1 22 rfl rfl
theorem dksX4_clauseHere_3 : cX4_clauseHere.data.toList.drop 69 = dktX4_clauseHere_3 := dk_seg dksX4_clauseHere_2 23 rfl rfl
theorem dksX4_clauseHere_4 : cX4_clauseHere.data.toList.drop 92 = dktX4_clauseHere_4 := dk_seg dksX4_clauseHere_3 23 rfl rfl
theorem dX4_clauseHere_0 : decode cX4_clauseHere 0 = .ok (.aload_n 0, 1) := dk_42 (dk_at dksX4_clauseHere_0 0 rfl rfl)
theorem dX4_clauseHere_1 : decode cX4_clauseHere 1 = .ok (.invokevirtual 99, 3) := dk_182 0 99 (dk_at dksX4_clauseHere_0 1 rfl rfl)
theorem dX4_clauseHere_4 : decode cX4_clauseHere 4 = .ok (.pop, 1) := dk_87 (dk_at dksX4_clauseHere_0 4 rfl rfl)
theorem dX4_clauseHere_5 : decode cX4_clauseHere 5 = .ok (.aload_n 0, 1) := dk_42 (dk_at dksX4_clauseHere_0 5 rfl rfl)
theorem dX4_clauseHere_6 : decode cX4_clauseHere 6 = .ok (.getfield 96, 3) := dk_180 0 96 (dk_at dksX4_clauseHere_0 6 rfl rfl)
theorem dX4_clauseHere_9 : decode cX4_clauseHere 9 = .ok (.istore_n 1, 1) := dk_60 (dk_at dksX4_clauseHere_0 9 rfl rfl)
theorem dX4_clauseHere_10 : decode cX4_clauseHere 10 = .ok (.aload_n 0, 1) := dk_42 (dk_at dksX4_clauseHere_0 10 rfl rfl)
theorem dX4_clauseHere_11 : decode cX4_clauseHere 11 = .ok (.getfield 152, 3) := dk_180 0 152 (dk_at dksX4_clauseHere_0 11 rfl rfl)
theorem dX4_clauseHere_14 : decode cX4_clauseHere 14 = .ok (.bipush 6, 2) := dk_16 6 (dk_at dksX4_clauseHere_0 14 rfl rfl)
theorem dX4_clauseHere_16 : decode cX4_clauseHere 16 = .ok (.if_icmp .ne 7, 3) := dk_160 0 7 (dk_at dksX4_clauseHere_0 16 rfl rfl)
theorem dX4_clauseHere_19 : decode cX4_clauseHere 19 = .ok (.iconst 1, 1) := dk_4 (dk_at dksX4_clauseHere_0 19 rfl rfl)
theorem dX4_clauseHere_20 : decode cX4_clauseHere 20 = .ok (.goto 4, 3) := dk_167 0 4 (dk_at dksX4_clauseHere_0 20 rfl rfl)
theorem dX4_clauseHere_23 : decode cX4_clauseHere 23 = .ok (.iconst 0, 1) := dk_3 (dk_at dksX4_clauseHere_0 23 rfl rfl)
theorem dX4_clauseHere_24 : decode cX4_clauseHere 24 = .ok (.istore_n 2, 1) := dk_61 (dk_at dksX4_clauseHere_1 0 rfl rfl)
theorem dX4_clauseHere_25 : decode cX4_clauseHere 25 = .ok (.iload_n 2, 1) := dk_28 (dk_at dksX4_clauseHere_1 1 rfl rfl)
theorem dX4_clauseHere_26 : decode cX4_clauseHere 26 = .ok (.ifCond .eq 13, 3) := dk_153 0 13 (dk_at dksX4_clauseHere_1 2 rfl rfl)
theorem dX4_clauseHere_29 : decode cX4_clauseHere 29 = .ok (.aload_n 0, 1) := dk_42 (dk_at dksX4_clauseHere_1 5 rfl rfl)
theorem dX4_clauseHere_30 : decode cX4_clauseHere 30 = .ok (.invokevirtual 263, 3) := dk_182 1 7 (dk_at dksX4_clauseHere_1 6 rfl rfl)
theorem dX4_clauseHere_33 : decode cX4_clauseHere 33 = .ok (.ifCond .ne 23, 3) := dk_154 0 23 (dk_at dksX4_clauseHere_1 9 rfl rfl)
theorem dX4_clauseHere_36 : decode cX4_clauseHere 36 = .ok (.goto 13, 3) := dk_167 0 13 (dk_at dksX4_clauseHere_1 12 rfl rfl)
theorem dX4_clauseHere_39 : decode cX4_clauseHere 39 = .ok (.aload_n 0, 1) := dk_42 (dk_at dksX4_clauseHere_1 15 rfl rfl)
theorem dX4_clauseHere_40 : decode cX4_clauseHere 40 = .ok (.ldc2_w 266, 3) := dk_20 1 10 (dk_at dksX4_clauseHere_1 16 rfl rfl)
theorem dX4_clauseHere_43 : decode cX4_clauseHere 43 = .ok (.invokevirtual 107, 3) := dk_182 0 107 (dk_at dksX4_clauseHere_1 19 rfl rfl)
theorem dX4_clauseHere_46 : decode cX4_clauseHere 46 = .ok (.ifCond .ne 10, 3) := dk_154 0 10 (dk_at dksX4_clauseHere_2 0 rfl rfl)
theorem dX4_clauseHere_49 : decode cX4_clauseHere 49 = .ok (.aload_n 0, 1) := dk_42 (dk_at dksX4_clauseHere_2 3 rfl rfl)
theorem dX4_clauseHere_50 : decode cX4_clauseHere 50 = .ok (.iconst 0, 1) := dk_3 (dk_at dksX4_clauseHere_2 4 rfl rfl)
theorem dX4_clauseHere_51 : decode cX4_clauseHere 51 = .ok (.iload_n 1, 1) := dk_27 (dk_at dksX4_clauseHere_2 5 rfl rfl)
theorem dX4_clauseHere_52 : decode cX4_clauseHere 52 = .ok (.invokevirtual 117, 3) := dk_182 0 117 (dk_at dksX4_clauseHere_2 6 rfl rfl)
theorem dX4_clauseHere_55 : decode cX4_clauseHere 55 = .ok (.ireturn, 1) := dk_172 (dk_at dksX4_clauseHere_2 9 rfl rfl)
theorem dX4_clauseHere_56 : decode cX4_clauseHere 56 = .ok (.aload_n 0, 1) := dk_42 (dk_at dksX4_clauseHere_2 10 rfl rfl)
theorem dX4_clauseHere_57 : decode cX4_clauseHere 57 = .ok (.getfield 268, 3) := dk_180 1 12 (dk_at dksX4_clauseHere_2 11 rfl rfl)
theorem dX4_clauseHere_60 : decode cX4_clauseHere 60 = .ok (.iload_n 2, 1) := dk_28 (dk_at dksX4_clauseHere_2 14 rfl rfl)
theorem dX4_clauseHere_61 : decode cX4_clauseHere 61 = .ok (.ifCond .eq 8, 3) := dk_153 0 8 (dk_at dksX4_clauseHere_2 15 rfl rfl)
theorem dX4_clauseHere_64 : decode cX4_clauseHere 64 = .ok (.bipush 40, 2) := dk_16 40 (dk_at dksX4_clauseHere_2 18 rfl rfl)
theorem dX4_clauseHere_66 : decode cX4_clauseHere 66 = .ok (.goto 5, 3) := dk_167 0 5 (dk_at dksX4_clauseHere_2 20 rfl rfl)
theorem dX4_clauseHere_69 : decode cX4_clauseHere 69 = .ok (.bipush 12, 2) := dk_16 12 (dk_at dksX4_clauseHere_3 0 rfl rfl)
theorem dX4_clauseHere_71 : decode cX4_clauseHere 71 = .ok (.if_icmp .ne 10, 3) := dk_160 0 10 (dk_at dksX4_clauseHere_3 2 rfl rfl)
theorem dX4_clauseHere_74 : decode cX4_clauseHere 74 = .ok (.aload_n 0, 1) := dk_42 (dk_at dksX4_clauseHere_3 5 rfl rfl)
theorem dX4_clauseHere_75 : decode cX4_clauseHere 75 = .ok (.iconst 4, 1) := dk_7 (dk_at dksX4_clauseHere_3 6 rfl rfl)
theorem dX4_clauseHere_76 : decode cX4_clauseHere 76 = .ok (.iload_n 1, 1) := dk_27 (dk_at dksX4_clauseHere_3 7 rfl rfl)
theorem dX4_clauseHere_77 : decode cX4_clauseHere 77 = .ok (.invokevirtual 117, 3) := dk_182 0 117 (dk_at dksX4_clauseHere_3 8 rfl rfl)
theorem dX4_clauseHere_80 : decode cX4_clauseHere 80 = .ok (.ireturn, 1) := dk_172 (dk_at dksX4_clauseHere_3 11 rfl rfl)
theorem dX4_clauseHere_81 : decode cX4_clauseHere 81 = .ok (.aload_n 0, 1) := dk_42 (dk_at dksX4_clauseHere_3 12 rfl rfl)
theorem dX4_clauseHere_82 : decode cX4_clauseHere 82 = .ok (.dup, 1) := dk_89 (dk_at dksX4_clauseHere_3 13 rfl rfl)
theorem dX4_clauseHere_83 : decode cX4_clauseHere 83 = .ok (.getfield 268, 3) := dk_180 1 12 (dk_at dksX4_clauseHere_3 14 rfl rfl)
theorem dX4_clauseHere_86 : decode cX4_clauseHere 86 = .ok (.iconst 1, 1) := dk_4 (dk_at dksX4_clauseHere_3 17 rfl rfl)
theorem dX4_clauseHere_87 : decode cX4_clauseHere 87 = .ok (.iadd, 1) := dk_96 (dk_at dksX4_clauseHere_3 18 rfl rfl)
theorem dX4_clauseHere_88 : decode cX4_clauseHere 88 = .ok (.putfield 268, 3) := dk_181 1 12 (dk_at dksX4_clauseHere_3 19 rfl rfl)
theorem dX4_clauseHere_91 : decode cX4_clauseHere 91 = .ok (.iload_n 2, 1) := dk_28 (dk_at dksX4_clauseHere_3 22 rfl rfl)
theorem dX4_clauseHere_92 : decode cX4_clauseHere 92 = .ok (.ifCond .eq 11, 3) := dk_153 0 11 (dk_at dksX4_clauseHere_4 0 rfl rfl)
theorem dX4_clauseHere_95 : decode cX4_clauseHere 95 = .ok (.aload_n 0, 1) := dk_42 (dk_at dksX4_clauseHere_4 3 rfl rfl)
theorem dX4_clauseHere_96 : decode cX4_clauseHere 96 = .ok (.iload_n 1, 1) := dk_27 (dk_at dksX4_clauseHere_4 4 rfl rfl)
theorem dX4_clauseHere_97 : decode cX4_clauseHere 97 = .ok (.invokevirtual 271, 3) := dk_182 1 15 (dk_at dksX4_clauseHere_4 5 rfl rfl)
theorem dX4_clauseHere_100 : decode cX4_clauseHere 100 = .ok (.goto 7, 3) := dk_167 0 7 (dk_at dksX4_clauseHere_4 8 rfl rfl)
theorem dX4_clauseHere_103 : decode cX4_clauseHere 103 = .ok (.aload_n 0, 1) := dk_42 (dk_at dksX4_clauseHere_4 11 rfl rfl)
theorem dX4_clauseHere_104 : decode cX4_clauseHere 104 = .ok (.invokevirtual 274, 3) := dk_182 1 18 (dk_at dksX4_clauseHere_4 12 rfl rfl)
theorem dX4_clauseHere_107 : decode cX4_clauseHere 107 = .ok (.ireturn, 1) := dk_172 (dk_at dksX4_clauseHere_4 15 rfl rfl)
abbrev cX4_see : ByteArray := prog_19_method_10_code
def yX4_see : MethodName := ⟨RX4, "see", "()I"⟩
def dkwX4_see_2 : List UInt8 := [162, 0, 19, 42, 180, 0, 7, 42, 180, 0, 96, 51, 17, 0, 255, 126, 167, 0, 4, 2, 172]
abbrev dktX4_see_2 : List UInt8 := dkwX4_see_2 ++ []
def dkwX4_see_1 : List UInt8 := [160, 0, 16, 42, 89, 180, 0, 96, 4, 96, 181, 0, 96, 167, 255, 221, 42, 180, 0, 96, 42, 180, 0, 86]
abbrev dktX4_see_1 : List UInt8 := dkwX4_see_1 ++ dktX4_see_2
def dkwX4_see_0 : List UInt8 := [42, 180, 0, 96, 42, 180, 0, 86, 162, 0, 30, 42, 180, 0, 7, 42, 180, 0, 96, 51, 16, 32]
abbrev dktX4_see_0 : List UInt8 := dkwX4_see_0 ++ dktX4_see_1
theorem dksX4_see_0 : cX4_see.data.toList.drop 0 = dktX4_see_0 := by decide +kernel
theorem dksX4_see_1 : cX4_see.data.toList.drop 22 = dktX4_see_1 := dk_seg dksX4_see_0 22 rfl rfl
theorem dksX4_see_2 : cX4_see.data.toList.drop 46 = dktX4_see_2 := dk_seg dksX4_see_1 24 rfl rfl
theorem dX4_see_0 : decode cX4_see 0 = .ok (.aload_n 0, 1) := dk_42 (dk_at dksX4_see_0 0 rfl rfl)
theorem dX4_see_1 : decode cX4_see 1 = .ok (.getfield 96, 3) := dk_180 0 96 (dk_at dksX4_see_0 1 rfl rfl)
theorem dX4_see_4 : decode cX4_see 4 = .ok (.aload_n 0, 1) := dk_42 (dk_at dksX4_see_0 4 rfl rfl)
theorem dX4_see_5 : decode cX4_see 5 = .ok (.getfield 86, 3) := dk_180 0 86 (dk_at dksX4_see_0 5 rfl rfl)
theorem dX4_see_8 : decode cX4_see 8 = .ok (.if_icmp .ge 30, 3) := dk_162 0 30 (dk_at dksX4_see_0 8 rfl rfl)
theorem dX4_see_11 : decode cX4_see 11 = .ok (.aload_n 0, 1) := dk_42 (dk_at dksX4_see_0 11 rfl rfl)
theorem dX4_see_12 : decode cX4_see 12 = .ok (.getfield 7, 3) := dk_180 0 7 (dk_at dksX4_see_0 12 rfl rfl)
theorem dX4_see_15 : decode cX4_see 15 = .ok (.aload_n 0, 1) := dk_42 (dk_at dksX4_see_0 15 rfl rfl)
theorem dX4_see_16 : decode cX4_see 16 = .ok (.getfield 96, 3) := dk_180 0 96 (dk_at dksX4_see_0 16 rfl rfl)
theorem dX4_see_19 : decode cX4_see 19 = .ok (.baload, 1) := dk_51 (dk_at dksX4_see_0 19 rfl rfl)
theorem dX4_see_20 : decode cX4_see 20 = .ok (.bipush 32, 2) := dk_16 32 (dk_at dksX4_see_0 20 rfl rfl)
theorem dX4_see_22 : decode cX4_see 22 = .ok (.if_icmp .ne 16, 3) := dk_160 0 16 (dk_at dksX4_see_1 0 rfl rfl)
theorem dX4_see_25 : decode cX4_see 25 = .ok (.aload_n 0, 1) := dk_42 (dk_at dksX4_see_1 3 rfl rfl)
theorem dX4_see_26 : decode cX4_see 26 = .ok (.dup, 1) := dk_89 (dk_at dksX4_see_1 4 rfl rfl)
theorem dX4_see_27 : decode cX4_see 27 = .ok (.getfield 96, 3) := dk_180 0 96 (dk_at dksX4_see_1 5 rfl rfl)
theorem dX4_see_30 : decode cX4_see 30 = .ok (.iconst 1, 1) := dk_4 (dk_at dksX4_see_1 8 rfl rfl)
theorem dX4_see_31 : decode cX4_see 31 = .ok (.iadd, 1) := dk_96 (dk_at dksX4_see_1 9 rfl rfl)
theorem dX4_see_32 : decode cX4_see 32 = .ok (.putfield 96, 3) := dk_181 0 96 (dk_at dksX4_see_1 10 rfl rfl)
theorem dX4_see_35 : decode cX4_see 35 = .ok (.goto (-35), 3) := dk_167 255 221 (dk_at dksX4_see_1 13 rfl rfl)
theorem dX4_see_38 : decode cX4_see 38 = .ok (.aload_n 0, 1) := dk_42 (dk_at dksX4_see_1 16 rfl rfl)
theorem dX4_see_39 : decode cX4_see 39 = .ok (.getfield 96, 3) := dk_180 0 96 (dk_at dksX4_see_1 17 rfl rfl)
theorem dX4_see_42 : decode cX4_see 42 = .ok (.aload_n 0, 1) := dk_42 (dk_at dksX4_see_1 20 rfl rfl)
theorem dX4_see_43 : decode cX4_see 43 = .ok (.getfield 86, 3) := dk_180 0 86 (dk_at dksX4_see_1 21 rfl rfl)
theorem dX4_see_46 : decode cX4_see 46 = .ok (.if_icmp .ge 19, 3) := dk_162 0 19 (dk_at dksX4_see_2 0 rfl rfl)
theorem dX4_see_49 : decode cX4_see 49 = .ok (.aload_n 0, 1) := dk_42 (dk_at dksX4_see_2 3 rfl rfl)
theorem dX4_see_50 : decode cX4_see 50 = .ok (.getfield 7, 3) := dk_180 0 7 (dk_at dksX4_see_2 4 rfl rfl)
theorem dX4_see_53 : decode cX4_see 53 = .ok (.aload_n 0, 1) := dk_42 (dk_at dksX4_see_2 7 rfl rfl)
theorem dX4_see_54 : decode cX4_see 54 = .ok (.getfield 96, 3) := dk_180 0 96 (dk_at dksX4_see_2 8 rfl rfl)
theorem dX4_see_57 : decode cX4_see 57 = .ok (.baload, 1) := dk_51 (dk_at dksX4_see_2 11 rfl rfl)
theorem dX4_see_58 : decode cX4_see 58 = .ok (.sipush 255, 3) := dk_17 0 255 (dk_at dksX4_see_2 12 rfl rfl)
theorem dX4_see_61 : decode cX4_see 61 = .ok (.iand, 1) := dk_126 (dk_at dksX4_see_2 15 rfl rfl)
theorem dX4_see_62 : decode cX4_see 62 = .ok (.goto 4, 3) := dk_167 0 4 (dk_at dksX4_see_2 16 rfl rfl)
theorem dX4_see_65 : decode cX4_see 65 = .ok (.iconst (-1), 1) := dk_2 (dk_at dksX4_see_2 19 rfl rfl)
theorem dX4_see_66 : decode cX4_see 66 = .ok (.ireturn, 1) := dk_172 (dk_at dksX4_see_2 20 rfl rfl)
abbrev cX4_isValleyWord : ByteArray := prog_19_method_41_code
def yX4_isValleyWord : MethodName := ⟨RX4, "isValleyWord", "()Z"⟩
def dkwX4_isValleyWord_2 : List UInt8 := [154, 0, 13, 42, 20, 1, 5, 182, 0, 107, 153, 0, 7, 4, 167, 0, 4, 3, 172]
abbrev dktX4_isValleyWord_2 : List UInt8 := dkwX4_isValleyWord_2 ++ []
def dkwX4_isValleyWord_1 : List UInt8 := [182, 0, 107, 154, 0, 33, 42, 20, 0, 248, 182, 0, 107, 154, 0, 23, 42, 20, 0, 253, 182, 0, 107]
abbrev dktX4_isValleyWord_1 : List UInt8 := dkwX4_isValleyWord_1 ++ dktX4_isValleyWord_2
def dkwX4_isValleyWord_0 : List UInt8 := [42, 20, 0, 237, 182, 0, 107, 154, 0, 53, 42, 20, 0, 130, 182, 0, 107, 154, 0, 43, 42, 20, 0, 128]
abbrev dktX4_isValleyWord_0 : List UInt8 := dkwX4_isValleyWord_0 ++ dktX4_isValleyWord_1
theorem dksX4_isValleyWord_0 : cX4_isValleyWord.data.toList.drop 0 = dktX4_isValleyWord_0 := by decide +kernel
theorem dksX4_isValleyWord_1 : cX4_isValleyWord.data.toList.drop 24 = dktX4_isValleyWord_1 := dk_seg dksX4_isValleyWord_0 24 rfl rfl
theorem dksX4_isValleyWord_2 : cX4_isValleyWord.data.toList.drop 47 = dktX4_isValleyWord_2 := dk_seg dksX4_isValleyWord_1 23 rfl rfl
theorem dX4_isValleyWord_0 : decode cX4_isValleyWord 0 = .ok (.aload_n 0, 1) := dk_42 (dk_at dksX4_isValleyWord_0 0 rfl rfl)
theorem dX4_isValleyWord_1 : decode cX4_isValleyWord 1 = .ok (.ldc2_w 237, 3) := dk_20 0 237 (dk_at dksX4_isValleyWord_0 1 rfl rfl)
theorem dX4_isValleyWord_4 : decode cX4_isValleyWord 4 = .ok (.invokevirtual 107, 3) := dk_182 0 107 (dk_at dksX4_isValleyWord_0 4 rfl rfl)
theorem dX4_isValleyWord_7 : decode cX4_isValleyWord 7 = .ok (.ifCond .ne 53, 3) := dk_154 0 53 (dk_at dksX4_isValleyWord_0 7 rfl rfl)
theorem dX4_isValleyWord_10 : decode cX4_isValleyWord 10 = .ok (.aload_n 0, 1) := dk_42 (dk_at dksX4_isValleyWord_0 10 rfl rfl)
theorem dX4_isValleyWord_11 : decode cX4_isValleyWord 11 = .ok (.ldc2_w 130, 3) := dk_20 0 130 (dk_at dksX4_isValleyWord_0 11 rfl rfl)
theorem dX4_isValleyWord_14 : decode cX4_isValleyWord 14 = .ok (.invokevirtual 107, 3) := dk_182 0 107 (dk_at dksX4_isValleyWord_0 14 rfl rfl)
theorem dX4_isValleyWord_17 : decode cX4_isValleyWord 17 = .ok (.ifCond .ne 43, 3) := dk_154 0 43 (dk_at dksX4_isValleyWord_0 17 rfl rfl)
theorem dX4_isValleyWord_20 : decode cX4_isValleyWord 20 = .ok (.aload_n 0, 1) := dk_42 (dk_at dksX4_isValleyWord_0 20 rfl rfl)
theorem dX4_isValleyWord_21 : decode cX4_isValleyWord 21 = .ok (.ldc2_w 128, 3) := dk_20 0 128 (dk_at dksX4_isValleyWord_0 21 rfl rfl)
theorem dX4_isValleyWord_24 : decode cX4_isValleyWord 24 = .ok (.invokevirtual 107, 3) := dk_182 0 107 (dk_at dksX4_isValleyWord_1 0 rfl rfl)
theorem dX4_isValleyWord_27 : decode cX4_isValleyWord 27 = .ok (.ifCond .ne 33, 3) := dk_154 0 33 (dk_at dksX4_isValleyWord_1 3 rfl rfl)
theorem dX4_isValleyWord_30 : decode cX4_isValleyWord 30 = .ok (.aload_n 0, 1) := dk_42 (dk_at dksX4_isValleyWord_1 6 rfl rfl)
theorem dX4_isValleyWord_31 : decode cX4_isValleyWord 31 = .ok (.ldc2_w 248, 3) := dk_20 0 248 (dk_at dksX4_isValleyWord_1 7 rfl rfl)
theorem dX4_isValleyWord_34 : decode cX4_isValleyWord 34 = .ok (.invokevirtual 107, 3) := dk_182 0 107 (dk_at dksX4_isValleyWord_1 10 rfl rfl)
theorem dX4_isValleyWord_37 : decode cX4_isValleyWord 37 = .ok (.ifCond .ne 23, 3) := dk_154 0 23 (dk_at dksX4_isValleyWord_1 13 rfl rfl)
theorem dX4_isValleyWord_40 : decode cX4_isValleyWord 40 = .ok (.aload_n 0, 1) := dk_42 (dk_at dksX4_isValleyWord_1 16 rfl rfl)
theorem dX4_isValleyWord_41 : decode cX4_isValleyWord 41 = .ok (.ldc2_w 253, 3) := dk_20 0 253 (dk_at dksX4_isValleyWord_1 17 rfl rfl)
theorem dX4_isValleyWord_44 : decode cX4_isValleyWord 44 = .ok (.invokevirtual 107, 3) := dk_182 0 107 (dk_at dksX4_isValleyWord_1 20 rfl rfl)
theorem dX4_isValleyWord_47 : decode cX4_isValleyWord 47 = .ok (.ifCond .ne 13, 3) := dk_154 0 13 (dk_at dksX4_isValleyWord_2 0 rfl rfl)
theorem dX4_isValleyWord_50 : decode cX4_isValleyWord 50 = .ok (.aload_n 0, 1) := dk_42 (dk_at dksX4_isValleyWord_2 3 rfl rfl)
theorem dX4_isValleyWord_51 : decode cX4_isValleyWord 51 = .ok (.ldc2_w 261, 3) := dk_20 1 5 (dk_at dksX4_isValleyWord_2 4 rfl rfl)
theorem dX4_isValleyWord_54 : decode cX4_isValleyWord 54 = .ok (.invokevirtual 107, 3) := dk_182 0 107 (dk_at dksX4_isValleyWord_2 7 rfl rfl)
theorem dX4_isValleyWord_57 : decode cX4_isValleyWord 57 = .ok (.ifCond .eq 7, 3) := dk_153 0 7 (dk_at dksX4_isValleyWord_2 10 rfl rfl)
theorem dX4_isValleyWord_60 : decode cX4_isValleyWord 60 = .ok (.iconst 1, 1) := dk_4 (dk_at dksX4_isValleyWord_2 13 rfl rfl)
theorem dX4_isValleyWord_61 : decode cX4_isValleyWord 61 = .ok (.goto 4, 3) := dk_167 0 4 (dk_at dksX4_isValleyWord_2 14 rfl rfl)
theorem dX4_isValleyWord_64 : decode cX4_isValleyWord 64 = .ok (.iconst 0, 1) := dk_3 (dk_at dksX4_isValleyWord_2 17 rfl rfl)
theorem dX4_isValleyWord_65 : decode cX4_isValleyWord 65 = .ok (.ireturn, 1) := dk_172 (dk_at dksX4_isValleyWord_2 18 rfl rfl)
abbrev cX4_isWord : ByteArray := prog_19_method_13_code
def yX4_isWord : MethodName := ⟨RX4, "isWord", "(J)Z"⟩
def dkwX4_isWord_3 : List UInt8 := [154, 0, 7, 4, 167, 0, 4, 3, 172]
abbrev dktX4_isWord_3 : List UInt8 := dkwX4_isWord_3 ++ []
def dkwX4_isWord_2 : List UInt8 := [129, 66, 132, 5, 1, 167, 255, 213, 21, 5, 158, 0, 20, 21, 5, 16, 9, 162, 0, 13, 33, 31, 148]
abbrev dktX4_isWord_2 : List UInt8 := dkwX4_isWord_2 ++ dktX4_isWord_3
def dkwX4_isWord_1 : List UInt8 := [21, 5, 16, 8, 162, 0, 22, 33, 16, 8, 121, 42, 180, 0, 7, 42, 180, 0, 96, 21, 5, 96, 51, 133]
abbrev dktX4_isWord_1 : List UInt8 := dkwX4_isWord_1 ++ dktX4_isWord_2
def dkwX4_isWord_0 : List UInt8 := [42, 182, 0, 99, 87, 9, 66, 3, 54, 5, 42, 42, 180, 0, 96, 21, 5, 96, 182, 0, 103, 153, 0, 35]
abbrev dktX4_isWord_0 : List UInt8 := dkwX4_isWord_0 ++ dktX4_isWord_1
theorem dksX4_isWord_0 : cX4_isWord.data.toList.drop 0 = dktX4_isWord_0 := by decide +kernel
theorem dksX4_isWord_1 : cX4_isWord.data.toList.drop 24 = dktX4_isWord_1 := dk_seg dksX4_isWord_0 24 rfl rfl
theorem dksX4_isWord_2 : cX4_isWord.data.toList.drop 48 = dktX4_isWord_2 := dk_seg dksX4_isWord_1 24 rfl rfl
theorem dksX4_isWord_3 : cX4_isWord.data.toList.drop 71 = dktX4_isWord_3 := dk_seg dksX4_isWord_2 23 rfl rfl
theorem dX4_isWord_0 : decode cX4_isWord 0 = .ok (.aload_n 0, 1) := dk_42 (dk_at dksX4_isWord_0 0 rfl rfl)
theorem dX4_isWord_1 : decode cX4_isWord 1 = .ok (.invokevirtual 99, 3) := dk_182 0 99 (dk_at dksX4_isWord_0 1 rfl rfl)
theorem dX4_isWord_4 : decode cX4_isWord 4 = .ok (.pop, 1) := dk_87 (dk_at dksX4_isWord_0 4 rfl rfl)
theorem dX4_isWord_5 : decode cX4_isWord 5 = .ok (.lconst 0, 1) := dk_9 (dk_at dksX4_isWord_0 5 rfl rfl)
theorem dX4_isWord_6 : decode cX4_isWord 6 = .ok (.lstore_n 3, 1) := dk_66 (dk_at dksX4_isWord_0 6 rfl rfl)
theorem dX4_isWord_7 : decode cX4_isWord 7 = .ok (.iconst 0, 1) := dk_3 (dk_at dksX4_isWord_0 7 rfl rfl)
theorem dX4_isWord_8 : decode cX4_isWord 8 = .ok (.istore 5, 2) := dk_54 5 (dk_at dksX4_isWord_0 8 rfl rfl)
theorem dX4_isWord_10 : decode cX4_isWord 10 = .ok (.aload_n 0, 1) := dk_42 (dk_at dksX4_isWord_0 10 rfl rfl)
theorem dX4_isWord_11 : decode cX4_isWord 11 = .ok (.aload_n 0, 1) := dk_42 (dk_at dksX4_isWord_0 11 rfl rfl)
theorem dX4_isWord_12 : decode cX4_isWord 12 = .ok (.getfield 96, 3) := dk_180 0 96 (dk_at dksX4_isWord_0 12 rfl rfl)
theorem dX4_isWord_15 : decode cX4_isWord 15 = .ok (.iload 5, 2) := dk_21 5 (dk_at dksX4_isWord_0 15 rfl rfl)
theorem dX4_isWord_17 : decode cX4_isWord 17 = .ok (.iadd, 1) := dk_96 (dk_at dksX4_isWord_0 17 rfl rfl)
theorem dX4_isWord_18 : decode cX4_isWord 18 = .ok (.invokevirtual 103, 3) := dk_182 0 103 (dk_at dksX4_isWord_0 18 rfl rfl)
theorem dX4_isWord_21 : decode cX4_isWord 21 = .ok (.ifCond .eq 35, 3) := dk_153 0 35 (dk_at dksX4_isWord_0 21 rfl rfl)
theorem dX4_isWord_24 : decode cX4_isWord 24 = .ok (.iload 5, 2) := dk_21 5 (dk_at dksX4_isWord_1 0 rfl rfl)
theorem dX4_isWord_26 : decode cX4_isWord 26 = .ok (.bipush 8, 2) := dk_16 8 (dk_at dksX4_isWord_1 2 rfl rfl)
theorem dX4_isWord_28 : decode cX4_isWord 28 = .ok (.if_icmp .ge 22, 3) := dk_162 0 22 (dk_at dksX4_isWord_1 4 rfl rfl)
theorem dX4_isWord_31 : decode cX4_isWord 31 = .ok (.lload_n 3, 1) := dk_33 (dk_at dksX4_isWord_1 7 rfl rfl)
theorem dX4_isWord_32 : decode cX4_isWord 32 = .ok (.bipush 8, 2) := dk_16 8 (dk_at dksX4_isWord_1 8 rfl rfl)
theorem dX4_isWord_34 : decode cX4_isWord 34 = .ok (.lshl, 1) := dk_121 (dk_at dksX4_isWord_1 10 rfl rfl)
theorem dX4_isWord_35 : decode cX4_isWord 35 = .ok (.aload_n 0, 1) := dk_42 (dk_at dksX4_isWord_1 11 rfl rfl)
theorem dX4_isWord_36 : decode cX4_isWord 36 = .ok (.getfield 7, 3) := dk_180 0 7 (dk_at dksX4_isWord_1 12 rfl rfl)
theorem dX4_isWord_39 : decode cX4_isWord 39 = .ok (.aload_n 0, 1) := dk_42 (dk_at dksX4_isWord_1 15 rfl rfl)
theorem dX4_isWord_40 : decode cX4_isWord 40 = .ok (.getfield 96, 3) := dk_180 0 96 (dk_at dksX4_isWord_1 16 rfl rfl)
theorem dX4_isWord_43 : decode cX4_isWord 43 = .ok (.iload 5, 2) := dk_21 5 (dk_at dksX4_isWord_1 19 rfl rfl)
theorem dX4_isWord_45 : decode cX4_isWord 45 = .ok (.iadd, 1) := dk_96 (dk_at dksX4_isWord_1 21 rfl rfl)
theorem dX4_isWord_46 : decode cX4_isWord 46 = .ok (.baload, 1) := dk_51 (dk_at dksX4_isWord_1 22 rfl rfl)
theorem dX4_isWord_47 : decode cX4_isWord 47 = .ok (.i2l, 1) := dk_133 (dk_at dksX4_isWord_1 23 rfl rfl)
theorem dX4_isWord_48 : decode cX4_isWord 48 = .ok (.lor, 1) := dk_129 (dk_at dksX4_isWord_2 0 rfl rfl)
theorem dX4_isWord_49 : decode cX4_isWord 49 = .ok (.lstore_n 3, 1) := dk_66 (dk_at dksX4_isWord_2 1 rfl rfl)
theorem dX4_isWord_50 : decode cX4_isWord 50 = .ok (.iinc 5 1, 3) := dk_132 5 1 (dk_at dksX4_isWord_2 2 rfl rfl)
theorem dX4_isWord_53 : decode cX4_isWord 53 = .ok (.goto (-43), 3) := dk_167 255 213 (dk_at dksX4_isWord_2 5 rfl rfl)
theorem dX4_isWord_56 : decode cX4_isWord 56 = .ok (.iload 5, 2) := dk_21 5 (dk_at dksX4_isWord_2 8 rfl rfl)
theorem dX4_isWord_58 : decode cX4_isWord 58 = .ok (.ifCond .le 20, 3) := dk_158 0 20 (dk_at dksX4_isWord_2 10 rfl rfl)
theorem dX4_isWord_61 : decode cX4_isWord 61 = .ok (.iload 5, 2) := dk_21 5 (dk_at dksX4_isWord_2 13 rfl rfl)
theorem dX4_isWord_63 : decode cX4_isWord 63 = .ok (.bipush 9, 2) := dk_16 9 (dk_at dksX4_isWord_2 15 rfl rfl)
theorem dX4_isWord_65 : decode cX4_isWord 65 = .ok (.if_icmp .ge 13, 3) := dk_162 0 13 (dk_at dksX4_isWord_2 17 rfl rfl)
theorem dX4_isWord_68 : decode cX4_isWord 68 = .ok (.lload_n 3, 1) := dk_33 (dk_at dksX4_isWord_2 20 rfl rfl)
theorem dX4_isWord_69 : decode cX4_isWord 69 = .ok (.lload_n 1, 1) := dk_31 (dk_at dksX4_isWord_2 21 rfl rfl)
theorem dX4_isWord_70 : decode cX4_isWord 70 = .ok (.lcmp, 1) := dk_148 (dk_at dksX4_isWord_2 22 rfl rfl)
theorem dX4_isWord_71 : decode cX4_isWord 71 = .ok (.ifCond .ne 7, 3) := dk_154 0 7 (dk_at dksX4_isWord_3 0 rfl rfl)
theorem dX4_isWord_74 : decode cX4_isWord 74 = .ok (.iconst 1, 1) := dk_4 (dk_at dksX4_isWord_3 3 rfl rfl)
theorem dX4_isWord_75 : decode cX4_isWord 75 = .ok (.goto 4, 3) := dk_167 0 4 (dk_at dksX4_isWord_3 4 rfl rfl)
theorem dX4_isWord_78 : decode cX4_isWord 78 = .ok (.iconst 0, 1) := dk_3 (dk_at dksX4_isWord_3 7 rfl rfl)
theorem dX4_isWord_79 : decode cX4_isWord 79 = .ok (.ireturn, 1) := dk_172 (dk_at dksX4_isWord_3 8 rfl rfl)
abbrev cX4_isLetter : ByteArray := prog_19_method_12_code
def yX4_isLetter : MethodName := ⟨RX4, "isLetter", "(I)Z"⟩
def dkwX4_isLetter_1 : List UInt8 := [51, 16, 122, 163, 0, 7, 4, 167, 0, 4, 3, 172]
abbrev dktX4_isLetter_1 : List UInt8 := dkwX4_isLetter_1 ++ []
def dkwX4_isLetter_0 : List UInt8 := [27, 42, 180, 0, 86, 162, 0, 29, 42, 180, 0, 7, 27, 51, 16, 97, 161, 0, 18, 42, 180, 0, 7, 27]
abbrev dktX4_isLetter_0 : List UInt8 := dkwX4_isLetter_0 ++ dktX4_isLetter_1
theorem dksX4_isLetter_0 : cX4_isLetter.data.toList.drop 0 = dktX4_isLetter_0 := by decide +kernel
theorem dksX4_isLetter_1 : cX4_isLetter.data.toList.drop 24 = dktX4_isLetter_1 := dk_seg dksX4_isLetter_0 24 rfl rfl
theorem dX4_isLetter_0 : decode cX4_isLetter 0 = .ok (.iload_n 1, 1) := dk_27 (dk_at dksX4_isLetter_0 0 rfl rfl)
theorem dX4_isLetter_1 : decode cX4_isLetter 1 = .ok (.aload_n 0, 1) := dk_42 (dk_at dksX4_isLetter_0 1 rfl rfl)
theorem dX4_isLetter_2 : decode cX4_isLetter 2 = .ok (.getfield 86, 3) := dk_180 0 86 (dk_at dksX4_isLetter_0 2 rfl rfl)
theorem dX4_isLetter_5 : decode cX4_isLetter 5 = .ok (.if_icmp .ge 29, 3) := dk_162 0 29 (dk_at dksX4_isLetter_0 5 rfl rfl)
theorem dX4_isLetter_8 : decode cX4_isLetter 8 = .ok (.aload_n 0, 1) := dk_42 (dk_at dksX4_isLetter_0 8 rfl rfl)
theorem dX4_isLetter_9 : decode cX4_isLetter 9 = .ok (.getfield 7, 3) := dk_180 0 7 (dk_at dksX4_isLetter_0 9 rfl rfl)
theorem dX4_isLetter_12 : decode cX4_isLetter 12 = .ok (.iload_n 1, 1) := dk_27 (dk_at dksX4_isLetter_0 12 rfl rfl)
theorem dX4_isLetter_13 : decode cX4_isLetter 13 = .ok (.baload, 1) := dk_51 (dk_at dksX4_isLetter_0 13 rfl rfl)
theorem dX4_isLetter_14 : decode cX4_isLetter 14 = .ok (.bipush 97, 2) := dk_16 97 (dk_at dksX4_isLetter_0 14 rfl rfl)
theorem dX4_isLetter_16 : decode cX4_isLetter 16 = .ok (.if_icmp .lt 18, 3) := dk_161 0 18 (dk_at dksX4_isLetter_0 16 rfl rfl)
theorem dX4_isLetter_19 : decode cX4_isLetter 19 = .ok (.aload_n 0, 1) := dk_42 (dk_at dksX4_isLetter_0 19 rfl rfl)
theorem dX4_isLetter_20 : decode cX4_isLetter 20 = .ok (.getfield 7, 3) := dk_180 0 7 (dk_at dksX4_isLetter_0 20 rfl rfl)
theorem dX4_isLetter_23 : decode cX4_isLetter 23 = .ok (.iload_n 1, 1) := dk_27 (dk_at dksX4_isLetter_0 23 rfl rfl)
theorem dX4_isLetter_24 : decode cX4_isLetter 24 = .ok (.baload, 1) := dk_51 (dk_at dksX4_isLetter_1 0 rfl rfl)
theorem dX4_isLetter_25 : decode cX4_isLetter 25 = .ok (.bipush 122, 2) := dk_16 122 (dk_at dksX4_isLetter_1 1 rfl rfl)
theorem dX4_isLetter_27 : decode cX4_isLetter 27 = .ok (.if_icmp .gt 7, 3) := dk_163 0 7 (dk_at dksX4_isLetter_1 3 rfl rfl)
theorem dX4_isLetter_30 : decode cX4_isLetter 30 = .ok (.iconst 1, 1) := dk_4 (dk_at dksX4_isLetter_1 6 rfl rfl)
theorem dX4_isLetter_31 : decode cX4_isLetter 31 = .ok (.goto 4, 3) := dk_167 0 4 (dk_at dksX4_isLetter_1 7 rfl rfl)
theorem dX4_isLetter_34 : decode cX4_isLetter 34 = .ok (.iconst 0, 1) := dk_3 (dk_at dksX4_isLetter_1 10 rfl rfl)
theorem dX4_isLetter_35 : decode cX4_isLetter 35 = .ok (.ireturn, 1) := dk_172 (dk_at dksX4_isLetter_1 11 rfl rfl)
abbrev cX4_fails : ByteArray := prog_19_method_9_code
def yX4_fails : MethodName := ⟨RX4, "fails", "(II)Z"⟩
def dkwX4_fails_0 : List UInt8 := [42, 180, 0, 93, 154, 0, 15, 42, 4, 16, 8, 28, 104, 96, 27, 96, 181, 0, 93, 3, 172]
abbrev dktX4_fails_0 : List UInt8 := dkwX4_fails_0 ++ []
theorem dksX4_fails_0 : cX4_fails.data.toList.drop 0 = dktX4_fails_0 := by decide +kernel
theorem dX4_fails_0 : decode cX4_fails 0 = .ok (.aload_n 0, 1) := dk_42 (dk_at dksX4_fails_0 0 rfl rfl)
theorem dX4_fails_1 : decode cX4_fails 1 = .ok (.getfield 93, 3) := dk_180 0 93 (dk_at dksX4_fails_0 1 rfl rfl)
theorem dX4_fails_4 : decode cX4_fails 4 = .ok (.ifCond .ne 15, 3) := dk_154 0 15 (dk_at dksX4_fails_0 4 rfl rfl)
theorem dX4_fails_7 : decode cX4_fails 7 = .ok (.aload_n 0, 1) := dk_42 (dk_at dksX4_fails_0 7 rfl rfl)
theorem dX4_fails_8 : decode cX4_fails 8 = .ok (.iconst 1, 1) := dk_4 (dk_at dksX4_fails_0 8 rfl rfl)
theorem dX4_fails_9 : decode cX4_fails 9 = .ok (.bipush 8, 2) := dk_16 8 (dk_at dksX4_fails_0 9 rfl rfl)
theorem dX4_fails_11 : decode cX4_fails 11 = .ok (.iload_n 2, 1) := dk_28 (dk_at dksX4_fails_0 11 rfl rfl)
theorem dX4_fails_12 : decode cX4_fails 12 = .ok (.imul, 1) := dk_104 (dk_at dksX4_fails_0 12 rfl rfl)
theorem dX4_fails_13 : decode cX4_fails 13 = .ok (.iadd, 1) := dk_96 (dk_at dksX4_fails_0 13 rfl rfl)
theorem dX4_fails_14 : decode cX4_fails 14 = .ok (.iload_n 1, 1) := dk_27 (dk_at dksX4_fails_0 14 rfl rfl)
theorem dX4_fails_15 : decode cX4_fails 15 = .ok (.iadd, 1) := dk_96 (dk_at dksX4_fails_0 15 rfl rfl)
theorem dX4_fails_16 : decode cX4_fails 16 = .ok (.putfield 93, 3) := dk_181 0 93 (dk_at dksX4_fails_0 16 rfl rfl)
theorem dX4_fails_19 : decode cX4_fails 19 = .ok (.iconst 0, 1) := dk_3 (dk_at dksX4_fails_0 19 rfl rfl)
theorem dX4_fails_20 : decode cX4_fails 20 = .ok (.ireturn, 1) := dk_172 (dk_at dksX4_fails_0 20 rfl rfl)
abbrev cX4_valleyLineHere : ByteArray := prog_19_method_40_code
def yX4_valleyLineHere : MethodName := ⟨RX4, "valleyLineHere", "(I)Z"⟩
def dkwX4_valleyLineHere_4 : List UInt8 := [182, 0, 255, 167, 0, 7, 42, 182, 1, 2, 172]
abbrev dktX4_valleyLineHere_4 : List UInt8 := dkwX4_valleyLineHere_4 ++ []
def dkwX4_valleyLineHere_3 : List UInt8 := [182, 0, 107, 153, 0, 8, 42, 182, 0, 250, 172, 42, 20, 0, 253, 182, 0, 107, 153, 0, 10, 42]
abbrev dktX4_valleyLineHere_3 : List UInt8 := dkwX4_valleyLineHere_3 ++ dktX4_valleyLineHere_4
def dkwX4_valleyLineHere_2 : List UInt8 := [182, 0, 242, 172, 42, 20, 0, 128, 182, 0, 107, 153, 0, 9, 42, 27, 182, 0, 245, 172, 42, 20, 0, 248]
abbrev dktX4_valleyLineHere_2 : List UInt8 := dkwX4_valleyLineHere_2 ++ dktX4_valleyLineHere_3
def dkwX4_valleyLineHere_1 : List UInt8 := [154, 0, 10, 42, 7, 27, 182, 0, 117, 172, 42, 20, 0, 130, 182, 0, 107, 153, 0, 9, 42, 27]
abbrev dktX4_valleyLineHere_1 : List UInt8 := dkwX4_valleyLineHere_1 ++ dktX4_valleyLineHere_2
def dkwX4_valleyLineHere_0 : List UInt8 := [42, 20, 0, 237, 182, 0, 107, 153, 0, 9, 42, 27, 182, 0, 239, 172, 42, 180, 0, 26, 3, 46]
abbrev dktX4_valleyLineHere_0 : List UInt8 := dkwX4_valleyLineHere_0 ++ dktX4_valleyLineHere_1
theorem dksX4_valleyLineHere_0 : cX4_valleyLineHere.data.toList.drop 0 = dktX4_valleyLineHere_0 := by decide +kernel
theorem dksX4_valleyLineHere_1 : cX4_valleyLineHere.data.toList.drop 22 = dktX4_valleyLineHere_1 := dk_seg dksX4_valleyLineHere_0 22 rfl rfl
theorem dksX4_valleyLineHere_2 : cX4_valleyLineHere.data.toList.drop 44 = dktX4_valleyLineHere_2 := dk_seg dksX4_valleyLineHere_1 22 rfl rfl
theorem dksX4_valleyLineHere_3 : cX4_valleyLineHere.data.toList.drop 68 = dktX4_valleyLineHere_3 := dk_seg dksX4_valleyLineHere_2 24 rfl rfl
theorem dksX4_valleyLineHere_4 : cX4_valleyLineHere.data.toList.drop 90 = dktX4_valleyLineHere_4 := dk_seg dksX4_valleyLineHere_3 22 rfl rfl
theorem dX4_valleyLineHere_0 : decode cX4_valleyLineHere 0 = .ok (.aload_n 0, 1) := dk_42 (dk_at dksX4_valleyLineHere_0 0 rfl rfl)
theorem dX4_valleyLineHere_1 : decode cX4_valleyLineHere 1 = .ok (.ldc2_w 237, 3) := dk_20 0 237 (dk_at dksX4_valleyLineHere_0 1 rfl rfl)
theorem dX4_valleyLineHere_4 : decode cX4_valleyLineHere 4 = .ok (.invokevirtual 107, 3) := dk_182 0 107 (dk_at dksX4_valleyLineHere_0 4 rfl rfl)
theorem dX4_valleyLineHere_7 : decode cX4_valleyLineHere 7 = .ok (.ifCond .eq 9, 3) := dk_153 0 9 (dk_at dksX4_valleyLineHere_0 7 rfl rfl)
theorem dX4_valleyLineHere_10 : decode cX4_valleyLineHere 10 = .ok (.aload_n 0, 1) := dk_42 (dk_at dksX4_valleyLineHere_0 10 rfl rfl)
theorem dX4_valleyLineHere_11 : decode cX4_valleyLineHere 11 = .ok (.iload_n 1, 1) := dk_27 (dk_at dksX4_valleyLineHere_0 11 rfl rfl)
theorem dX4_valleyLineHere_12 : decode cX4_valleyLineHere 12 = .ok (.invokevirtual 239, 3) := dk_182 0 239 (dk_at dksX4_valleyLineHere_0 12 rfl rfl)
theorem dX4_valleyLineHere_15 : decode cX4_valleyLineHere 15 = .ok (.ireturn, 1) := dk_172 (dk_at dksX4_valleyLineHere_0 15 rfl rfl)
theorem dX4_valleyLineHere_16 : decode cX4_valleyLineHere 16 = .ok (.aload_n 0, 1) := dk_42 (dk_at dksX4_valleyLineHere_0 16 rfl rfl)
theorem dX4_valleyLineHere_17 : decode cX4_valleyLineHere 17 = .ok (.getfield 26, 3) := dk_180 0 26 (dk_at dksX4_valleyLineHere_0 17 rfl rfl)
theorem dX4_valleyLineHere_20 : decode cX4_valleyLineHere 20 = .ok (.iconst 0, 1) := dk_3 (dk_at dksX4_valleyLineHere_0 20 rfl rfl)
theorem dX4_valleyLineHere_21 : decode cX4_valleyLineHere 21 = .ok (.iaload, 1) := dk_46 (dk_at dksX4_valleyLineHere_0 21 rfl rfl)
theorem dX4_valleyLineHere_22 : decode cX4_valleyLineHere 22 = .ok (.ifCond .ne 10, 3) := dk_154 0 10 (dk_at dksX4_valleyLineHere_1 0 rfl rfl)
theorem dX4_valleyLineHere_25 : decode cX4_valleyLineHere 25 = .ok (.aload_n 0, 1) := dk_42 (dk_at dksX4_valleyLineHere_1 3 rfl rfl)
theorem dX4_valleyLineHere_26 : decode cX4_valleyLineHere 26 = .ok (.iconst 4, 1) := dk_7 (dk_at dksX4_valleyLineHere_1 4 rfl rfl)
theorem dX4_valleyLineHere_27 : decode cX4_valleyLineHere 27 = .ok (.iload_n 1, 1) := dk_27 (dk_at dksX4_valleyLineHere_1 5 rfl rfl)
theorem dX4_valleyLineHere_28 : decode cX4_valleyLineHere 28 = .ok (.invokevirtual 117, 3) := dk_182 0 117 (dk_at dksX4_valleyLineHere_1 6 rfl rfl)
theorem dX4_valleyLineHere_31 : decode cX4_valleyLineHere 31 = .ok (.ireturn, 1) := dk_172 (dk_at dksX4_valleyLineHere_1 9 rfl rfl)
theorem dX4_valleyLineHere_32 : decode cX4_valleyLineHere 32 = .ok (.aload_n 0, 1) := dk_42 (dk_at dksX4_valleyLineHere_1 10 rfl rfl)
theorem dX4_valleyLineHere_33 : decode cX4_valleyLineHere 33 = .ok (.ldc2_w 130, 3) := dk_20 0 130 (dk_at dksX4_valleyLineHere_1 11 rfl rfl)
theorem dX4_valleyLineHere_36 : decode cX4_valleyLineHere 36 = .ok (.invokevirtual 107, 3) := dk_182 0 107 (dk_at dksX4_valleyLineHere_1 14 rfl rfl)
theorem dX4_valleyLineHere_39 : decode cX4_valleyLineHere 39 = .ok (.ifCond .eq 9, 3) := dk_153 0 9 (dk_at dksX4_valleyLineHere_1 17 rfl rfl)
theorem dX4_valleyLineHere_42 : decode cX4_valleyLineHere 42 = .ok (.aload_n 0, 1) := dk_42 (dk_at dksX4_valleyLineHere_1 20 rfl rfl)
theorem dX4_valleyLineHere_43 : decode cX4_valleyLineHere 43 = .ok (.iload_n 1, 1) := dk_27 (dk_at dksX4_valleyLineHere_1 21 rfl rfl)
theorem dX4_valleyLineHere_44 : decode cX4_valleyLineHere 44 = .ok (.invokevirtual 242, 3) := dk_182 0 242 (dk_at dksX4_valleyLineHere_2 0 rfl rfl)
theorem dX4_valleyLineHere_47 : decode cX4_valleyLineHere 47 = .ok (.ireturn, 1) := dk_172 (dk_at dksX4_valleyLineHere_2 3 rfl rfl)
theorem dX4_valleyLineHere_48 : decode cX4_valleyLineHere 48 = .ok (.aload_n 0, 1) := dk_42 (dk_at dksX4_valleyLineHere_2 4 rfl rfl)
theorem dX4_valleyLineHere_49 : decode cX4_valleyLineHere 49 = .ok (.ldc2_w 128, 3) := dk_20 0 128 (dk_at dksX4_valleyLineHere_2 5 rfl rfl)
theorem dX4_valleyLineHere_52 : decode cX4_valleyLineHere 52 = .ok (.invokevirtual 107, 3) := dk_182 0 107 (dk_at dksX4_valleyLineHere_2 8 rfl rfl)
theorem dX4_valleyLineHere_55 : decode cX4_valleyLineHere 55 = .ok (.ifCond .eq 9, 3) := dk_153 0 9 (dk_at dksX4_valleyLineHere_2 11 rfl rfl)
theorem dX4_valleyLineHere_58 : decode cX4_valleyLineHere 58 = .ok (.aload_n 0, 1) := dk_42 (dk_at dksX4_valleyLineHere_2 14 rfl rfl)
theorem dX4_valleyLineHere_59 : decode cX4_valleyLineHere 59 = .ok (.iload_n 1, 1) := dk_27 (dk_at dksX4_valleyLineHere_2 15 rfl rfl)
theorem dX4_valleyLineHere_60 : decode cX4_valleyLineHere 60 = .ok (.invokevirtual 245, 3) := dk_182 0 245 (dk_at dksX4_valleyLineHere_2 16 rfl rfl)
theorem dX4_valleyLineHere_63 : decode cX4_valleyLineHere 63 = .ok (.ireturn, 1) := dk_172 (dk_at dksX4_valleyLineHere_2 19 rfl rfl)
theorem dX4_valleyLineHere_64 : decode cX4_valleyLineHere 64 = .ok (.aload_n 0, 1) := dk_42 (dk_at dksX4_valleyLineHere_2 20 rfl rfl)
theorem dX4_valleyLineHere_65 : decode cX4_valleyLineHere 65 = .ok (.ldc2_w 248, 3) := dk_20 0 248 (dk_at dksX4_valleyLineHere_2 21 rfl rfl)
theorem dX4_valleyLineHere_68 : decode cX4_valleyLineHere 68 = .ok (.invokevirtual 107, 3) := dk_182 0 107 (dk_at dksX4_valleyLineHere_3 0 rfl rfl)
theorem dX4_valleyLineHere_71 : decode cX4_valleyLineHere 71 = .ok (.ifCond .eq 8, 3) := dk_153 0 8 (dk_at dksX4_valleyLineHere_3 3 rfl rfl)
theorem dX4_valleyLineHere_74 : decode cX4_valleyLineHere 74 = .ok (.aload_n 0, 1) := dk_42 (dk_at dksX4_valleyLineHere_3 6 rfl rfl)
theorem dX4_valleyLineHere_75 : decode cX4_valleyLineHere 75 = .ok (.invokevirtual 250, 3) := dk_182 0 250 (dk_at dksX4_valleyLineHere_3 7 rfl rfl)
theorem dX4_valleyLineHere_78 : decode cX4_valleyLineHere 78 = .ok (.ireturn, 1) := dk_172 (dk_at dksX4_valleyLineHere_3 10 rfl rfl)
theorem dX4_valleyLineHere_79 : decode cX4_valleyLineHere 79 = .ok (.aload_n 0, 1) := dk_42 (dk_at dksX4_valleyLineHere_3 11 rfl rfl)
theorem dX4_valleyLineHere_80 : decode cX4_valleyLineHere 80 = .ok (.ldc2_w 253, 3) := dk_20 0 253 (dk_at dksX4_valleyLineHere_3 12 rfl rfl)
theorem dX4_valleyLineHere_83 : decode cX4_valleyLineHere 83 = .ok (.invokevirtual 107, 3) := dk_182 0 107 (dk_at dksX4_valleyLineHere_3 15 rfl rfl)
theorem dX4_valleyLineHere_86 : decode cX4_valleyLineHere 86 = .ok (.ifCond .eq 10, 3) := dk_153 0 10 (dk_at dksX4_valleyLineHere_3 18 rfl rfl)
theorem dX4_valleyLineHere_89 : decode cX4_valleyLineHere 89 = .ok (.aload_n 0, 1) := dk_42 (dk_at dksX4_valleyLineHere_3 21 rfl rfl)
theorem dX4_valleyLineHere_90 : decode cX4_valleyLineHere 90 = .ok (.invokevirtual 255, 3) := dk_182 0 255 (dk_at dksX4_valleyLineHere_4 0 rfl rfl)
theorem dX4_valleyLineHere_93 : decode cX4_valleyLineHere 93 = .ok (.goto 7, 3) := dk_167 0 7 (dk_at dksX4_valleyLineHere_4 3 rfl rfl)
theorem dX4_valleyLineHere_96 : decode cX4_valleyLineHere 96 = .ok (.aload_n 0, 1) := dk_42 (dk_at dksX4_valleyLineHere_4 6 rfl rfl)
theorem dX4_valleyLineHere_97 : decode cX4_valleyLineHere 97 = .ok (.invokevirtual 258, 3) := dk_182 1 2 (dk_at dksX4_valleyLineHere_4 7 rfl rfl)
theorem dX4_valleyLineHere_100 : decode cX4_valleyLineHere 100 = .ok (.ireturn, 1) := dk_172 (dk_at dksX4_valleyLineHere_4 10 rfl rfl)
abbrev cX4_isValleyHere : ByteArray := prog_19_method_33_code
def yX4_isValleyHere : MethodName := ⟨RX4, "isValleyHere", "(I)Z"⟩
def dkwX4_isValleyHere_3 : List UInt8 := [16, 54, 28, 96, 2, 79, 132, 2, 1, 167, 255, 237, 4, 172]
abbrev dktX4_isValleyHere_3 : List UInt8 := dkwX4_isValleyHere_3 ++ []
def dkwX4_isValleyHere_2 : List UInt8 := [180, 0, 26, 3, 42, 180, 0, 26, 7, 46, 79, 3, 61, 28, 16, 8, 162, 0, 19, 42, 180, 0, 26]
abbrev dktX4_isValleyHere_2 : List UInt8 := dkwX4_isValleyHere_2 ++ dktX4_isValleyHere_3
def dkwX4_isValleyHere_1 : List UInt8 := [16, 9, 182, 0, 224, 153, 0, 14, 42, 4, 4, 16, 30, 182, 0, 224, 154, 0, 5, 3, 172, 42]
abbrev dktX4_isValleyHere_1 : List UInt8 := dkwX4_isValleyHere_1 ++ dktX4_isValleyHere_2
def dkwX4_isValleyHere_0 : List UInt8 := [42, 180, 0, 26, 3, 46, 158, 0, 10, 42, 7, 27, 182, 0, 117, 172, 42, 182, 0, 111, 42, 7, 4]
abbrev dktX4_isValleyHere_0 : List UInt8 := dkwX4_isValleyHere_0 ++ dktX4_isValleyHere_1
theorem dksX4_isValleyHere_0 : cX4_isValleyHere.data.toList.drop 0 = dktX4_isValleyHere_0 := by decide +kernel
theorem dksX4_isValleyHere_1 : cX4_isValleyHere.data.toList.drop 23 = dktX4_isValleyHere_1 := dk_seg dksX4_isValleyHere_0 23 rfl rfl
theorem dksX4_isValleyHere_2 : cX4_isValleyHere.data.toList.drop 45 = dktX4_isValleyHere_2 := dk_seg dksX4_isValleyHere_1 22 rfl rfl
theorem dksX4_isValleyHere_3 : cX4_isValleyHere.data.toList.drop 68 = dktX4_isValleyHere_3 := dk_seg dksX4_isValleyHere_2 23 rfl rfl
theorem dX4_isValleyHere_0 : decode cX4_isValleyHere 0 = .ok (.aload_n 0, 1) := dk_42 (dk_at dksX4_isValleyHere_0 0 rfl rfl)
theorem dX4_isValleyHere_1 : decode cX4_isValleyHere 1 = .ok (.getfield 26, 3) := dk_180 0 26 (dk_at dksX4_isValleyHere_0 1 rfl rfl)
theorem dX4_isValleyHere_4 : decode cX4_isValleyHere 4 = .ok (.iconst 0, 1) := dk_3 (dk_at dksX4_isValleyHere_0 4 rfl rfl)
theorem dX4_isValleyHere_5 : decode cX4_isValleyHere 5 = .ok (.iaload, 1) := dk_46 (dk_at dksX4_isValleyHere_0 5 rfl rfl)
theorem dX4_isValleyHere_6 : decode cX4_isValleyHere 6 = .ok (.ifCond .le 10, 3) := dk_158 0 10 (dk_at dksX4_isValleyHere_0 6 rfl rfl)
theorem dX4_isValleyHere_9 : decode cX4_isValleyHere 9 = .ok (.aload_n 0, 1) := dk_42 (dk_at dksX4_isValleyHere_0 9 rfl rfl)
theorem dX4_isValleyHere_10 : decode cX4_isValleyHere 10 = .ok (.iconst 4, 1) := dk_7 (dk_at dksX4_isValleyHere_0 10 rfl rfl)
theorem dX4_isValleyHere_11 : decode cX4_isValleyHere 11 = .ok (.iload_n 1, 1) := dk_27 (dk_at dksX4_isValleyHere_0 11 rfl rfl)
theorem dX4_isValleyHere_12 : decode cX4_isValleyHere 12 = .ok (.invokevirtual 117, 3) := dk_182 0 117 (dk_at dksX4_isValleyHere_0 12 rfl rfl)
theorem dX4_isValleyHere_15 : decode cX4_isValleyHere 15 = .ok (.ireturn, 1) := dk_172 (dk_at dksX4_isValleyHere_0 15 rfl rfl)
theorem dX4_isValleyHere_16 : decode cX4_isValleyHere 16 = .ok (.aload_n 0, 1) := dk_42 (dk_at dksX4_isValleyHere_0 16 rfl rfl)
theorem dX4_isValleyHere_17 : decode cX4_isValleyHere 17 = .ok (.invokevirtual 111, 3) := dk_182 0 111 (dk_at dksX4_isValleyHere_0 17 rfl rfl)
theorem dX4_isValleyHere_20 : decode cX4_isValleyHere 20 = .ok (.aload_n 0, 1) := dk_42 (dk_at dksX4_isValleyHere_0 20 rfl rfl)
theorem dX4_isValleyHere_21 : decode cX4_isValleyHere 21 = .ok (.iconst 4, 1) := dk_7 (dk_at dksX4_isValleyHere_0 21 rfl rfl)
theorem dX4_isValleyHere_22 : decode cX4_isValleyHere 22 = .ok (.iconst 1, 1) := dk_4 (dk_at dksX4_isValleyHere_0 22 rfl rfl)
theorem dX4_isValleyHere_23 : decode cX4_isValleyHere 23 = .ok (.bipush 9, 2) := dk_16 9 (dk_at dksX4_isValleyHere_1 0 rfl rfl)
theorem dX4_isValleyHere_25 : decode cX4_isValleyHere 25 = .ok (.invokevirtual 224, 3) := dk_182 0 224 (dk_at dksX4_isValleyHere_1 2 rfl rfl)
theorem dX4_isValleyHere_28 : decode cX4_isValleyHere 28 = .ok (.ifCond .eq 14, 3) := dk_153 0 14 (dk_at dksX4_isValleyHere_1 5 rfl rfl)
theorem dX4_isValleyHere_31 : decode cX4_isValleyHere 31 = .ok (.aload_n 0, 1) := dk_42 (dk_at dksX4_isValleyHere_1 8 rfl rfl)
theorem dX4_isValleyHere_32 : decode cX4_isValleyHere 32 = .ok (.iconst 1, 1) := dk_4 (dk_at dksX4_isValleyHere_1 9 rfl rfl)
theorem dX4_isValleyHere_33 : decode cX4_isValleyHere 33 = .ok (.iconst 1, 1) := dk_4 (dk_at dksX4_isValleyHere_1 10 rfl rfl)
theorem dX4_isValleyHere_34 : decode cX4_isValleyHere 34 = .ok (.bipush 30, 2) := dk_16 30 (dk_at dksX4_isValleyHere_1 11 rfl rfl)
theorem dX4_isValleyHere_36 : decode cX4_isValleyHere 36 = .ok (.invokevirtual 224, 3) := dk_182 0 224 (dk_at dksX4_isValleyHere_1 13 rfl rfl)
theorem dX4_isValleyHere_39 : decode cX4_isValleyHere 39 = .ok (.ifCond .ne 5, 3) := dk_154 0 5 (dk_at dksX4_isValleyHere_1 16 rfl rfl)
theorem dX4_isValleyHere_42 : decode cX4_isValleyHere 42 = .ok (.iconst 0, 1) := dk_3 (dk_at dksX4_isValleyHere_1 19 rfl rfl)
theorem dX4_isValleyHere_43 : decode cX4_isValleyHere 43 = .ok (.ireturn, 1) := dk_172 (dk_at dksX4_isValleyHere_1 20 rfl rfl)
theorem dX4_isValleyHere_44 : decode cX4_isValleyHere 44 = .ok (.aload_n 0, 1) := dk_42 (dk_at dksX4_isValleyHere_1 21 rfl rfl)
theorem dX4_isValleyHere_45 : decode cX4_isValleyHere 45 = .ok (.getfield 26, 3) := dk_180 0 26 (dk_at dksX4_isValleyHere_2 0 rfl rfl)
theorem dX4_isValleyHere_48 : decode cX4_isValleyHere 48 = .ok (.iconst 0, 1) := dk_3 (dk_at dksX4_isValleyHere_2 3 rfl rfl)
theorem dX4_isValleyHere_49 : decode cX4_isValleyHere 49 = .ok (.aload_n 0, 1) := dk_42 (dk_at dksX4_isValleyHere_2 4 rfl rfl)
theorem dX4_isValleyHere_50 : decode cX4_isValleyHere 50 = .ok (.getfield 26, 3) := dk_180 0 26 (dk_at dksX4_isValleyHere_2 5 rfl rfl)
theorem dX4_isValleyHere_53 : decode cX4_isValleyHere 53 = .ok (.iconst 4, 1) := dk_7 (dk_at dksX4_isValleyHere_2 8 rfl rfl)
theorem dX4_isValleyHere_54 : decode cX4_isValleyHere 54 = .ok (.iaload, 1) := dk_46 (dk_at dksX4_isValleyHere_2 9 rfl rfl)
theorem dX4_isValleyHere_55 : decode cX4_isValleyHere 55 = .ok (.iastore, 1) := dk_79 (dk_at dksX4_isValleyHere_2 10 rfl rfl)
theorem dX4_isValleyHere_56 : decode cX4_isValleyHere 56 = .ok (.iconst 0, 1) := dk_3 (dk_at dksX4_isValleyHere_2 11 rfl rfl)
theorem dX4_isValleyHere_57 : decode cX4_isValleyHere 57 = .ok (.istore_n 2, 1) := dk_61 (dk_at dksX4_isValleyHere_2 12 rfl rfl)
theorem dX4_isValleyHere_58 : decode cX4_isValleyHere 58 = .ok (.iload_n 2, 1) := dk_28 (dk_at dksX4_isValleyHere_2 13 rfl rfl)
theorem dX4_isValleyHere_59 : decode cX4_isValleyHere 59 = .ok (.bipush 8, 2) := dk_16 8 (dk_at dksX4_isValleyHere_2 14 rfl rfl)
theorem dX4_isValleyHere_61 : decode cX4_isValleyHere 61 = .ok (.if_icmp .ge 19, 3) := dk_162 0 19 (dk_at dksX4_isValleyHere_2 16 rfl rfl)
theorem dX4_isValleyHere_64 : decode cX4_isValleyHere 64 = .ok (.aload_n 0, 1) := dk_42 (dk_at dksX4_isValleyHere_2 19 rfl rfl)
theorem dX4_isValleyHere_65 : decode cX4_isValleyHere 65 = .ok (.getfield 26, 3) := dk_180 0 26 (dk_at dksX4_isValleyHere_2 20 rfl rfl)
theorem dX4_isValleyHere_68 : decode cX4_isValleyHere 68 = .ok (.bipush 54, 2) := dk_16 54 (dk_at dksX4_isValleyHere_3 0 rfl rfl)
theorem dX4_isValleyHere_70 : decode cX4_isValleyHere 70 = .ok (.iload_n 2, 1) := dk_28 (dk_at dksX4_isValleyHere_3 2 rfl rfl)
theorem dX4_isValleyHere_71 : decode cX4_isValleyHere 71 = .ok (.iadd, 1) := dk_96 (dk_at dksX4_isValleyHere_3 3 rfl rfl)
theorem dX4_isValleyHere_72 : decode cX4_isValleyHere 72 = .ok (.iconst (-1), 1) := dk_2 (dk_at dksX4_isValleyHere_3 4 rfl rfl)
theorem dX4_isValleyHere_73 : decode cX4_isValleyHere 73 = .ok (.iastore, 1) := dk_79 (dk_at dksX4_isValleyHere_3 5 rfl rfl)
theorem dX4_isValleyHere_74 : decode cX4_isValleyHere 74 = .ok (.iinc 2 1, 3) := dk_132 2 1 (dk_at dksX4_isValleyHere_3 6 rfl rfl)
theorem dX4_isValleyHere_77 : decode cX4_isValleyHere 77 = .ok (.goto (-19), 3) := dk_167 255 237 (dk_at dksX4_isValleyHere_3 9 rfl rfl)
theorem dX4_isValleyHere_80 : decode cX4_isValleyHere 80 = .ok (.iconst 1, 1) := dk_4 (dk_at dksX4_isValleyHere_3 12 rfl rfl)
theorem dX4_isValleyHere_81 : decode cX4_isValleyHere 81 = .ok (.ireturn, 1) := dk_172 (dk_at dksX4_isValleyHere_3 13 rfl rfl)
abbrev cX4_passWord : ByteArray := prog_19_method_14_code
def yX4_passWord : MethodName := ⟨RX4, "passWord", "()V"⟩
def dkwX4_passWord_1 : List UInt8 := [177]
abbrev dktX4_passWord_1 : List UInt8 := dkwX4_passWord_1 ++ []
def dkwX4_passWord_0 : List UInt8 := [42, 42, 180, 0, 96, 182, 0, 103, 153, 0, 16, 42, 89, 180, 0, 96, 4, 96, 181, 0, 96, 167, 255, 235]
abbrev dktX4_passWord_0 : List UInt8 := dkwX4_passWord_0 ++ dktX4_passWord_1
theorem dksX4_passWord_0 : cX4_passWord.data.toList.drop 0 = dktX4_passWord_0 := by decide +kernel
theorem dksX4_passWord_1 : cX4_passWord.data.toList.drop 24 = dktX4_passWord_1 := dk_seg dksX4_passWord_0 24 rfl rfl
theorem dX4_passWord_0 : decode cX4_passWord 0 = .ok (.aload_n 0, 1) := dk_42 (dk_at dksX4_passWord_0 0 rfl rfl)
theorem dX4_passWord_1 : decode cX4_passWord 1 = .ok (.aload_n 0, 1) := dk_42 (dk_at dksX4_passWord_0 1 rfl rfl)
theorem dX4_passWord_2 : decode cX4_passWord 2 = .ok (.getfield 96, 3) := dk_180 0 96 (dk_at dksX4_passWord_0 2 rfl rfl)
theorem dX4_passWord_5 : decode cX4_passWord 5 = .ok (.invokevirtual 103, 3) := dk_182 0 103 (dk_at dksX4_passWord_0 5 rfl rfl)
theorem dX4_passWord_8 : decode cX4_passWord 8 = .ok (.ifCond .eq 16, 3) := dk_153 0 16 (dk_at dksX4_passWord_0 8 rfl rfl)
theorem dX4_passWord_11 : decode cX4_passWord 11 = .ok (.aload_n 0, 1) := dk_42 (dk_at dksX4_passWord_0 11 rfl rfl)
theorem dX4_passWord_12 : decode cX4_passWord 12 = .ok (.dup, 1) := dk_89 (dk_at dksX4_passWord_0 12 rfl rfl)
theorem dX4_passWord_13 : decode cX4_passWord 13 = .ok (.getfield 96, 3) := dk_180 0 96 (dk_at dksX4_passWord_0 13 rfl rfl)
theorem dX4_passWord_16 : decode cX4_passWord 16 = .ok (.iconst 1, 1) := dk_4 (dk_at dksX4_passWord_0 16 rfl rfl)
theorem dX4_passWord_17 : decode cX4_passWord 17 = .ok (.iadd, 1) := dk_96 (dk_at dksX4_passWord_0 17 rfl rfl)
theorem dX4_passWord_18 : decode cX4_passWord 18 = .ok (.putfield 96, 3) := dk_181 0 96 (dk_at dksX4_passWord_0 18 rfl rfl)
theorem dX4_passWord_21 : decode cX4_passWord 21 = .ok (.goto (-21), 3) := dk_167 255 235 (dk_at dksX4_passWord_0 21 rfl rfl)
theorem dX4_passWord_24 : decode cX4_passWord 24 = .ok (.return_, 1) := dk_177 (dk_at dksX4_passWord_1 0 rfl rfl)
abbrev cX4_cellHere : ByteArray := prog_19_method_32_code
def yX4_cellHere : MethodName := ⟨RX4, "cellHere", "(III)Z"⟩
def dkwX4_cellHere_0 : List UInt8 := [42, 28, 29, 182, 0, 173, 154, 0, 5, 3, 172, 42, 180, 0, 26, 27, 42, 180, 0, 121, 79, 4, 172]
abbrev dktX4_cellHere_0 : List UInt8 := dkwX4_cellHere_0 ++ []
theorem dksX4_cellHere_0 : cX4_cellHere.data.toList.drop 0 = dktX4_cellHere_0 := by decide +kernel
theorem dX4_cellHere_0 : decode cX4_cellHere 0 = .ok (.aload_n 0, 1) := dk_42 (dk_at dksX4_cellHere_0 0 rfl rfl)
theorem dX4_cellHere_1 : decode cX4_cellHere 1 = .ok (.iload_n 2, 1) := dk_28 (dk_at dksX4_cellHere_0 1 rfl rfl)
theorem dX4_cellHere_2 : decode cX4_cellHere 2 = .ok (.iload_n 3, 1) := dk_29 (dk_at dksX4_cellHere_0 2 rfl rfl)
theorem dX4_cellHere_3 : decode cX4_cellHere 3 = .ok (.invokevirtual 173, 3) := dk_182 0 173 (dk_at dksX4_cellHere_0 3 rfl rfl)
theorem dX4_cellHere_6 : decode cX4_cellHere 6 = .ok (.ifCond .ne 5, 3) := dk_154 0 5 (dk_at dksX4_cellHere_0 6 rfl rfl)
theorem dX4_cellHere_9 : decode cX4_cellHere 9 = .ok (.iconst 0, 1) := dk_3 (dk_at dksX4_cellHere_0 9 rfl rfl)
theorem dX4_cellHere_10 : decode cX4_cellHere 10 = .ok (.ireturn, 1) := dk_172 (dk_at dksX4_cellHere_0 10 rfl rfl)
theorem dX4_cellHere_11 : decode cX4_cellHere 11 = .ok (.aload_n 0, 1) := dk_42 (dk_at dksX4_cellHere_0 11 rfl rfl)
theorem dX4_cellHere_12 : decode cX4_cellHere 12 = .ok (.getfield 26, 3) := dk_180 0 26 (dk_at dksX4_cellHere_0 12 rfl rfl)
theorem dX4_cellHere_15 : decode cX4_cellHere 15 = .ok (.iload_n 1, 1) := dk_27 (dk_at dksX4_cellHere_0 15 rfl rfl)
theorem dX4_cellHere_16 : decode cX4_cellHere 16 = .ok (.aload_n 0, 1) := dk_42 (dk_at dksX4_cellHere_0 16 rfl rfl)
theorem dX4_cellHere_17 : decode cX4_cellHere 17 = .ok (.getfield 121, 3) := dk_180 0 121 (dk_at dksX4_cellHere_0 17 rfl rfl)
theorem dX4_cellHere_20 : decode cX4_cellHere 20 = .ok (.iastore, 1) := dk_79 (dk_at dksX4_cellHere_0 20 rfl rfl)
theorem dX4_cellHere_21 : decode cX4_cellHere 21 = .ok (.iconst 1, 1) := dk_4 (dk_at dksX4_cellHere_0 21 rfl rfl)
theorem dX4_cellHere_22 : decode cX4_cellHere 22 = .ok (.ireturn, 1) := dk_172 (dk_at dksX4_cellHere_0 22 rfl rfl)
abbrev cX4_numberHere : ByteArray := prog_19_method_16_code
def yX4_numberHere : MethodName := ⟨RX4, "numberHere", "(II)Z"⟩
def dkwX4_numberHere_5 : List UInt8 := [4, 29, 182, 0, 117, 153, 0, 7, 4, 167, 0, 4, 3, 172]
abbrev dktX4_numberHere_5 : List UInt8 := dkwX4_numberHere_5 ++ []
def dkwX4_numberHere_4 : List UInt8 := [42, 180, 0, 96, 29, 100, 8, 163, 0, 16, 21, 4, 133, 27, 133, 28, 133, 184, 0, 124, 154, 0, 12, 42]
abbrev dktX4_numberHere_4 : List UInt8 := dkwX4_numberHere_4 ++ dktX4_numberHere_5
def dkwX4_numberHere_3 : List UInt8 := [16, 48, 100, 54, 4, 42, 89, 180, 0, 96, 4, 96, 181, 0, 96, 167, 255, 205, 42, 21, 4, 181, 0, 121]
abbrev dktX4_numberHere_3 : List UInt8 := dkwX4_numberHere_3 ++ dktX4_numberHere_4
def dkwX4_numberHere_2 : List UInt8 := [180, 0, 96, 29, 100, 8, 162, 0, 23, 16, 10, 21, 4, 104, 42, 180, 0, 7, 42, 180, 0, 96, 51, 96]
abbrev dktX4_numberHere_2 : List UInt8 := dkwX4_numberHere_2 ++ dktX4_numberHere_3
def dkwX4_numberHere_1 : List UInt8 := [182, 0, 117, 172, 42, 180, 0, 96, 62, 3, 54, 4, 42, 42, 180, 0, 96, 182, 0, 114, 153, 0, 46, 42]
abbrev dktX4_numberHere_1 : List UInt8 := dkwX4_numberHere_1 ++ dktX4_numberHere_2
def dkwX4_numberHere_0 : List UInt8 := [42, 182, 0, 99, 87, 42, 42, 180, 0, 96, 182, 0, 114, 154, 0, 13, 42, 3, 42, 180, 0, 96]
abbrev dktX4_numberHere_0 : List UInt8 := dkwX4_numberHere_0 ++ dktX4_numberHere_1
theorem dksX4_numberHere_0 : cX4_numberHere.data.toList.drop 0 = dktX4_numberHere_0 := by decide +kernel
theorem dksX4_numberHere_1 : cX4_numberHere.data.toList.drop 22 = dktX4_numberHere_1 := dk_seg dksX4_numberHere_0 22 rfl rfl
theorem dksX4_numberHere_2 : cX4_numberHere.data.toList.drop 46 = dktX4_numberHere_2 := dk_seg dksX4_numberHere_1 24 rfl rfl
theorem dksX4_numberHere_3 : cX4_numberHere.data.toList.drop 70 = dktX4_numberHere_3 := dk_seg dksX4_numberHere_2 24 rfl rfl
theorem dksX4_numberHere_4 : cX4_numberHere.data.toList.drop 94 = dktX4_numberHere_4 := dk_seg dksX4_numberHere_3 24 rfl rfl
theorem dksX4_numberHere_5 : cX4_numberHere.data.toList.drop 118 = dktX4_numberHere_5 := dk_seg dksX4_numberHere_4 24 rfl rfl
theorem dX4_numberHere_0 : decode cX4_numberHere 0 = .ok (.aload_n 0, 1) := dk_42 (dk_at dksX4_numberHere_0 0 rfl rfl)
theorem dX4_numberHere_1 : decode cX4_numberHere 1 = .ok (.invokevirtual 99, 3) := dk_182 0 99 (dk_at dksX4_numberHere_0 1 rfl rfl)
theorem dX4_numberHere_4 : decode cX4_numberHere 4 = .ok (.pop, 1) := dk_87 (dk_at dksX4_numberHere_0 4 rfl rfl)
theorem dX4_numberHere_5 : decode cX4_numberHere 5 = .ok (.aload_n 0, 1) := dk_42 (dk_at dksX4_numberHere_0 5 rfl rfl)
theorem dX4_numberHere_6 : decode cX4_numberHere 6 = .ok (.aload_n 0, 1) := dk_42 (dk_at dksX4_numberHere_0 6 rfl rfl)
theorem dX4_numberHere_7 : decode cX4_numberHere 7 = .ok (.getfield 96, 3) := dk_180 0 96 (dk_at dksX4_numberHere_0 7 rfl rfl)
theorem dX4_numberHere_10 : decode cX4_numberHere 10 = .ok (.invokevirtual 114, 3) := dk_182 0 114 (dk_at dksX4_numberHere_0 10 rfl rfl)
theorem dX4_numberHere_13 : decode cX4_numberHere 13 = .ok (.ifCond .ne 13, 3) := dk_154 0 13 (dk_at dksX4_numberHere_0 13 rfl rfl)
theorem dX4_numberHere_16 : decode cX4_numberHere 16 = .ok (.aload_n 0, 1) := dk_42 (dk_at dksX4_numberHere_0 16 rfl rfl)
theorem dX4_numberHere_17 : decode cX4_numberHere 17 = .ok (.iconst 0, 1) := dk_3 (dk_at dksX4_numberHere_0 17 rfl rfl)
theorem dX4_numberHere_18 : decode cX4_numberHere 18 = .ok (.aload_n 0, 1) := dk_42 (dk_at dksX4_numberHere_0 18 rfl rfl)
theorem dX4_numberHere_19 : decode cX4_numberHere 19 = .ok (.getfield 96, 3) := dk_180 0 96 (dk_at dksX4_numberHere_0 19 rfl rfl)
theorem dX4_numberHere_22 : decode cX4_numberHere 22 = .ok (.invokevirtual 117, 3) := dk_182 0 117 (dk_at dksX4_numberHere_1 0 rfl rfl)
theorem dX4_numberHere_25 : decode cX4_numberHere 25 = .ok (.ireturn, 1) := dk_172 (dk_at dksX4_numberHere_1 3 rfl rfl)
theorem dX4_numberHere_26 : decode cX4_numberHere 26 = .ok (.aload_n 0, 1) := dk_42 (dk_at dksX4_numberHere_1 4 rfl rfl)
theorem dX4_numberHere_27 : decode cX4_numberHere 27 = .ok (.getfield 96, 3) := dk_180 0 96 (dk_at dksX4_numberHere_1 5 rfl rfl)
theorem dX4_numberHere_30 : decode cX4_numberHere 30 = .ok (.istore_n 3, 1) := dk_62 (dk_at dksX4_numberHere_1 8 rfl rfl)
theorem dX4_numberHere_31 : decode cX4_numberHere 31 = .ok (.iconst 0, 1) := dk_3 (dk_at dksX4_numberHere_1 9 rfl rfl)
theorem dX4_numberHere_32 : decode cX4_numberHere 32 = .ok (.istore 4, 2) := dk_54 4 (dk_at dksX4_numberHere_1 10 rfl rfl)
theorem dX4_numberHere_34 : decode cX4_numberHere 34 = .ok (.aload_n 0, 1) := dk_42 (dk_at dksX4_numberHere_1 12 rfl rfl)
theorem dX4_numberHere_35 : decode cX4_numberHere 35 = .ok (.aload_n 0, 1) := dk_42 (dk_at dksX4_numberHere_1 13 rfl rfl)
theorem dX4_numberHere_36 : decode cX4_numberHere 36 = .ok (.getfield 96, 3) := dk_180 0 96 (dk_at dksX4_numberHere_1 14 rfl rfl)
theorem dX4_numberHere_39 : decode cX4_numberHere 39 = .ok (.invokevirtual 114, 3) := dk_182 0 114 (dk_at dksX4_numberHere_1 17 rfl rfl)
theorem dX4_numberHere_42 : decode cX4_numberHere 42 = .ok (.ifCond .eq 46, 3) := dk_153 0 46 (dk_at dksX4_numberHere_1 20 rfl rfl)
theorem dX4_numberHere_45 : decode cX4_numberHere 45 = .ok (.aload_n 0, 1) := dk_42 (dk_at dksX4_numberHere_1 23 rfl rfl)
theorem dX4_numberHere_46 : decode cX4_numberHere 46 = .ok (.getfield 96, 3) := dk_180 0 96 (dk_at dksX4_numberHere_2 0 rfl rfl)
theorem dX4_numberHere_49 : decode cX4_numberHere 49 = .ok (.iload_n 3, 1) := dk_29 (dk_at dksX4_numberHere_2 3 rfl rfl)
theorem dX4_numberHere_50 : decode cX4_numberHere 50 = .ok (.isub, 1) := dk_100 (dk_at dksX4_numberHere_2 4 rfl rfl)
theorem dX4_numberHere_51 : decode cX4_numberHere 51 = .ok (.iconst 5, 1) := dk_8 (dk_at dksX4_numberHere_2 5 rfl rfl)
theorem dX4_numberHere_52 : decode cX4_numberHere 52 = .ok (.if_icmp .ge 23, 3) := dk_162 0 23 (dk_at dksX4_numberHere_2 6 rfl rfl)
theorem dX4_numberHere_55 : decode cX4_numberHere 55 = .ok (.bipush 10, 2) := dk_16 10 (dk_at dksX4_numberHere_2 9 rfl rfl)
theorem dX4_numberHere_57 : decode cX4_numberHere 57 = .ok (.iload 4, 2) := dk_21 4 (dk_at dksX4_numberHere_2 11 rfl rfl)
theorem dX4_numberHere_59 : decode cX4_numberHere 59 = .ok (.imul, 1) := dk_104 (dk_at dksX4_numberHere_2 13 rfl rfl)
theorem dX4_numberHere_60 : decode cX4_numberHere 60 = .ok (.aload_n 0, 1) := dk_42 (dk_at dksX4_numberHere_2 14 rfl rfl)
theorem dX4_numberHere_61 : decode cX4_numberHere 61 = .ok (.getfield 7, 3) := dk_180 0 7 (dk_at dksX4_numberHere_2 15 rfl rfl)
theorem dX4_numberHere_64 : decode cX4_numberHere 64 = .ok (.aload_n 0, 1) := dk_42 (dk_at dksX4_numberHere_2 18 rfl rfl)
theorem dX4_numberHere_65 : decode cX4_numberHere 65 = .ok (.getfield 96, 3) := dk_180 0 96 (dk_at dksX4_numberHere_2 19 rfl rfl)
theorem dX4_numberHere_68 : decode cX4_numberHere 68 = .ok (.baload, 1) := dk_51 (dk_at dksX4_numberHere_2 22 rfl rfl)
theorem dX4_numberHere_69 : decode cX4_numberHere 69 = .ok (.iadd, 1) := dk_96 (dk_at dksX4_numberHere_2 23 rfl rfl)
theorem dX4_numberHere_70 : decode cX4_numberHere 70 = .ok (.bipush 48, 2) := dk_16 48 (dk_at dksX4_numberHere_3 0 rfl rfl)
theorem dX4_numberHere_72 : decode cX4_numberHere 72 = .ok (.isub, 1) := dk_100 (dk_at dksX4_numberHere_3 2 rfl rfl)
theorem dX4_numberHere_73 : decode cX4_numberHere 73 = .ok (.istore 4, 2) := dk_54 4 (dk_at dksX4_numberHere_3 3 rfl rfl)
theorem dX4_numberHere_75 : decode cX4_numberHere 75 = .ok (.aload_n 0, 1) := dk_42 (dk_at dksX4_numberHere_3 5 rfl rfl)
theorem dX4_numberHere_76 : decode cX4_numberHere 76 = .ok (.dup, 1) := dk_89 (dk_at dksX4_numberHere_3 6 rfl rfl)
theorem dX4_numberHere_77 : decode cX4_numberHere 77 = .ok (.getfield 96, 3) := dk_180 0 96 (dk_at dksX4_numberHere_3 7 rfl rfl)
theorem dX4_numberHere_80 : decode cX4_numberHere 80 = .ok (.iconst 1, 1) := dk_4 (dk_at dksX4_numberHere_3 10 rfl rfl)
theorem dX4_numberHere_81 : decode cX4_numberHere 81 = .ok (.iadd, 1) := dk_96 (dk_at dksX4_numberHere_3 11 rfl rfl)
theorem dX4_numberHere_82 : decode cX4_numberHere 82 = .ok (.putfield 96, 3) := dk_181 0 96 (dk_at dksX4_numberHere_3 12 rfl rfl)
theorem dX4_numberHere_85 : decode cX4_numberHere 85 = .ok (.goto (-51), 3) := dk_167 255 205 (dk_at dksX4_numberHere_3 15 rfl rfl)
theorem dX4_numberHere_88 : decode cX4_numberHere 88 = .ok (.aload_n 0, 1) := dk_42 (dk_at dksX4_numberHere_3 18 rfl rfl)
theorem dX4_numberHere_89 : decode cX4_numberHere 89 = .ok (.iload 4, 2) := dk_21 4 (dk_at dksX4_numberHere_3 19 rfl rfl)
theorem dX4_numberHere_91 : decode cX4_numberHere 91 = .ok (.putfield 121, 3) := dk_181 0 121 (dk_at dksX4_numberHere_3 21 rfl rfl)
theorem dX4_numberHere_94 : decode cX4_numberHere 94 = .ok (.aload_n 0, 1) := dk_42 (dk_at dksX4_numberHere_4 0 rfl rfl)
theorem dX4_numberHere_95 : decode cX4_numberHere 95 = .ok (.getfield 96, 3) := dk_180 0 96 (dk_at dksX4_numberHere_4 1 rfl rfl)
theorem dX4_numberHere_98 : decode cX4_numberHere 98 = .ok (.iload_n 3, 1) := dk_29 (dk_at dksX4_numberHere_4 4 rfl rfl)
theorem dX4_numberHere_99 : decode cX4_numberHere 99 = .ok (.isub, 1) := dk_100 (dk_at dksX4_numberHere_4 5 rfl rfl)
theorem dX4_numberHere_100 : decode cX4_numberHere 100 = .ok (.iconst 5, 1) := dk_8 (dk_at dksX4_numberHere_4 6 rfl rfl)
theorem dX4_numberHere_101 : decode cX4_numberHere 101 = .ok (.if_icmp .gt 16, 3) := dk_163 0 16 (dk_at dksX4_numberHere_4 7 rfl rfl)
theorem dX4_numberHere_104 : decode cX4_numberHere 104 = .ok (.iload 4, 2) := dk_21 4 (dk_at dksX4_numberHere_4 10 rfl rfl)
theorem dX4_numberHere_106 : decode cX4_numberHere 106 = .ok (.i2l, 1) := dk_133 (dk_at dksX4_numberHere_4 12 rfl rfl)
theorem dX4_numberHere_107 : decode cX4_numberHere 107 = .ok (.iload_n 1, 1) := dk_27 (dk_at dksX4_numberHere_4 13 rfl rfl)
theorem dX4_numberHere_108 : decode cX4_numberHere 108 = .ok (.i2l, 1) := dk_133 (dk_at dksX4_numberHere_4 14 rfl rfl)
theorem dX4_numberHere_109 : decode cX4_numberHere 109 = .ok (.iload_n 2, 1) := dk_28 (dk_at dksX4_numberHere_4 15 rfl rfl)
theorem dX4_numberHere_110 : decode cX4_numberHere 110 = .ok (.i2l, 1) := dk_133 (dk_at dksX4_numberHere_4 16 rfl rfl)
theorem dX4_numberHere_111 : decode cX4_numberHere 111 = .ok (.invokestatic 124, 3) := dk_184 0 124 (dk_at dksX4_numberHere_4 17 rfl rfl)
theorem dX4_numberHere_114 : decode cX4_numberHere 114 = .ok (.ifCond .ne 12, 3) := dk_154 0 12 (dk_at dksX4_numberHere_4 20 rfl rfl)
theorem dX4_numberHere_117 : decode cX4_numberHere 117 = .ok (.aload_n 0, 1) := dk_42 (dk_at dksX4_numberHere_4 23 rfl rfl)
theorem dX4_numberHere_118 : decode cX4_numberHere 118 = .ok (.iconst 1, 1) := dk_4 (dk_at dksX4_numberHere_5 0 rfl rfl)
theorem dX4_numberHere_119 : decode cX4_numberHere 119 = .ok (.iload_n 3, 1) := dk_29 (dk_at dksX4_numberHere_5 1 rfl rfl)
theorem dX4_numberHere_120 : decode cX4_numberHere 120 = .ok (.invokevirtual 117, 3) := dk_182 0 117 (dk_at dksX4_numberHere_5 2 rfl rfl)
theorem dX4_numberHere_123 : decode cX4_numberHere 123 = .ok (.ifCond .eq 7, 3) := dk_153 0 7 (dk_at dksX4_numberHere_5 5 rfl rfl)
theorem dX4_numberHere_126 : decode cX4_numberHere 126 = .ok (.iconst 1, 1) := dk_4 (dk_at dksX4_numberHere_5 8 rfl rfl)
theorem dX4_numberHere_127 : decode cX4_numberHere 127 = .ok (.goto 4, 3) := dk_167 0 4 (dk_at dksX4_numberHere_5 9 rfl rfl)
theorem dX4_numberHere_130 : decode cX4_numberHere 130 = .ok (.iconst 0, 1) := dk_3 (dk_at dksX4_numberHere_5 12 rfl rfl)
theorem dX4_numberHere_131 : decode cX4_numberHere 131 = .ok (.ireturn, 1) := dk_172 (dk_at dksX4_numberHere_5 13 rfl rfl)
abbrev cX4_isDigit : ByteArray := prog_19_method_11_code
def yX4_isDigit : MethodName := ⟨RX4, "isDigit", "(I)Z"⟩
def dkwX4_isDigit_1 : List UInt8 := [51, 16, 57, 163, 0, 7, 4, 167, 0, 4, 3, 172]
abbrev dktX4_isDigit_1 : List UInt8 := dkwX4_isDigit_1 ++ []
def dkwX4_isDigit_0 : List UInt8 := [27, 42, 180, 0, 86, 162, 0, 29, 42, 180, 0, 7, 27, 51, 16, 48, 161, 0, 18, 42, 180, 0, 7, 27]
abbrev dktX4_isDigit_0 : List UInt8 := dkwX4_isDigit_0 ++ dktX4_isDigit_1
theorem dksX4_isDigit_0 : cX4_isDigit.data.toList.drop 0 = dktX4_isDigit_0 := by decide +kernel
theorem dksX4_isDigit_1 : cX4_isDigit.data.toList.drop 24 = dktX4_isDigit_1 := dk_seg dksX4_isDigit_0 24 rfl rfl
theorem dX4_isDigit_0 : decode cX4_isDigit 0 = .ok (.iload_n 1, 1) := dk_27 (dk_at dksX4_isDigit_0 0 rfl rfl)
theorem dX4_isDigit_1 : decode cX4_isDigit 1 = .ok (.aload_n 0, 1) := dk_42 (dk_at dksX4_isDigit_0 1 rfl rfl)
theorem dX4_isDigit_2 : decode cX4_isDigit 2 = .ok (.getfield 86, 3) := dk_180 0 86 (dk_at dksX4_isDigit_0 2 rfl rfl)
theorem dX4_isDigit_5 : decode cX4_isDigit 5 = .ok (.if_icmp .ge 29, 3) := dk_162 0 29 (dk_at dksX4_isDigit_0 5 rfl rfl)
theorem dX4_isDigit_8 : decode cX4_isDigit 8 = .ok (.aload_n 0, 1) := dk_42 (dk_at dksX4_isDigit_0 8 rfl rfl)
theorem dX4_isDigit_9 : decode cX4_isDigit 9 = .ok (.getfield 7, 3) := dk_180 0 7 (dk_at dksX4_isDigit_0 9 rfl rfl)
theorem dX4_isDigit_12 : decode cX4_isDigit 12 = .ok (.iload_n 1, 1) := dk_27 (dk_at dksX4_isDigit_0 12 rfl rfl)
theorem dX4_isDigit_13 : decode cX4_isDigit 13 = .ok (.baload, 1) := dk_51 (dk_at dksX4_isDigit_0 13 rfl rfl)
theorem dX4_isDigit_14 : decode cX4_isDigit 14 = .ok (.bipush 48, 2) := dk_16 48 (dk_at dksX4_isDigit_0 14 rfl rfl)
theorem dX4_isDigit_16 : decode cX4_isDigit 16 = .ok (.if_icmp .lt 18, 3) := dk_161 0 18 (dk_at dksX4_isDigit_0 16 rfl rfl)
theorem dX4_isDigit_19 : decode cX4_isDigit 19 = .ok (.aload_n 0, 1) := dk_42 (dk_at dksX4_isDigit_0 19 rfl rfl)
theorem dX4_isDigit_20 : decode cX4_isDigit 20 = .ok (.getfield 7, 3) := dk_180 0 7 (dk_at dksX4_isDigit_0 20 rfl rfl)
theorem dX4_isDigit_23 : decode cX4_isDigit 23 = .ok (.iload_n 1, 1) := dk_27 (dk_at dksX4_isDigit_0 23 rfl rfl)
theorem dX4_isDigit_24 : decode cX4_isDigit 24 = .ok (.baload, 1) := dk_51 (dk_at dksX4_isDigit_1 0 rfl rfl)
theorem dX4_isDigit_25 : decode cX4_isDigit 25 = .ok (.bipush 57, 2) := dk_16 57 (dk_at dksX4_isDigit_1 1 rfl rfl)
theorem dX4_isDigit_27 : decode cX4_isDigit 27 = .ok (.if_icmp .gt 7, 3) := dk_163 0 7 (dk_at dksX4_isDigit_1 3 rfl rfl)
theorem dX4_isDigit_30 : decode cX4_isDigit 30 = .ok (.iconst 1, 1) := dk_4 (dk_at dksX4_isDigit_1 6 rfl rfl)
theorem dX4_isDigit_31 : decode cX4_isDigit 31 = .ok (.goto 4, 3) := dk_167 0 4 (dk_at dksX4_isDigit_1 7 rfl rfl)
theorem dX4_isDigit_34 : decode cX4_isDigit 34 = .ok (.iconst 0, 1) := dk_3 (dk_at dksX4_isDigit_1 10 rfl rfl)
theorem dX4_isDigit_35 : decode cX4_isDigit 35 = .ok (.ireturn, 1) := dk_172 (dk_at dksX4_isDigit_1 11 rfl rfl)
abbrev cX4_in : ByteArray := prog_19_method_2_code
def yX4_in : MethodName := ⟨RX4, "in", "(JJJ)Z"⟩
def dkwX4_in_0 : List UInt8 := [30, 32, 148, 155, 0, 14, 30, 22, 4, 148, 157, 0, 7, 4, 167, 0, 4, 3, 172]
abbrev dktX4_in_0 : List UInt8 := dkwX4_in_0 ++ []
theorem dksX4_in_0 : cX4_in.data.toList.drop 0 = dktX4_in_0 := by decide +kernel
theorem dX4_in_0 : decode cX4_in 0 = .ok (.lload_n 0, 1) := dk_30 (dk_at dksX4_in_0 0 rfl rfl)
theorem dX4_in_1 : decode cX4_in 1 = .ok (.lload_n 2, 1) := dk_32 (dk_at dksX4_in_0 1 rfl rfl)
theorem dX4_in_2 : decode cX4_in 2 = .ok (.lcmp, 1) := dk_148 (dk_at dksX4_in_0 2 rfl rfl)
theorem dX4_in_3 : decode cX4_in 3 = .ok (.ifCond .lt 14, 3) := dk_155 0 14 (dk_at dksX4_in_0 3 rfl rfl)
theorem dX4_in_6 : decode cX4_in 6 = .ok (.lload_n 0, 1) := dk_30 (dk_at dksX4_in_0 6 rfl rfl)
theorem dX4_in_7 : decode cX4_in 7 = .ok (.lload 4, 2) := dk_22 4 (dk_at dksX4_in_0 7 rfl rfl)
theorem dX4_in_9 : decode cX4_in 9 = .ok (.lcmp, 1) := dk_148 (dk_at dksX4_in_0 9 rfl rfl)
theorem dX4_in_10 : decode cX4_in 10 = .ok (.ifCond .gt 7, 3) := dk_157 0 7 (dk_at dksX4_in_0 10 rfl rfl)
theorem dX4_in_13 : decode cX4_in 13 = .ok (.iconst 1, 1) := dk_4 (dk_at dksX4_in_0 13 rfl rfl)
theorem dX4_in_14 : decode cX4_in 14 = .ok (.goto 4, 3) := dk_167 0 4 (dk_at dksX4_in_0 14 rfl rfl)
theorem dX4_in_17 : decode cX4_in 17 = .ok (.iconst 0, 1) := dk_3 (dk_at dksX4_in_0 17 rfl rfl)
theorem dX4_in_18 : decode cX4_in 18 = .ok (.ireturn, 1) := dk_172 (dk_at dksX4_in_0 18 rfl rfl)
abbrev cX4_isStepHere : ByteArray := prog_19_method_34_code
def yX4_isStepHere : MethodName := ⟨RX4, "isStepHere", "(I)Z"⟩
def dkwX4_isStepHere_2 : List UInt8 := [5, 92, 46, 4, 96, 79, 4, 172]
abbrev dktX4_isStepHere_2 : List UInt8 := dkwX4_isStepHere_2 ++ []
def dkwX4_isStepHere_1 : List UInt8 := [16, 46, 42, 180, 0, 26, 5, 46, 96, 3, 16, 99, 182, 0, 224, 154, 0, 5, 3, 172, 42, 180, 0, 26]
abbrev dktX4_isStepHere_1 : List UInt8 := dkwX4_isStepHere_1 ++ dktX4_isStepHere_2
def dkwX4_isStepHere_0 : List UInt8 := [42, 180, 0, 26, 5, 46, 16, 8, 160, 0, 10, 42, 7, 27, 182, 0, 117, 172, 42, 182, 0, 111, 42]
abbrev dktX4_isStepHere_0 : List UInt8 := dkwX4_isStepHere_0 ++ dktX4_isStepHere_1
theorem dksX4_isStepHere_0 : cX4_isStepHere.data.toList.drop 0 = dktX4_isStepHere_0 := by decide +kernel
theorem dksX4_isStepHere_1 : cX4_isStepHere.data.toList.drop 23 = dktX4_isStepHere_1 := dk_seg dksX4_isStepHere_0 23 rfl rfl
theorem dksX4_isStepHere_2 : cX4_isStepHere.data.toList.drop 47 = dktX4_isStepHere_2 := dk_seg dksX4_isStepHere_1 24 rfl rfl
theorem dX4_isStepHere_0 : decode cX4_isStepHere 0 = .ok (.aload_n 0, 1) := dk_42 (dk_at dksX4_isStepHere_0 0 rfl rfl)
theorem dX4_isStepHere_1 : decode cX4_isStepHere 1 = .ok (.getfield 26, 3) := dk_180 0 26 (dk_at dksX4_isStepHere_0 1 rfl rfl)
theorem dX4_isStepHere_4 : decode cX4_isStepHere 4 = .ok (.iconst 2, 1) := dk_5 (dk_at dksX4_isStepHere_0 4 rfl rfl)
theorem dX4_isStepHere_5 : decode cX4_isStepHere 5 = .ok (.iaload, 1) := dk_46 (dk_at dksX4_isStepHere_0 5 rfl rfl)
theorem dX4_isStepHere_6 : decode cX4_isStepHere 6 = .ok (.bipush 8, 2) := dk_16 8 (dk_at dksX4_isStepHere_0 6 rfl rfl)
theorem dX4_isStepHere_8 : decode cX4_isStepHere 8 = .ok (.if_icmp .ne 10, 3) := dk_160 0 10 (dk_at dksX4_isStepHere_0 8 rfl rfl)
theorem dX4_isStepHere_11 : decode cX4_isStepHere 11 = .ok (.aload_n 0, 1) := dk_42 (dk_at dksX4_isStepHere_0 11 rfl rfl)
theorem dX4_isStepHere_12 : decode cX4_isStepHere 12 = .ok (.iconst 4, 1) := dk_7 (dk_at dksX4_isStepHere_0 12 rfl rfl)
theorem dX4_isStepHere_13 : decode cX4_isStepHere 13 = .ok (.iload_n 1, 1) := dk_27 (dk_at dksX4_isStepHere_0 13 rfl rfl)
theorem dX4_isStepHere_14 : decode cX4_isStepHere 14 = .ok (.invokevirtual 117, 3) := dk_182 0 117 (dk_at dksX4_isStepHere_0 14 rfl rfl)
theorem dX4_isStepHere_17 : decode cX4_isStepHere 17 = .ok (.ireturn, 1) := dk_172 (dk_at dksX4_isStepHere_0 17 rfl rfl)
theorem dX4_isStepHere_18 : decode cX4_isStepHere 18 = .ok (.aload_n 0, 1) := dk_42 (dk_at dksX4_isStepHere_0 18 rfl rfl)
theorem dX4_isStepHere_19 : decode cX4_isStepHere 19 = .ok (.invokevirtual 111, 3) := dk_182 0 111 (dk_at dksX4_isStepHere_0 19 rfl rfl)
theorem dX4_isStepHere_22 : decode cX4_isStepHere 22 = .ok (.aload_n 0, 1) := dk_42 (dk_at dksX4_isStepHere_0 22 rfl rfl)
theorem dX4_isStepHere_23 : decode cX4_isStepHere 23 = .ok (.bipush 46, 2) := dk_16 46 (dk_at dksX4_isStepHere_1 0 rfl rfl)
theorem dX4_isStepHere_25 : decode cX4_isStepHere 25 = .ok (.aload_n 0, 1) := dk_42 (dk_at dksX4_isStepHere_1 2 rfl rfl)
theorem dX4_isStepHere_26 : decode cX4_isStepHere 26 = .ok (.getfield 26, 3) := dk_180 0 26 (dk_at dksX4_isStepHere_1 3 rfl rfl)
theorem dX4_isStepHere_29 : decode cX4_isStepHere 29 = .ok (.iconst 2, 1) := dk_5 (dk_at dksX4_isStepHere_1 6 rfl rfl)
theorem dX4_isStepHere_30 : decode cX4_isStepHere 30 = .ok (.iaload, 1) := dk_46 (dk_at dksX4_isStepHere_1 7 rfl rfl)
theorem dX4_isStepHere_31 : decode cX4_isStepHere 31 = .ok (.iadd, 1) := dk_96 (dk_at dksX4_isStepHere_1 8 rfl rfl)
theorem dX4_isStepHere_32 : decode cX4_isStepHere 32 = .ok (.iconst 0, 1) := dk_3 (dk_at dksX4_isStepHere_1 9 rfl rfl)
theorem dX4_isStepHere_33 : decode cX4_isStepHere 33 = .ok (.bipush 99, 2) := dk_16 99 (dk_at dksX4_isStepHere_1 10 rfl rfl)
theorem dX4_isStepHere_35 : decode cX4_isStepHere 35 = .ok (.invokevirtual 224, 3) := dk_182 0 224 (dk_at dksX4_isStepHere_1 12 rfl rfl)
theorem dX4_isStepHere_38 : decode cX4_isStepHere 38 = .ok (.ifCond .ne 5, 3) := dk_154 0 5 (dk_at dksX4_isStepHere_1 15 rfl rfl)
theorem dX4_isStepHere_41 : decode cX4_isStepHere 41 = .ok (.iconst 0, 1) := dk_3 (dk_at dksX4_isStepHere_1 18 rfl rfl)
theorem dX4_isStepHere_42 : decode cX4_isStepHere 42 = .ok (.ireturn, 1) := dk_172 (dk_at dksX4_isStepHere_1 19 rfl rfl)
theorem dX4_isStepHere_43 : decode cX4_isStepHere 43 = .ok (.aload_n 0, 1) := dk_42 (dk_at dksX4_isStepHere_1 20 rfl rfl)
theorem dX4_isStepHere_44 : decode cX4_isStepHere 44 = .ok (.getfield 26, 3) := dk_180 0 26 (dk_at dksX4_isStepHere_1 21 rfl rfl)
theorem dX4_isStepHere_47 : decode cX4_isStepHere 47 = .ok (.iconst 2, 1) := dk_5 (dk_at dksX4_isStepHere_2 0 rfl rfl)
theorem dX4_isStepHere_48 : decode cX4_isStepHere 48 = .ok (.dup2, 1) := dk_92 (dk_at dksX4_isStepHere_2 1 rfl rfl)
theorem dX4_isStepHere_49 : decode cX4_isStepHere 49 = .ok (.iaload, 1) := dk_46 (dk_at dksX4_isStepHere_2 2 rfl rfl)
theorem dX4_isStepHere_50 : decode cX4_isStepHere 50 = .ok (.iconst 1, 1) := dk_4 (dk_at dksX4_isStepHere_2 3 rfl rfl)
theorem dX4_isStepHere_51 : decode cX4_isStepHere 51 = .ok (.iadd, 1) := dk_96 (dk_at dksX4_isStepHere_2 4 rfl rfl)
theorem dX4_isStepHere_52 : decode cX4_isStepHere 52 = .ok (.iastore, 1) := dk_79 (dk_at dksX4_isStepHere_2 5 rfl rfl)
theorem dX4_isStepHere_53 : decode cX4_isStepHere 53 = .ok (.iconst 1, 1) := dk_4 (dk_at dksX4_isStepHere_2 6 rfl rfl)
theorem dX4_isStepHere_54 : decode cX4_isStepHere 54 = .ok (.ireturn, 1) := dk_172 (dk_at dksX4_isStepHere_2 7 rfl rfl)
abbrev cX4_isHouseHere : ByteArray := prog_19_method_35_code
def yX4_isHouseHere : MethodName := ⟨RX4, "isHouseHere", "(I)Z"⟩
def dkwX4_isHouseHere_3 : List UInt8 := [46, 4, 96, 79, 4, 172]
abbrev dktX4_isHouseHere_3 : List UInt8 := dkwX4_isHouseHere_3 ++ []
def dkwX4_isHouseHere_2 : List UInt8 := [153, 0, 16, 42, 28, 4, 96, 4, 16, 99, 182, 0, 224, 154, 0, 5, 3, 172, 42, 180, 0, 26, 6, 92]
abbrev dktX4_isHouseHere_2 : List UInt8 := dkwX4_isHouseHere_2 ++ dktX4_isHouseHere_3
def dkwX4_isHouseHere_1 : List UInt8 := [42, 180, 0, 26, 6, 46, 104, 96, 61, 42, 28, 3, 42, 180, 0, 26, 5, 46, 4, 100, 182, 0, 224]
abbrev dktX4_isHouseHere_1 : List UInt8 := dkwX4_isHouseHere_1 ++ dktX4_isHouseHere_2
def dkwX4_isHouseHere_0 : List UInt8 := [42, 180, 0, 26, 6, 46, 7, 160, 0, 10, 42, 7, 27, 182, 0, 117, 172, 42, 182, 0, 111, 16, 38, 5]
abbrev dktX4_isHouseHere_0 : List UInt8 := dkwX4_isHouseHere_0 ++ dktX4_isHouseHere_1
theorem dksX4_isHouseHere_0 : cX4_isHouseHere.data.toList.drop 0 = dktX4_isHouseHere_0 := by decide +kernel
theorem dksX4_isHouseHere_1 : cX4_isHouseHere.data.toList.drop 24 = dktX4_isHouseHere_1 := dk_seg dksX4_isHouseHere_0 24 rfl rfl
theorem dksX4_isHouseHere_2 : cX4_isHouseHere.data.toList.drop 47 = dktX4_isHouseHere_2 := dk_seg dksX4_isHouseHere_1 23 rfl rfl
theorem dksX4_isHouseHere_3 : cX4_isHouseHere.data.toList.drop 71 = dktX4_isHouseHere_3 := dk_seg dksX4_isHouseHere_2 24 rfl rfl
theorem dX4_isHouseHere_0 : decode cX4_isHouseHere 0 = .ok (.aload_n 0, 1) := dk_42 (dk_at dksX4_isHouseHere_0 0 rfl rfl)
theorem dX4_isHouseHere_1 : decode cX4_isHouseHere 1 = .ok (.getfield 26, 3) := dk_180 0 26 (dk_at dksX4_isHouseHere_0 1 rfl rfl)
theorem dX4_isHouseHere_4 : decode cX4_isHouseHere 4 = .ok (.iconst 3, 1) := dk_6 (dk_at dksX4_isHouseHere_0 4 rfl rfl)
theorem dX4_isHouseHere_5 : decode cX4_isHouseHere 5 = .ok (.iaload, 1) := dk_46 (dk_at dksX4_isHouseHere_0 5 rfl rfl)
theorem dX4_isHouseHere_6 : decode cX4_isHouseHere 6 = .ok (.iconst 4, 1) := dk_7 (dk_at dksX4_isHouseHere_0 6 rfl rfl)
theorem dX4_isHouseHere_7 : decode cX4_isHouseHere 7 = .ok (.if_icmp .ne 10, 3) := dk_160 0 10 (dk_at dksX4_isHouseHere_0 7 rfl rfl)
theorem dX4_isHouseHere_10 : decode cX4_isHouseHere 10 = .ok (.aload_n 0, 1) := dk_42 (dk_at dksX4_isHouseHere_0 10 rfl rfl)
theorem dX4_isHouseHere_11 : decode cX4_isHouseHere 11 = .ok (.iconst 4, 1) := dk_7 (dk_at dksX4_isHouseHere_0 11 rfl rfl)
theorem dX4_isHouseHere_12 : decode cX4_isHouseHere 12 = .ok (.iload_n 1, 1) := dk_27 (dk_at dksX4_isHouseHere_0 12 rfl rfl)
theorem dX4_isHouseHere_13 : decode cX4_isHouseHere 13 = .ok (.invokevirtual 117, 3) := dk_182 0 117 (dk_at dksX4_isHouseHere_0 13 rfl rfl)
theorem dX4_isHouseHere_16 : decode cX4_isHouseHere 16 = .ok (.ireturn, 1) := dk_172 (dk_at dksX4_isHouseHere_0 16 rfl rfl)
theorem dX4_isHouseHere_17 : decode cX4_isHouseHere 17 = .ok (.aload_n 0, 1) := dk_42 (dk_at dksX4_isHouseHere_0 17 rfl rfl)
theorem dX4_isHouseHere_18 : decode cX4_isHouseHere 18 = .ok (.invokevirtual 111, 3) := dk_182 0 111 (dk_at dksX4_isHouseHere_0 18 rfl rfl)
theorem dX4_isHouseHere_21 : decode cX4_isHouseHere 21 = .ok (.bipush 38, 2) := dk_16 38 (dk_at dksX4_isHouseHere_0 21 rfl rfl)
theorem dX4_isHouseHere_23 : decode cX4_isHouseHere 23 = .ok (.iconst 2, 1) := dk_5 (dk_at dksX4_isHouseHere_0 23 rfl rfl)
theorem dX4_isHouseHere_24 : decode cX4_isHouseHere 24 = .ok (.aload_n 0, 1) := dk_42 (dk_at dksX4_isHouseHere_1 0 rfl rfl)
theorem dX4_isHouseHere_25 : decode cX4_isHouseHere 25 = .ok (.getfield 26, 3) := dk_180 0 26 (dk_at dksX4_isHouseHere_1 1 rfl rfl)
theorem dX4_isHouseHere_28 : decode cX4_isHouseHere 28 = .ok (.iconst 3, 1) := dk_6 (dk_at dksX4_isHouseHere_1 4 rfl rfl)
theorem dX4_isHouseHere_29 : decode cX4_isHouseHere 29 = .ok (.iaload, 1) := dk_46 (dk_at dksX4_isHouseHere_1 5 rfl rfl)
theorem dX4_isHouseHere_30 : decode cX4_isHouseHere 30 = .ok (.imul, 1) := dk_104 (dk_at dksX4_isHouseHere_1 6 rfl rfl)
theorem dX4_isHouseHere_31 : decode cX4_isHouseHere 31 = .ok (.iadd, 1) := dk_96 (dk_at dksX4_isHouseHere_1 7 rfl rfl)
theorem dX4_isHouseHere_32 : decode cX4_isHouseHere 32 = .ok (.istore_n 2, 1) := dk_61 (dk_at dksX4_isHouseHere_1 8 rfl rfl)
theorem dX4_isHouseHere_33 : decode cX4_isHouseHere 33 = .ok (.aload_n 0, 1) := dk_42 (dk_at dksX4_isHouseHere_1 9 rfl rfl)
theorem dX4_isHouseHere_34 : decode cX4_isHouseHere 34 = .ok (.iload_n 2, 1) := dk_28 (dk_at dksX4_isHouseHere_1 10 rfl rfl)
theorem dX4_isHouseHere_35 : decode cX4_isHouseHere 35 = .ok (.iconst 0, 1) := dk_3 (dk_at dksX4_isHouseHere_1 11 rfl rfl)
theorem dX4_isHouseHere_36 : decode cX4_isHouseHere 36 = .ok (.aload_n 0, 1) := dk_42 (dk_at dksX4_isHouseHere_1 12 rfl rfl)
theorem dX4_isHouseHere_37 : decode cX4_isHouseHere 37 = .ok (.getfield 26, 3) := dk_180 0 26 (dk_at dksX4_isHouseHere_1 13 rfl rfl)
theorem dX4_isHouseHere_40 : decode cX4_isHouseHere 40 = .ok (.iconst 2, 1) := dk_5 (dk_at dksX4_isHouseHere_1 16 rfl rfl)
theorem dX4_isHouseHere_41 : decode cX4_isHouseHere 41 = .ok (.iaload, 1) := dk_46 (dk_at dksX4_isHouseHere_1 17 rfl rfl)
theorem dX4_isHouseHere_42 : decode cX4_isHouseHere 42 = .ok (.iconst 1, 1) := dk_4 (dk_at dksX4_isHouseHere_1 18 rfl rfl)
theorem dX4_isHouseHere_43 : decode cX4_isHouseHere 43 = .ok (.isub, 1) := dk_100 (dk_at dksX4_isHouseHere_1 19 rfl rfl)
theorem dX4_isHouseHere_44 : decode cX4_isHouseHere 44 = .ok (.invokevirtual 224, 3) := dk_182 0 224 (dk_at dksX4_isHouseHere_1 20 rfl rfl)
theorem dX4_isHouseHere_47 : decode cX4_isHouseHere 47 = .ok (.ifCond .eq 16, 3) := dk_153 0 16 (dk_at dksX4_isHouseHere_2 0 rfl rfl)
theorem dX4_isHouseHere_50 : decode cX4_isHouseHere 50 = .ok (.aload_n 0, 1) := dk_42 (dk_at dksX4_isHouseHere_2 3 rfl rfl)
theorem dX4_isHouseHere_51 : decode cX4_isHouseHere 51 = .ok (.iload_n 2, 1) := dk_28 (dk_at dksX4_isHouseHere_2 4 rfl rfl)
theorem dX4_isHouseHere_52 : decode cX4_isHouseHere 52 = .ok (.iconst 1, 1) := dk_4 (dk_at dksX4_isHouseHere_2 5 rfl rfl)
theorem dX4_isHouseHere_53 : decode cX4_isHouseHere 53 = .ok (.iadd, 1) := dk_96 (dk_at dksX4_isHouseHere_2 6 rfl rfl)
theorem dX4_isHouseHere_54 : decode cX4_isHouseHere 54 = .ok (.iconst 1, 1) := dk_4 (dk_at dksX4_isHouseHere_2 7 rfl rfl)
theorem dX4_isHouseHere_55 : decode cX4_isHouseHere 55 = .ok (.bipush 99, 2) := dk_16 99 (dk_at dksX4_isHouseHere_2 8 rfl rfl)
theorem dX4_isHouseHere_57 : decode cX4_isHouseHere 57 = .ok (.invokevirtual 224, 3) := dk_182 0 224 (dk_at dksX4_isHouseHere_2 10 rfl rfl)
theorem dX4_isHouseHere_60 : decode cX4_isHouseHere 60 = .ok (.ifCond .ne 5, 3) := dk_154 0 5 (dk_at dksX4_isHouseHere_2 13 rfl rfl)
theorem dX4_isHouseHere_63 : decode cX4_isHouseHere 63 = .ok (.iconst 0, 1) := dk_3 (dk_at dksX4_isHouseHere_2 16 rfl rfl)
theorem dX4_isHouseHere_64 : decode cX4_isHouseHere 64 = .ok (.ireturn, 1) := dk_172 (dk_at dksX4_isHouseHere_2 17 rfl rfl)
theorem dX4_isHouseHere_65 : decode cX4_isHouseHere 65 = .ok (.aload_n 0, 1) := dk_42 (dk_at dksX4_isHouseHere_2 18 rfl rfl)
theorem dX4_isHouseHere_66 : decode cX4_isHouseHere 66 = .ok (.getfield 26, 3) := dk_180 0 26 (dk_at dksX4_isHouseHere_2 19 rfl rfl)
theorem dX4_isHouseHere_69 : decode cX4_isHouseHere 69 = .ok (.iconst 3, 1) := dk_6 (dk_at dksX4_isHouseHere_2 22 rfl rfl)
theorem dX4_isHouseHere_70 : decode cX4_isHouseHere 70 = .ok (.dup2, 1) := dk_92 (dk_at dksX4_isHouseHere_2 23 rfl rfl)
theorem dX4_isHouseHere_71 : decode cX4_isHouseHere 71 = .ok (.iaload, 1) := dk_46 (dk_at dksX4_isHouseHere_3 0 rfl rfl)
theorem dX4_isHouseHere_72 : decode cX4_isHouseHere 72 = .ok (.iconst 1, 1) := dk_4 (dk_at dksX4_isHouseHere_3 1 rfl rfl)
theorem dX4_isHouseHere_73 : decode cX4_isHouseHere 73 = .ok (.iadd, 1) := dk_96 (dk_at dksX4_isHouseHere_3 2 rfl rfl)
theorem dX4_isHouseHere_74 : decode cX4_isHouseHere 74 = .ok (.iastore, 1) := dk_79 (dk_at dksX4_isHouseHere_3 3 rfl rfl)
theorem dX4_isHouseHere_75 : decode cX4_isHouseHere 75 = .ok (.iconst 1, 1) := dk_4 (dk_at dksX4_isHouseHere_3 4 rfl rfl)
theorem dX4_isHouseHere_76 : decode cX4_isHouseHere 76 = .ok (.ireturn, 1) := dk_172 (dk_at dksX4_isHouseHere_3 5 rfl rfl)
abbrev cX4_isPathHere : ByteArray := prog_19_method_37_code
def yX4_isPathHere : MethodName := ⟨RX4, "isPathHere", "()Z"⟩
def dkwX4_isPathHere_2 : List UInt8 := [120, 128, 79, 4, 172]
abbrev dktX4_isPathHere_2 : List UInt8 := dkwX4_isPathHere_2 ++ []
def dkwX4_isPathHere_1 : List UInt8 := [180, 0, 231, 120, 128, 79, 42, 180, 0, 26, 16, 30, 42, 180, 0, 231, 96, 92, 46, 4, 42, 180, 0, 228]
abbrev dktX4_isPathHere_1 : List UInt8 := dkwX4_isPathHere_1 ++ dktX4_isPathHere_2
def dkwX4_isPathHere_0 : List UInt8 := [42, 182, 0, 234, 154, 0, 5, 3, 172, 42, 180, 0, 26, 16, 30, 42, 180, 0, 228, 96, 92, 46, 4, 42]
abbrev dktX4_isPathHere_0 : List UInt8 := dkwX4_isPathHere_0 ++ dktX4_isPathHere_1
theorem dksX4_isPathHere_0 : cX4_isPathHere.data.toList.drop 0 = dktX4_isPathHere_0 := by decide +kernel
theorem dksX4_isPathHere_1 : cX4_isPathHere.data.toList.drop 24 = dktX4_isPathHere_1 := dk_seg dksX4_isPathHere_0 24 rfl rfl
theorem dksX4_isPathHere_2 : cX4_isPathHere.data.toList.drop 48 = dktX4_isPathHere_2 := dk_seg dksX4_isPathHere_1 24 rfl rfl
theorem dX4_isPathHere_0 : decode cX4_isPathHere 0 = .ok (.aload_n 0, 1) := dk_42 (dk_at dksX4_isPathHere_0 0 rfl rfl)
theorem dX4_isPathHere_1 : decode cX4_isPathHere 1 = .ok (.invokevirtual 234, 3) := dk_182 0 234 (dk_at dksX4_isPathHere_0 1 rfl rfl)
theorem dX4_isPathHere_4 : decode cX4_isPathHere 4 = .ok (.ifCond .ne 5, 3) := dk_154 0 5 (dk_at dksX4_isPathHere_0 4 rfl rfl)
theorem dX4_isPathHere_7 : decode cX4_isPathHere 7 = .ok (.iconst 0, 1) := dk_3 (dk_at dksX4_isPathHere_0 7 rfl rfl)
theorem dX4_isPathHere_8 : decode cX4_isPathHere 8 = .ok (.ireturn, 1) := dk_172 (dk_at dksX4_isPathHere_0 8 rfl rfl)
theorem dX4_isPathHere_9 : decode cX4_isPathHere 9 = .ok (.aload_n 0, 1) := dk_42 (dk_at dksX4_isPathHere_0 9 rfl rfl)
theorem dX4_isPathHere_10 : decode cX4_isPathHere 10 = .ok (.getfield 26, 3) := dk_180 0 26 (dk_at dksX4_isPathHere_0 10 rfl rfl)
theorem dX4_isPathHere_13 : decode cX4_isPathHere 13 = .ok (.bipush 30, 2) := dk_16 30 (dk_at dksX4_isPathHere_0 13 rfl rfl)
theorem dX4_isPathHere_15 : decode cX4_isPathHere 15 = .ok (.aload_n 0, 1) := dk_42 (dk_at dksX4_isPathHere_0 15 rfl rfl)
theorem dX4_isPathHere_16 : decode cX4_isPathHere 16 = .ok (.getfield 228, 3) := dk_180 0 228 (dk_at dksX4_isPathHere_0 16 rfl rfl)
theorem dX4_isPathHere_19 : decode cX4_isPathHere 19 = .ok (.iadd, 1) := dk_96 (dk_at dksX4_isPathHere_0 19 rfl rfl)
theorem dX4_isPathHere_20 : decode cX4_isPathHere 20 = .ok (.dup2, 1) := dk_92 (dk_at dksX4_isPathHere_0 20 rfl rfl)
theorem dX4_isPathHere_21 : decode cX4_isPathHere 21 = .ok (.iaload, 1) := dk_46 (dk_at dksX4_isPathHere_0 21 rfl rfl)
theorem dX4_isPathHere_22 : decode cX4_isPathHere 22 = .ok (.iconst 1, 1) := dk_4 (dk_at dksX4_isPathHere_0 22 rfl rfl)
theorem dX4_isPathHere_23 : decode cX4_isPathHere 23 = .ok (.aload_n 0, 1) := dk_42 (dk_at dksX4_isPathHere_0 23 rfl rfl)
theorem dX4_isPathHere_24 : decode cX4_isPathHere 24 = .ok (.getfield 231, 3) := dk_180 0 231 (dk_at dksX4_isPathHere_1 0 rfl rfl)
theorem dX4_isPathHere_27 : decode cX4_isPathHere 27 = .ok (.ishl, 1) := dk_120 (dk_at dksX4_isPathHere_1 3 rfl rfl)
theorem dX4_isPathHere_28 : decode cX4_isPathHere 28 = .ok (.ior, 1) := dk_128 (dk_at dksX4_isPathHere_1 4 rfl rfl)
theorem dX4_isPathHere_29 : decode cX4_isPathHere 29 = .ok (.iastore, 1) := dk_79 (dk_at dksX4_isPathHere_1 5 rfl rfl)
theorem dX4_isPathHere_30 : decode cX4_isPathHere 30 = .ok (.aload_n 0, 1) := dk_42 (dk_at dksX4_isPathHere_1 6 rfl rfl)
theorem dX4_isPathHere_31 : decode cX4_isPathHere 31 = .ok (.getfield 26, 3) := dk_180 0 26 (dk_at dksX4_isPathHere_1 7 rfl rfl)
theorem dX4_isPathHere_34 : decode cX4_isPathHere 34 = .ok (.bipush 30, 2) := dk_16 30 (dk_at dksX4_isPathHere_1 10 rfl rfl)
theorem dX4_isPathHere_36 : decode cX4_isPathHere 36 = .ok (.aload_n 0, 1) := dk_42 (dk_at dksX4_isPathHere_1 12 rfl rfl)
theorem dX4_isPathHere_37 : decode cX4_isPathHere 37 = .ok (.getfield 231, 3) := dk_180 0 231 (dk_at dksX4_isPathHere_1 13 rfl rfl)
theorem dX4_isPathHere_40 : decode cX4_isPathHere 40 = .ok (.iadd, 1) := dk_96 (dk_at dksX4_isPathHere_1 16 rfl rfl)
theorem dX4_isPathHere_41 : decode cX4_isPathHere 41 = .ok (.dup2, 1) := dk_92 (dk_at dksX4_isPathHere_1 17 rfl rfl)
theorem dX4_isPathHere_42 : decode cX4_isPathHere 42 = .ok (.iaload, 1) := dk_46 (dk_at dksX4_isPathHere_1 18 rfl rfl)
theorem dX4_isPathHere_43 : decode cX4_isPathHere 43 = .ok (.iconst 1, 1) := dk_4 (dk_at dksX4_isPathHere_1 19 rfl rfl)
theorem dX4_isPathHere_44 : decode cX4_isPathHere 44 = .ok (.aload_n 0, 1) := dk_42 (dk_at dksX4_isPathHere_1 20 rfl rfl)
theorem dX4_isPathHere_45 : decode cX4_isPathHere 45 = .ok (.getfield 228, 3) := dk_180 0 228 (dk_at dksX4_isPathHere_1 21 rfl rfl)
theorem dX4_isPathHere_48 : decode cX4_isPathHere 48 = .ok (.ishl, 1) := dk_120 (dk_at dksX4_isPathHere_2 0 rfl rfl)
theorem dX4_isPathHere_49 : decode cX4_isPathHere 49 = .ok (.ior, 1) := dk_128 (dk_at dksX4_isPathHere_2 1 rfl rfl)
theorem dX4_isPathHere_50 : decode cX4_isPathHere 50 = .ok (.iastore, 1) := dk_79 (dk_at dksX4_isPathHere_2 2 rfl rfl)
theorem dX4_isPathHere_51 : decode cX4_isPathHere 51 = .ok (.iconst 1, 1) := dk_4 (dk_at dksX4_isPathHere_2 3 rfl rfl)
theorem dX4_isPathHere_52 : decode cX4_isPathHere 52 = .ok (.ireturn, 1) := dk_172 (dk_at dksX4_isPathHere_2 4 rfl rfl)
abbrev cX4_areStepsHere : ByteArray := prog_19_method_36_code
def yX4_areStepsHere : MethodName := ⟨RX4, "areStepsHere", "()Z"⟩
def dkwX4_areStepsHere_3 : List UInt8 := [180, 0, 231, 160, 0, 12, 42, 4, 27, 182, 0, 117, 153, 0, 7, 4, 167, 0, 4, 3, 172]
abbrev dktX4_areStepsHere_3 : List UInt8 := dkwX4_areStepsHere_3 ++ []
def dkwX4_areStepsHere_2 : List UInt8 := [4, 100, 182, 0, 173, 154, 0, 5, 3, 172, 42, 42, 180, 0, 121, 181, 0, 231, 42, 180, 0, 228, 42]
abbrev dktX4_areStepsHere_2 : List UInt8 := dkwX4_areStepsHere_2 ++ dktX4_areStepsHere_3
def dkwX4_areStepsHere_1 : List UInt8 := [180, 0, 121, 181, 0, 228, 42, 182, 0, 99, 87, 42, 180, 0, 96, 60, 42, 3, 42, 180, 0, 26, 5, 46]
abbrev dktX4_areStepsHere_1 : List UInt8 := dkwX4_areStepsHere_1 ++ dktX4_areStepsHere_2
def dkwX4_areStepsHere_0 : List UInt8 := [42, 182, 0, 111, 42, 3, 42, 180, 0, 26, 5, 46, 4, 100, 182, 0, 173, 154, 0, 5, 3, 172, 42, 42]
abbrev dktX4_areStepsHere_0 : List UInt8 := dkwX4_areStepsHere_0 ++ dktX4_areStepsHere_1
theorem dksX4_areStepsHere_0 : cX4_areStepsHere.data.toList.drop 0 = dktX4_areStepsHere_0 := by decide +kernel
theorem dksX4_areStepsHere_1 : cX4_areStepsHere.data.toList.drop 24 = dktX4_areStepsHere_1 := dk_seg dksX4_areStepsHere_0 24 rfl rfl
theorem dksX4_areStepsHere_2 : cX4_areStepsHere.data.toList.drop 48 = dktX4_areStepsHere_2 := dk_seg dksX4_areStepsHere_1 24 rfl rfl
theorem dksX4_areStepsHere_3 : cX4_areStepsHere.data.toList.drop 71 = dktX4_areStepsHere_3 := dk_seg dksX4_areStepsHere_2 23 rfl rfl
theorem dX4_areStepsHere_0 : decode cX4_areStepsHere 0 = .ok (.aload_n 0, 1) := dk_42 (dk_at dksX4_areStepsHere_0 0 rfl rfl)
theorem dX4_areStepsHere_1 : decode cX4_areStepsHere 1 = .ok (.invokevirtual 111, 3) := dk_182 0 111 (dk_at dksX4_areStepsHere_0 1 rfl rfl)
theorem dX4_areStepsHere_4 : decode cX4_areStepsHere 4 = .ok (.aload_n 0, 1) := dk_42 (dk_at dksX4_areStepsHere_0 4 rfl rfl)
theorem dX4_areStepsHere_5 : decode cX4_areStepsHere 5 = .ok (.iconst 0, 1) := dk_3 (dk_at dksX4_areStepsHere_0 5 rfl rfl)
theorem dX4_areStepsHere_6 : decode cX4_areStepsHere 6 = .ok (.aload_n 0, 1) := dk_42 (dk_at dksX4_areStepsHere_0 6 rfl rfl)
theorem dX4_areStepsHere_7 : decode cX4_areStepsHere 7 = .ok (.getfield 26, 3) := dk_180 0 26 (dk_at dksX4_areStepsHere_0 7 rfl rfl)
theorem dX4_areStepsHere_10 : decode cX4_areStepsHere 10 = .ok (.iconst 2, 1) := dk_5 (dk_at dksX4_areStepsHere_0 10 rfl rfl)
theorem dX4_areStepsHere_11 : decode cX4_areStepsHere 11 = .ok (.iaload, 1) := dk_46 (dk_at dksX4_areStepsHere_0 11 rfl rfl)
theorem dX4_areStepsHere_12 : decode cX4_areStepsHere 12 = .ok (.iconst 1, 1) := dk_4 (dk_at dksX4_areStepsHere_0 12 rfl rfl)
theorem dX4_areStepsHere_13 : decode cX4_areStepsHere 13 = .ok (.isub, 1) := dk_100 (dk_at dksX4_areStepsHere_0 13 rfl rfl)
theorem dX4_areStepsHere_14 : decode cX4_areStepsHere 14 = .ok (.invokevirtual 173, 3) := dk_182 0 173 (dk_at dksX4_areStepsHere_0 14 rfl rfl)
theorem dX4_areStepsHere_17 : decode cX4_areStepsHere 17 = .ok (.ifCond .ne 5, 3) := dk_154 0 5 (dk_at dksX4_areStepsHere_0 17 rfl rfl)
theorem dX4_areStepsHere_20 : decode cX4_areStepsHere 20 = .ok (.iconst 0, 1) := dk_3 (dk_at dksX4_areStepsHere_0 20 rfl rfl)
theorem dX4_areStepsHere_21 : decode cX4_areStepsHere 21 = .ok (.ireturn, 1) := dk_172 (dk_at dksX4_areStepsHere_0 21 rfl rfl)
theorem dX4_areStepsHere_22 : decode cX4_areStepsHere 22 = .ok (.aload_n 0, 1) := dk_42 (dk_at dksX4_areStepsHere_0 22 rfl rfl)
theorem dX4_areStepsHere_23 : decode cX4_areStepsHere 23 = .ok (.aload_n 0, 1) := dk_42 (dk_at dksX4_areStepsHere_0 23 rfl rfl)
theorem dX4_areStepsHere_24 : decode cX4_areStepsHere 24 = .ok (.getfield 121, 3) := dk_180 0 121 (dk_at dksX4_areStepsHere_1 0 rfl rfl)
theorem dX4_areStepsHere_27 : decode cX4_areStepsHere 27 = .ok (.putfield 228, 3) := dk_181 0 228 (dk_at dksX4_areStepsHere_1 3 rfl rfl)
theorem dX4_areStepsHere_30 : decode cX4_areStepsHere 30 = .ok (.aload_n 0, 1) := dk_42 (dk_at dksX4_areStepsHere_1 6 rfl rfl)
theorem dX4_areStepsHere_31 : decode cX4_areStepsHere 31 = .ok (.invokevirtual 99, 3) := dk_182 0 99 (dk_at dksX4_areStepsHere_1 7 rfl rfl)
theorem dX4_areStepsHere_34 : decode cX4_areStepsHere 34 = .ok (.pop, 1) := dk_87 (dk_at dksX4_areStepsHere_1 10 rfl rfl)
theorem dX4_areStepsHere_35 : decode cX4_areStepsHere 35 = .ok (.aload_n 0, 1) := dk_42 (dk_at dksX4_areStepsHere_1 11 rfl rfl)
theorem dX4_areStepsHere_36 : decode cX4_areStepsHere 36 = .ok (.getfield 96, 3) := dk_180 0 96 (dk_at dksX4_areStepsHere_1 12 rfl rfl)
theorem dX4_areStepsHere_39 : decode cX4_areStepsHere 39 = .ok (.istore_n 1, 1) := dk_60 (dk_at dksX4_areStepsHere_1 15 rfl rfl)
theorem dX4_areStepsHere_40 : decode cX4_areStepsHere 40 = .ok (.aload_n 0, 1) := dk_42 (dk_at dksX4_areStepsHere_1 16 rfl rfl)
theorem dX4_areStepsHere_41 : decode cX4_areStepsHere 41 = .ok (.iconst 0, 1) := dk_3 (dk_at dksX4_areStepsHere_1 17 rfl rfl)
theorem dX4_areStepsHere_42 : decode cX4_areStepsHere 42 = .ok (.aload_n 0, 1) := dk_42 (dk_at dksX4_areStepsHere_1 18 rfl rfl)
theorem dX4_areStepsHere_43 : decode cX4_areStepsHere 43 = .ok (.getfield 26, 3) := dk_180 0 26 (dk_at dksX4_areStepsHere_1 19 rfl rfl)
theorem dX4_areStepsHere_46 : decode cX4_areStepsHere 46 = .ok (.iconst 2, 1) := dk_5 (dk_at dksX4_areStepsHere_1 22 rfl rfl)
theorem dX4_areStepsHere_47 : decode cX4_areStepsHere 47 = .ok (.iaload, 1) := dk_46 (dk_at dksX4_areStepsHere_1 23 rfl rfl)
theorem dX4_areStepsHere_48 : decode cX4_areStepsHere 48 = .ok (.iconst 1, 1) := dk_4 (dk_at dksX4_areStepsHere_2 0 rfl rfl)
theorem dX4_areStepsHere_49 : decode cX4_areStepsHere 49 = .ok (.isub, 1) := dk_100 (dk_at dksX4_areStepsHere_2 1 rfl rfl)
theorem dX4_areStepsHere_50 : decode cX4_areStepsHere 50 = .ok (.invokevirtual 173, 3) := dk_182 0 173 (dk_at dksX4_areStepsHere_2 2 rfl rfl)
theorem dX4_areStepsHere_53 : decode cX4_areStepsHere 53 = .ok (.ifCond .ne 5, 3) := dk_154 0 5 (dk_at dksX4_areStepsHere_2 5 rfl rfl)
theorem dX4_areStepsHere_56 : decode cX4_areStepsHere 56 = .ok (.iconst 0, 1) := dk_3 (dk_at dksX4_areStepsHere_2 8 rfl rfl)
theorem dX4_areStepsHere_57 : decode cX4_areStepsHere 57 = .ok (.ireturn, 1) := dk_172 (dk_at dksX4_areStepsHere_2 9 rfl rfl)
theorem dX4_areStepsHere_58 : decode cX4_areStepsHere 58 = .ok (.aload_n 0, 1) := dk_42 (dk_at dksX4_areStepsHere_2 10 rfl rfl)
theorem dX4_areStepsHere_59 : decode cX4_areStepsHere 59 = .ok (.aload_n 0, 1) := dk_42 (dk_at dksX4_areStepsHere_2 11 rfl rfl)
theorem dX4_areStepsHere_60 : decode cX4_areStepsHere 60 = .ok (.getfield 121, 3) := dk_180 0 121 (dk_at dksX4_areStepsHere_2 12 rfl rfl)
theorem dX4_areStepsHere_63 : decode cX4_areStepsHere 63 = .ok (.putfield 231, 3) := dk_181 0 231 (dk_at dksX4_areStepsHere_2 15 rfl rfl)
theorem dX4_areStepsHere_66 : decode cX4_areStepsHere 66 = .ok (.aload_n 0, 1) := dk_42 (dk_at dksX4_areStepsHere_2 18 rfl rfl)
theorem dX4_areStepsHere_67 : decode cX4_areStepsHere 67 = .ok (.getfield 228, 3) := dk_180 0 228 (dk_at dksX4_areStepsHere_2 19 rfl rfl)
theorem dX4_areStepsHere_70 : decode cX4_areStepsHere 70 = .ok (.aload_n 0, 1) := dk_42 (dk_at dksX4_areStepsHere_2 22 rfl rfl)
theorem dX4_areStepsHere_71 : decode cX4_areStepsHere 71 = .ok (.getfield 231, 3) := dk_180 0 231 (dk_at dksX4_areStepsHere_3 0 rfl rfl)
theorem dX4_areStepsHere_74 : decode cX4_areStepsHere 74 = .ok (.if_icmp .ne 12, 3) := dk_160 0 12 (dk_at dksX4_areStepsHere_3 3 rfl rfl)
theorem dX4_areStepsHere_77 : decode cX4_areStepsHere 77 = .ok (.aload_n 0, 1) := dk_42 (dk_at dksX4_areStepsHere_3 6 rfl rfl)
theorem dX4_areStepsHere_78 : decode cX4_areStepsHere 78 = .ok (.iconst 1, 1) := dk_4 (dk_at dksX4_areStepsHere_3 7 rfl rfl)
theorem dX4_areStepsHere_79 : decode cX4_areStepsHere 79 = .ok (.iload_n 1, 1) := dk_27 (dk_at dksX4_areStepsHere_3 8 rfl rfl)
theorem dX4_areStepsHere_80 : decode cX4_areStepsHere 80 = .ok (.invokevirtual 117, 3) := dk_182 0 117 (dk_at dksX4_areStepsHere_3 9 rfl rfl)
theorem dX4_areStepsHere_83 : decode cX4_areStepsHere 83 = .ok (.ifCond .eq 7, 3) := dk_153 0 7 (dk_at dksX4_areStepsHere_3 12 rfl rfl)
theorem dX4_areStepsHere_86 : decode cX4_areStepsHere 86 = .ok (.iconst 1, 1) := dk_4 (dk_at dksX4_areStepsHere_3 15 rfl rfl)
theorem dX4_areStepsHere_87 : decode cX4_areStepsHere 87 = .ok (.goto 4, 3) := dk_167 0 4 (dk_at dksX4_areStepsHere_3 16 rfl rfl)
theorem dX4_areStepsHere_90 : decode cX4_areStepsHere 90 = .ok (.iconst 0, 1) := dk_3 (dk_at dksX4_areStepsHere_3 19 rfl rfl)
theorem dX4_areStepsHere_91 : decode cX4_areStepsHere 91 = .ok (.ireturn, 1) := dk_172 (dk_at dksX4_areStepsHere_3 20 rfl rfl)
abbrev cX4_isWallHere : ByteArray := prog_19_method_38_code
def yX4_isWallHere : MethodName := ⟨RX4, "isWallHere", "()Z"⟩
def dkwX4_isWallHere_1 : List UInt8 := [79, 4, 172]
abbrev dktX4_isWallHere_1 : List UInt8 := dkwX4_isWallHere_1 ++ []
def dkwX4_isWallHere_0 : List UInt8 := [42, 182, 0, 234, 154, 0, 5, 3, 172, 42, 180, 0, 26, 16, 54, 42, 180, 0, 228, 96, 42, 180, 0, 231]
abbrev dktX4_isWallHere_0 : List UInt8 := dkwX4_isWallHere_0 ++ dktX4_isWallHere_1
theorem dksX4_isWallHere_0 : cX4_isWallHere.data.toList.drop 0 = dktX4_isWallHere_0 := by decide +kernel
theorem dksX4_isWallHere_1 : cX4_isWallHere.data.toList.drop 24 = dktX4_isWallHere_1 := dk_seg dksX4_isWallHere_0 24 rfl rfl
theorem dX4_isWallHere_0 : decode cX4_isWallHere 0 = .ok (.aload_n 0, 1) := dk_42 (dk_at dksX4_isWallHere_0 0 rfl rfl)
theorem dX4_isWallHere_1 : decode cX4_isWallHere 1 = .ok (.invokevirtual 234, 3) := dk_182 0 234 (dk_at dksX4_isWallHere_0 1 rfl rfl)
theorem dX4_isWallHere_4 : decode cX4_isWallHere 4 = .ok (.ifCond .ne 5, 3) := dk_154 0 5 (dk_at dksX4_isWallHere_0 4 rfl rfl)
theorem dX4_isWallHere_7 : decode cX4_isWallHere 7 = .ok (.iconst 0, 1) := dk_3 (dk_at dksX4_isWallHere_0 7 rfl rfl)
theorem dX4_isWallHere_8 : decode cX4_isWallHere 8 = .ok (.ireturn, 1) := dk_172 (dk_at dksX4_isWallHere_0 8 rfl rfl)
theorem dX4_isWallHere_9 : decode cX4_isWallHere 9 = .ok (.aload_n 0, 1) := dk_42 (dk_at dksX4_isWallHere_0 9 rfl rfl)
theorem dX4_isWallHere_10 : decode cX4_isWallHere 10 = .ok (.getfield 26, 3) := dk_180 0 26 (dk_at dksX4_isWallHere_0 10 rfl rfl)
theorem dX4_isWallHere_13 : decode cX4_isWallHere 13 = .ok (.bipush 54, 2) := dk_16 54 (dk_at dksX4_isWallHere_0 13 rfl rfl)
theorem dX4_isWallHere_15 : decode cX4_isWallHere 15 = .ok (.aload_n 0, 1) := dk_42 (dk_at dksX4_isWallHere_0 15 rfl rfl)
theorem dX4_isWallHere_16 : decode cX4_isWallHere 16 = .ok (.getfield 228, 3) := dk_180 0 228 (dk_at dksX4_isWallHere_0 16 rfl rfl)
theorem dX4_isWallHere_19 : decode cX4_isWallHere 19 = .ok (.iadd, 1) := dk_96 (dk_at dksX4_isWallHere_0 19 rfl rfl)
theorem dX4_isWallHere_20 : decode cX4_isWallHere 20 = .ok (.aload_n 0, 1) := dk_42 (dk_at dksX4_isWallHere_0 20 rfl rfl)
theorem dX4_isWallHere_21 : decode cX4_isWallHere 21 = .ok (.getfield 231, 3) := dk_180 0 231 (dk_at dksX4_isWallHere_0 21 rfl rfl)
theorem dX4_isWallHere_24 : decode cX4_isWallHere 24 = .ok (.iastore, 1) := dk_79 (dk_at dksX4_isWallHere_1 0 rfl rfl)
theorem dX4_isWallHere_25 : decode cX4_isWallHere 25 = .ok (.iconst 1, 1) := dk_4 (dk_at dksX4_isWallHere_1 1 rfl rfl)
theorem dX4_isWallHere_26 : decode cX4_isWallHere 26 = .ok (.ireturn, 1) := dk_172 (dk_at dksX4_isWallHere_1 2 rfl rfl)
abbrev cX4_isNeedHere : ByteArray := prog_19_method_39_code
def yX4_isNeedHere : MethodName := ⟨RX4, "isNeedHere", "()Z"⟩
def dkwX4_isNeedHere_2 : List UInt8 := [46, 4, 42, 180, 0, 121, 120, 128, 79, 4, 172]
abbrev dktX4_isNeedHere_2 : List UInt8 := dkwX4_isNeedHere_2 ++ []
def dkwX4_isNeedHere_1 : List UInt8 := [180, 0, 26, 5, 46, 4, 100, 182, 0, 173, 154, 0, 5, 3, 172, 42, 180, 0, 26, 16, 62, 27, 96, 92]
abbrev dktX4_isNeedHere_1 : List UInt8 := dkwX4_isNeedHere_1 ++ dktX4_isNeedHere_2
def dkwX4_isNeedHere_0 : List UInt8 := [42, 182, 0, 111, 42, 3, 16, 30, 182, 0, 173, 154, 0, 5, 3, 172, 42, 180, 0, 121, 60, 42, 3, 42]
abbrev dktX4_isNeedHere_0 : List UInt8 := dkwX4_isNeedHere_0 ++ dktX4_isNeedHere_1
theorem dksX4_isNeedHere_0 : cX4_isNeedHere.data.toList.drop 0 = dktX4_isNeedHere_0 := by decide +kernel
theorem dksX4_isNeedHere_1 : cX4_isNeedHere.data.toList.drop 24 = dktX4_isNeedHere_1 := dk_seg dksX4_isNeedHere_0 24 rfl rfl
theorem dksX4_isNeedHere_2 : cX4_isNeedHere.data.toList.drop 48 = dktX4_isNeedHere_2 := dk_seg dksX4_isNeedHere_1 24 rfl rfl
theorem dX4_isNeedHere_0 : decode cX4_isNeedHere 0 = .ok (.aload_n 0, 1) := dk_42 (dk_at dksX4_isNeedHere_0 0 rfl rfl)
theorem dX4_isNeedHere_1 : decode cX4_isNeedHere 1 = .ok (.invokevirtual 111, 3) := dk_182 0 111 (dk_at dksX4_isNeedHere_0 1 rfl rfl)
theorem dX4_isNeedHere_4 : decode cX4_isNeedHere 4 = .ok (.aload_n 0, 1) := dk_42 (dk_at dksX4_isNeedHere_0 4 rfl rfl)
theorem dX4_isNeedHere_5 : decode cX4_isNeedHere 5 = .ok (.iconst 0, 1) := dk_3 (dk_at dksX4_isNeedHere_0 5 rfl rfl)
theorem dX4_isNeedHere_6 : decode cX4_isNeedHere 6 = .ok (.bipush 30, 2) := dk_16 30 (dk_at dksX4_isNeedHere_0 6 rfl rfl)
theorem dX4_isNeedHere_8 : decode cX4_isNeedHere 8 = .ok (.invokevirtual 173, 3) := dk_182 0 173 (dk_at dksX4_isNeedHere_0 8 rfl rfl)
theorem dX4_isNeedHere_11 : decode cX4_isNeedHere 11 = .ok (.ifCond .ne 5, 3) := dk_154 0 5 (dk_at dksX4_isNeedHere_0 11 rfl rfl)
theorem dX4_isNeedHere_14 : decode cX4_isNeedHere 14 = .ok (.iconst 0, 1) := dk_3 (dk_at dksX4_isNeedHere_0 14 rfl rfl)
theorem dX4_isNeedHere_15 : decode cX4_isNeedHere 15 = .ok (.ireturn, 1) := dk_172 (dk_at dksX4_isNeedHere_0 15 rfl rfl)
theorem dX4_isNeedHere_16 : decode cX4_isNeedHere 16 = .ok (.aload_n 0, 1) := dk_42 (dk_at dksX4_isNeedHere_0 16 rfl rfl)
theorem dX4_isNeedHere_17 : decode cX4_isNeedHere 17 = .ok (.getfield 121, 3) := dk_180 0 121 (dk_at dksX4_isNeedHere_0 17 rfl rfl)
theorem dX4_isNeedHere_20 : decode cX4_isNeedHere 20 = .ok (.istore_n 1, 1) := dk_60 (dk_at dksX4_isNeedHere_0 20 rfl rfl)
theorem dX4_isNeedHere_21 : decode cX4_isNeedHere 21 = .ok (.aload_n 0, 1) := dk_42 (dk_at dksX4_isNeedHere_0 21 rfl rfl)
theorem dX4_isNeedHere_22 : decode cX4_isNeedHere 22 = .ok (.iconst 0, 1) := dk_3 (dk_at dksX4_isNeedHere_0 22 rfl rfl)
theorem dX4_isNeedHere_23 : decode cX4_isNeedHere 23 = .ok (.aload_n 0, 1) := dk_42 (dk_at dksX4_isNeedHere_0 23 rfl rfl)
theorem dX4_isNeedHere_24 : decode cX4_isNeedHere 24 = .ok (.getfield 26, 3) := dk_180 0 26 (dk_at dksX4_isNeedHere_1 0 rfl rfl)
theorem dX4_isNeedHere_27 : decode cX4_isNeedHere 27 = .ok (.iconst 2, 1) := dk_5 (dk_at dksX4_isNeedHere_1 3 rfl rfl)
theorem dX4_isNeedHere_28 : decode cX4_isNeedHere 28 = .ok (.iaload, 1) := dk_46 (dk_at dksX4_isNeedHere_1 4 rfl rfl)
theorem dX4_isNeedHere_29 : decode cX4_isNeedHere 29 = .ok (.iconst 1, 1) := dk_4 (dk_at dksX4_isNeedHere_1 5 rfl rfl)
theorem dX4_isNeedHere_30 : decode cX4_isNeedHere 30 = .ok (.isub, 1) := dk_100 (dk_at dksX4_isNeedHere_1 6 rfl rfl)
theorem dX4_isNeedHere_31 : decode cX4_isNeedHere 31 = .ok (.invokevirtual 173, 3) := dk_182 0 173 (dk_at dksX4_isNeedHere_1 7 rfl rfl)
theorem dX4_isNeedHere_34 : decode cX4_isNeedHere 34 = .ok (.ifCond .ne 5, 3) := dk_154 0 5 (dk_at dksX4_isNeedHere_1 10 rfl rfl)
theorem dX4_isNeedHere_37 : decode cX4_isNeedHere 37 = .ok (.iconst 0, 1) := dk_3 (dk_at dksX4_isNeedHere_1 13 rfl rfl)
theorem dX4_isNeedHere_38 : decode cX4_isNeedHere 38 = .ok (.ireturn, 1) := dk_172 (dk_at dksX4_isNeedHere_1 14 rfl rfl)
theorem dX4_isNeedHere_39 : decode cX4_isNeedHere 39 = .ok (.aload_n 0, 1) := dk_42 (dk_at dksX4_isNeedHere_1 15 rfl rfl)
theorem dX4_isNeedHere_40 : decode cX4_isNeedHere 40 = .ok (.getfield 26, 3) := dk_180 0 26 (dk_at dksX4_isNeedHere_1 16 rfl rfl)
theorem dX4_isNeedHere_43 : decode cX4_isNeedHere 43 = .ok (.bipush 62, 2) := dk_16 62 (dk_at dksX4_isNeedHere_1 19 rfl rfl)
theorem dX4_isNeedHere_45 : decode cX4_isNeedHere 45 = .ok (.iload_n 1, 1) := dk_27 (dk_at dksX4_isNeedHere_1 21 rfl rfl)
theorem dX4_isNeedHere_46 : decode cX4_isNeedHere 46 = .ok (.iadd, 1) := dk_96 (dk_at dksX4_isNeedHere_1 22 rfl rfl)
theorem dX4_isNeedHere_47 : decode cX4_isNeedHere 47 = .ok (.dup2, 1) := dk_92 (dk_at dksX4_isNeedHere_1 23 rfl rfl)
theorem dX4_isNeedHere_48 : decode cX4_isNeedHere 48 = .ok (.iaload, 1) := dk_46 (dk_at dksX4_isNeedHere_2 0 rfl rfl)
theorem dX4_isNeedHere_49 : decode cX4_isNeedHere 49 = .ok (.iconst 1, 1) := dk_4 (dk_at dksX4_isNeedHere_2 1 rfl rfl)
theorem dX4_isNeedHere_50 : decode cX4_isNeedHere 50 = .ok (.aload_n 0, 1) := dk_42 (dk_at dksX4_isNeedHere_2 2 rfl rfl)
theorem dX4_isNeedHere_51 : decode cX4_isNeedHere 51 = .ok (.getfield 121, 3) := dk_180 0 121 (dk_at dksX4_isNeedHere_2 3 rfl rfl)
theorem dX4_isNeedHere_54 : decode cX4_isNeedHere 54 = .ok (.ishl, 1) := dk_120 (dk_at dksX4_isNeedHere_2 6 rfl rfl)
theorem dX4_isNeedHere_55 : decode cX4_isNeedHere 55 = .ok (.ior, 1) := dk_128 (dk_at dksX4_isNeedHere_2 7 rfl rfl)
theorem dX4_isNeedHere_56 : decode cX4_isNeedHere 56 = .ok (.iastore, 1) := dk_79 (dk_at dksX4_isNeedHere_2 8 rfl rfl)
theorem dX4_isNeedHere_57 : decode cX4_isNeedHere 57 = .ok (.iconst 1, 1) := dk_4 (dk_at dksX4_isNeedHere_2 9 rfl rfl)
theorem dX4_isNeedHere_58 : decode cX4_isNeedHere 58 = .ok (.ireturn, 1) := dk_172 (dk_at dksX4_isNeedHere_2 10 rfl rfl)
abbrev cX4_isSweepHere : ByteArray := prog_19_method_31_code
def yX4_isSweepHere : MethodName := ⟨RX4, "isSweepHere", "()Z"⟩
def dkwX4_isSweepHere_5 : List UInt8 := [180, 0, 17, 42, 180, 0, 152, 46, 79, 42, 180, 0, 23, 42, 180, 0, 152, 92, 46, 4, 96, 79, 4, 172]
abbrev dktX4_isSweepHere_5 : List UInt8 := dkwX4_isSweepHere_5 ++ []
def dkwX4_isSweepHere_4 : List UInt8 := [180, 0, 152, 46, 79, 42, 182, 0, 221, 154, 0, 5, 3, 172, 42, 180, 0, 20, 27, 6, 96, 42]
abbrev dktX4_isSweepHere_4 : List UInt8 := dkwX4_isSweepHere_4 ++ dktX4_isSweepHere_5
def dkwX4_isSweepHere_3 : List UInt8 := [2, 79, 42, 20, 0, 216, 182, 0, 218, 153, 0, 29, 42, 180, 0, 20, 27, 5, 96, 42, 180, 0, 17, 42]
abbrev dktX4_isSweepHere_3 : List UInt8 := dkwX4_isSweepHere_3 ++ dktX4_isSweepHere_4
def dkwX4_isSweepHere_2 : List UInt8 := [42, 180, 0, 20, 27, 4, 96, 42, 180, 0, 17, 42, 180, 0, 152, 46, 79, 42, 180, 0, 20, 27, 5, 96]
abbrev dktX4_isSweepHere_2 : List UInt8 := dkwX4_isSweepHere_2 ++ dktX4_isSweepHere_3
def dkwX4_isSweepHere_1 : List UInt8 := [42, 180, 0, 20, 27, 42, 180, 0, 17, 42, 180, 0, 152, 46, 79, 42, 182, 0, 189, 154, 0, 5, 3, 172]
abbrev dktX4_isSweepHere_1 : List UInt8 := dkwX4_isSweepHere_1 ++ dktX4_isSweepHere_2
def dkwX4_isSweepHere_0 : List UInt8 := [42, 182, 0, 111, 16, 48, 42, 180, 0, 152, 104, 7, 42, 180, 0, 23, 42, 180, 0, 152, 46, 104, 96, 60]
abbrev dktX4_isSweepHere_0 : List UInt8 := dkwX4_isSweepHere_0 ++ dktX4_isSweepHere_1
theorem dksX4_isSweepHere_0 : cX4_isSweepHere.data.toList.drop 0 = dktX4_isSweepHere_0 := by decide +kernel
theorem dksX4_isSweepHere_1 : cX4_isSweepHere.data.toList.drop 24 = dktX4_isSweepHere_1 := dk_seg dksX4_isSweepHere_0 24 rfl rfl
theorem dksX4_isSweepHere_2 : cX4_isSweepHere.data.toList.drop 48 = dktX4_isSweepHere_2 := dk_seg dksX4_isSweepHere_1 24 rfl rfl
theorem dksX4_isSweepHere_3 : cX4_isSweepHere.data.toList.drop 72 = dktX4_isSweepHere_3 := dk_seg dksX4_isSweepHere_2 24 rfl rfl
theorem dksX4_isSweepHere_4 : cX4_isSweepHere.data.toList.drop 96 = dktX4_isSweepHere_4 := dk_seg dksX4_isSweepHere_3 24 rfl rfl
theorem dksX4_isSweepHere_5 : cX4_isSweepHere.data.toList.drop 118 = dktX4_isSweepHere_5 := dk_seg dksX4_isSweepHere_4 22 rfl rfl
theorem dX4_isSweepHere_0 : decode cX4_isSweepHere 0 = .ok (.aload_n 0, 1) := dk_42 (dk_at dksX4_isSweepHere_0 0 rfl rfl)
theorem dX4_isSweepHere_1 : decode cX4_isSweepHere 1 = .ok (.invokevirtual 111, 3) := dk_182 0 111 (dk_at dksX4_isSweepHere_0 1 rfl rfl)
theorem dX4_isSweepHere_4 : decode cX4_isSweepHere 4 = .ok (.bipush 48, 2) := dk_16 48 (dk_at dksX4_isSweepHere_0 4 rfl rfl)
theorem dX4_isSweepHere_6 : decode cX4_isSweepHere 6 = .ok (.aload_n 0, 1) := dk_42 (dk_at dksX4_isSweepHere_0 6 rfl rfl)
theorem dX4_isSweepHere_7 : decode cX4_isSweepHere 7 = .ok (.getfield 152, 3) := dk_180 0 152 (dk_at dksX4_isSweepHere_0 7 rfl rfl)
theorem dX4_isSweepHere_10 : decode cX4_isSweepHere 10 = .ok (.imul, 1) := dk_104 (dk_at dksX4_isSweepHere_0 10 rfl rfl)
theorem dX4_isSweepHere_11 : decode cX4_isSweepHere 11 = .ok (.iconst 4, 1) := dk_7 (dk_at dksX4_isSweepHere_0 11 rfl rfl)
theorem dX4_isSweepHere_12 : decode cX4_isSweepHere 12 = .ok (.aload_n 0, 1) := dk_42 (dk_at dksX4_isSweepHere_0 12 rfl rfl)
theorem dX4_isSweepHere_13 : decode cX4_isSweepHere 13 = .ok (.getfield 23, 3) := dk_180 0 23 (dk_at dksX4_isSweepHere_0 13 rfl rfl)
theorem dX4_isSweepHere_16 : decode cX4_isSweepHere 16 = .ok (.aload_n 0, 1) := dk_42 (dk_at dksX4_isSweepHere_0 16 rfl rfl)
theorem dX4_isSweepHere_17 : decode cX4_isSweepHere 17 = .ok (.getfield 152, 3) := dk_180 0 152 (dk_at dksX4_isSweepHere_0 17 rfl rfl)
theorem dX4_isSweepHere_20 : decode cX4_isSweepHere 20 = .ok (.iaload, 1) := dk_46 (dk_at dksX4_isSweepHere_0 20 rfl rfl)
theorem dX4_isSweepHere_21 : decode cX4_isSweepHere 21 = .ok (.imul, 1) := dk_104 (dk_at dksX4_isSweepHere_0 21 rfl rfl)
theorem dX4_isSweepHere_22 : decode cX4_isSweepHere 22 = .ok (.iadd, 1) := dk_96 (dk_at dksX4_isSweepHere_0 22 rfl rfl)
theorem dX4_isSweepHere_23 : decode cX4_isSweepHere 23 = .ok (.istore_n 1, 1) := dk_60 (dk_at dksX4_isSweepHere_0 23 rfl rfl)
theorem dX4_isSweepHere_24 : decode cX4_isSweepHere 24 = .ok (.aload_n 0, 1) := dk_42 (dk_at dksX4_isSweepHere_1 0 rfl rfl)
theorem dX4_isSweepHere_25 : decode cX4_isSweepHere 25 = .ok (.getfield 20, 3) := dk_180 0 20 (dk_at dksX4_isSweepHere_1 1 rfl rfl)
theorem dX4_isSweepHere_28 : decode cX4_isSweepHere 28 = .ok (.iload_n 1, 1) := dk_27 (dk_at dksX4_isSweepHere_1 4 rfl rfl)
theorem dX4_isSweepHere_29 : decode cX4_isSweepHere 29 = .ok (.aload_n 0, 1) := dk_42 (dk_at dksX4_isSweepHere_1 5 rfl rfl)
theorem dX4_isSweepHere_30 : decode cX4_isSweepHere 30 = .ok (.getfield 17, 3) := dk_180 0 17 (dk_at dksX4_isSweepHere_1 6 rfl rfl)
theorem dX4_isSweepHere_33 : decode cX4_isSweepHere 33 = .ok (.aload_n 0, 1) := dk_42 (dk_at dksX4_isSweepHere_1 9 rfl rfl)
theorem dX4_isSweepHere_34 : decode cX4_isSweepHere 34 = .ok (.getfield 152, 3) := dk_180 0 152 (dk_at dksX4_isSweepHere_1 10 rfl rfl)
theorem dX4_isSweepHere_37 : decode cX4_isSweepHere 37 = .ok (.iaload, 1) := dk_46 (dk_at dksX4_isSweepHere_1 13 rfl rfl)
theorem dX4_isSweepHere_38 : decode cX4_isSweepHere 38 = .ok (.iastore, 1) := dk_79 (dk_at dksX4_isSweepHere_1 14 rfl rfl)
theorem dX4_isSweepHere_39 : decode cX4_isSweepHere 39 = .ok (.aload_n 0, 1) := dk_42 (dk_at dksX4_isSweepHere_1 15 rfl rfl)
theorem dX4_isSweepHere_40 : decode cX4_isSweepHere 40 = .ok (.invokevirtual 189, 3) := dk_182 0 189 (dk_at dksX4_isSweepHere_1 16 rfl rfl)
theorem dX4_isSweepHere_43 : decode cX4_isSweepHere 43 = .ok (.ifCond .ne 5, 3) := dk_154 0 5 (dk_at dksX4_isSweepHere_1 19 rfl rfl)
theorem dX4_isSweepHere_46 : decode cX4_isSweepHere 46 = .ok (.iconst 0, 1) := dk_3 (dk_at dksX4_isSweepHere_1 22 rfl rfl)
theorem dX4_isSweepHere_47 : decode cX4_isSweepHere 47 = .ok (.ireturn, 1) := dk_172 (dk_at dksX4_isSweepHere_1 23 rfl rfl)
theorem dX4_isSweepHere_48 : decode cX4_isSweepHere 48 = .ok (.aload_n 0, 1) := dk_42 (dk_at dksX4_isSweepHere_2 0 rfl rfl)
theorem dX4_isSweepHere_49 : decode cX4_isSweepHere 49 = .ok (.getfield 20, 3) := dk_180 0 20 (dk_at dksX4_isSweepHere_2 1 rfl rfl)
theorem dX4_isSweepHere_52 : decode cX4_isSweepHere 52 = .ok (.iload_n 1, 1) := dk_27 (dk_at dksX4_isSweepHere_2 4 rfl rfl)
theorem dX4_isSweepHere_53 : decode cX4_isSweepHere 53 = .ok (.iconst 1, 1) := dk_4 (dk_at dksX4_isSweepHere_2 5 rfl rfl)
theorem dX4_isSweepHere_54 : decode cX4_isSweepHere 54 = .ok (.iadd, 1) := dk_96 (dk_at dksX4_isSweepHere_2 6 rfl rfl)
theorem dX4_isSweepHere_55 : decode cX4_isSweepHere 55 = .ok (.aload_n 0, 1) := dk_42 (dk_at dksX4_isSweepHere_2 7 rfl rfl)
theorem dX4_isSweepHere_56 : decode cX4_isSweepHere 56 = .ok (.getfield 17, 3) := dk_180 0 17 (dk_at dksX4_isSweepHere_2 8 rfl rfl)
theorem dX4_isSweepHere_59 : decode cX4_isSweepHere 59 = .ok (.aload_n 0, 1) := dk_42 (dk_at dksX4_isSweepHere_2 11 rfl rfl)
theorem dX4_isSweepHere_60 : decode cX4_isSweepHere 60 = .ok (.getfield 152, 3) := dk_180 0 152 (dk_at dksX4_isSweepHere_2 12 rfl rfl)
theorem dX4_isSweepHere_63 : decode cX4_isSweepHere 63 = .ok (.iaload, 1) := dk_46 (dk_at dksX4_isSweepHere_2 15 rfl rfl)
theorem dX4_isSweepHere_64 : decode cX4_isSweepHere 64 = .ok (.iastore, 1) := dk_79 (dk_at dksX4_isSweepHere_2 16 rfl rfl)
theorem dX4_isSweepHere_65 : decode cX4_isSweepHere 65 = .ok (.aload_n 0, 1) := dk_42 (dk_at dksX4_isSweepHere_2 17 rfl rfl)
theorem dX4_isSweepHere_66 : decode cX4_isSweepHere 66 = .ok (.getfield 20, 3) := dk_180 0 20 (dk_at dksX4_isSweepHere_2 18 rfl rfl)
theorem dX4_isSweepHere_69 : decode cX4_isSweepHere 69 = .ok (.iload_n 1, 1) := dk_27 (dk_at dksX4_isSweepHere_2 21 rfl rfl)
theorem dX4_isSweepHere_70 : decode cX4_isSweepHere 70 = .ok (.iconst 2, 1) := dk_5 (dk_at dksX4_isSweepHere_2 22 rfl rfl)
theorem dX4_isSweepHere_71 : decode cX4_isSweepHere 71 = .ok (.iadd, 1) := dk_96 (dk_at dksX4_isSweepHere_2 23 rfl rfl)
theorem dX4_isSweepHere_72 : decode cX4_isSweepHere 72 = .ok (.iconst (-1), 1) := dk_2 (dk_at dksX4_isSweepHere_3 0 rfl rfl)
theorem dX4_isSweepHere_73 : decode cX4_isSweepHere 73 = .ok (.iastore, 1) := dk_79 (dk_at dksX4_isSweepHere_3 1 rfl rfl)
theorem dX4_isSweepHere_74 : decode cX4_isSweepHere 74 = .ok (.aload_n 0, 1) := dk_42 (dk_at dksX4_isSweepHere_3 2 rfl rfl)
theorem dX4_isSweepHere_75 : decode cX4_isSweepHere 75 = .ok (.ldc2_w 216, 3) := dk_20 0 216 (dk_at dksX4_isSweepHere_3 3 rfl rfl)
theorem dX4_isSweepHere_78 : decode cX4_isSweepHere 78 = .ok (.invokevirtual 218, 3) := dk_182 0 218 (dk_at dksX4_isSweepHere_3 6 rfl rfl)
theorem dX4_isSweepHere_81 : decode cX4_isSweepHere 81 = .ok (.ifCond .eq 29, 3) := dk_153 0 29 (dk_at dksX4_isSweepHere_3 9 rfl rfl)
theorem dX4_isSweepHere_84 : decode cX4_isSweepHere 84 = .ok (.aload_n 0, 1) := dk_42 (dk_at dksX4_isSweepHere_3 12 rfl rfl)
theorem dX4_isSweepHere_85 : decode cX4_isSweepHere 85 = .ok (.getfield 20, 3) := dk_180 0 20 (dk_at dksX4_isSweepHere_3 13 rfl rfl)
theorem dX4_isSweepHere_88 : decode cX4_isSweepHere 88 = .ok (.iload_n 1, 1) := dk_27 (dk_at dksX4_isSweepHere_3 16 rfl rfl)
theorem dX4_isSweepHere_89 : decode cX4_isSweepHere 89 = .ok (.iconst 2, 1) := dk_5 (dk_at dksX4_isSweepHere_3 17 rfl rfl)
theorem dX4_isSweepHere_90 : decode cX4_isSweepHere 90 = .ok (.iadd, 1) := dk_96 (dk_at dksX4_isSweepHere_3 18 rfl rfl)
theorem dX4_isSweepHere_91 : decode cX4_isSweepHere 91 = .ok (.aload_n 0, 1) := dk_42 (dk_at dksX4_isSweepHere_3 19 rfl rfl)
theorem dX4_isSweepHere_92 : decode cX4_isSweepHere 92 = .ok (.getfield 17, 3) := dk_180 0 17 (dk_at dksX4_isSweepHere_3 20 rfl rfl)
theorem dX4_isSweepHere_95 : decode cX4_isSweepHere 95 = .ok (.aload_n 0, 1) := dk_42 (dk_at dksX4_isSweepHere_3 23 rfl rfl)
theorem dX4_isSweepHere_96 : decode cX4_isSweepHere 96 = .ok (.getfield 152, 3) := dk_180 0 152 (dk_at dksX4_isSweepHere_4 0 rfl rfl)
theorem dX4_isSweepHere_99 : decode cX4_isSweepHere 99 = .ok (.iaload, 1) := dk_46 (dk_at dksX4_isSweepHere_4 3 rfl rfl)
theorem dX4_isSweepHere_100 : decode cX4_isSweepHere 100 = .ok (.iastore, 1) := dk_79 (dk_at dksX4_isSweepHere_4 4 rfl rfl)
theorem dX4_isSweepHere_101 : decode cX4_isSweepHere 101 = .ok (.aload_n 0, 1) := dk_42 (dk_at dksX4_isSweepHere_4 5 rfl rfl)
theorem dX4_isSweepHere_102 : decode cX4_isSweepHere 102 = .ok (.invokevirtual 221, 3) := dk_182 0 221 (dk_at dksX4_isSweepHere_4 6 rfl rfl)
theorem dX4_isSweepHere_105 : decode cX4_isSweepHere 105 = .ok (.ifCond .ne 5, 3) := dk_154 0 5 (dk_at dksX4_isSweepHere_4 9 rfl rfl)
theorem dX4_isSweepHere_108 : decode cX4_isSweepHere 108 = .ok (.iconst 0, 1) := dk_3 (dk_at dksX4_isSweepHere_4 12 rfl rfl)
theorem dX4_isSweepHere_109 : decode cX4_isSweepHere 109 = .ok (.ireturn, 1) := dk_172 (dk_at dksX4_isSweepHere_4 13 rfl rfl)
theorem dX4_isSweepHere_110 : decode cX4_isSweepHere 110 = .ok (.aload_n 0, 1) := dk_42 (dk_at dksX4_isSweepHere_4 14 rfl rfl)
theorem dX4_isSweepHere_111 : decode cX4_isSweepHere 111 = .ok (.getfield 20, 3) := dk_180 0 20 (dk_at dksX4_isSweepHere_4 15 rfl rfl)
theorem dX4_isSweepHere_114 : decode cX4_isSweepHere 114 = .ok (.iload_n 1, 1) := dk_27 (dk_at dksX4_isSweepHere_4 18 rfl rfl)
theorem dX4_isSweepHere_115 : decode cX4_isSweepHere 115 = .ok (.iconst 3, 1) := dk_6 (dk_at dksX4_isSweepHere_4 19 rfl rfl)
theorem dX4_isSweepHere_116 : decode cX4_isSweepHere 116 = .ok (.iadd, 1) := dk_96 (dk_at dksX4_isSweepHere_4 20 rfl rfl)
theorem dX4_isSweepHere_117 : decode cX4_isSweepHere 117 = .ok (.aload_n 0, 1) := dk_42 (dk_at dksX4_isSweepHere_4 21 rfl rfl)
theorem dX4_isSweepHere_118 : decode cX4_isSweepHere 118 = .ok (.getfield 17, 3) := dk_180 0 17 (dk_at dksX4_isSweepHere_5 0 rfl rfl)
theorem dX4_isSweepHere_121 : decode cX4_isSweepHere 121 = .ok (.aload_n 0, 1) := dk_42 (dk_at dksX4_isSweepHere_5 3 rfl rfl)
theorem dX4_isSweepHere_122 : decode cX4_isSweepHere 122 = .ok (.getfield 152, 3) := dk_180 0 152 (dk_at dksX4_isSweepHere_5 4 rfl rfl)
theorem dX4_isSweepHere_125 : decode cX4_isSweepHere 125 = .ok (.iaload, 1) := dk_46 (dk_at dksX4_isSweepHere_5 7 rfl rfl)
theorem dX4_isSweepHere_126 : decode cX4_isSweepHere 126 = .ok (.iastore, 1) := dk_79 (dk_at dksX4_isSweepHere_5 8 rfl rfl)
theorem dX4_isSweepHere_127 : decode cX4_isSweepHere 127 = .ok (.aload_n 0, 1) := dk_42 (dk_at dksX4_isSweepHere_5 9 rfl rfl)
theorem dX4_isSweepHere_128 : decode cX4_isSweepHere 128 = .ok (.getfield 23, 3) := dk_180 0 23 (dk_at dksX4_isSweepHere_5 10 rfl rfl)
theorem dX4_isSweepHere_131 : decode cX4_isSweepHere 131 = .ok (.aload_n 0, 1) := dk_42 (dk_at dksX4_isSweepHere_5 13 rfl rfl)
theorem dX4_isSweepHere_132 : decode cX4_isSweepHere 132 = .ok (.getfield 152, 3) := dk_180 0 152 (dk_at dksX4_isSweepHere_5 14 rfl rfl)
theorem dX4_isSweepHere_135 : decode cX4_isSweepHere 135 = .ok (.dup2, 1) := dk_92 (dk_at dksX4_isSweepHere_5 17 rfl rfl)
theorem dX4_isSweepHere_136 : decode cX4_isSweepHere 136 = .ok (.iaload, 1) := dk_46 (dk_at dksX4_isSweepHere_5 18 rfl rfl)
theorem dX4_isSweepHere_137 : decode cX4_isSweepHere 137 = .ok (.iconst 1, 1) := dk_4 (dk_at dksX4_isSweepHere_5 19 rfl rfl)
theorem dX4_isSweepHere_138 : decode cX4_isSweepHere 138 = .ok (.iadd, 1) := dk_96 (dk_at dksX4_isSweepHere_5 20 rfl rfl)
theorem dX4_isSweepHere_139 : decode cX4_isSweepHere 139 = .ok (.iastore, 1) := dk_79 (dk_at dksX4_isSweepHere_5 21 rfl rfl)
theorem dX4_isSweepHere_140 : decode cX4_isSweepHere 140 = .ok (.iconst 1, 1) := dk_4 (dk_at dksX4_isSweepHere_5 22 rfl rfl)
theorem dX4_isSweepHere_141 : decode cX4_isSweepHere 141 = .ok (.ireturn, 1) := dk_172 (dk_at dksX4_isSweepHere_5 23 rfl rfl)
abbrev cX4_sum : ByteArray := prog_19_method_25_code
def yX4_sum : MethodName := ⟨RX4, "sum", "()Z"⟩
def dkwX4_sum_3 : List UInt8 := [167, 255, 193, 4, 172]
abbrev dktX4_sum_3 : List UInt8 := dkwX4_sum_3 ++ []
def dkwX4_sum_2 : List UInt8 := [89, 180, 0, 96, 4, 96, 181, 0, 96, 42, 182, 0, 186, 154, 0, 5, 3, 172, 42, 27, 3, 182, 0, 168]
abbrev dktX4_sum_2 : List UInt8 := dkwX4_sum_2 ++ dktX4_sum_3
def dkwX4_sum_1 : List UInt8 := [160, 0, 51, 42, 180, 0, 7, 42, 180, 0, 96, 51, 16, 43, 160, 0, 7, 5, 167, 0, 4, 6, 60, 42]
abbrev dktX4_sum_1 : List UInt8 := dkwX4_sum_1 ++ dktX4_sum_2
def dkwX4_sum_0 : List UInt8 := [42, 182, 0, 186, 154, 0, 5, 3, 172, 42, 182, 0, 99, 16, 43, 159, 0, 12, 42, 182, 0, 99, 16, 45]
abbrev dktX4_sum_0 : List UInt8 := dkwX4_sum_0 ++ dktX4_sum_1
theorem dksX4_sum_0 : cX4_sum.data.toList.drop 0 = dktX4_sum_0 := by decide +kernel
theorem dksX4_sum_1 : cX4_sum.data.toList.drop 24 = dktX4_sum_1 := dk_seg dksX4_sum_0 24 rfl rfl
theorem dksX4_sum_2 : cX4_sum.data.toList.drop 48 = dktX4_sum_2 := dk_seg dksX4_sum_1 24 rfl rfl
theorem dksX4_sum_3 : cX4_sum.data.toList.drop 72 = dktX4_sum_3 := dk_seg dksX4_sum_2 24 rfl rfl
theorem dX4_sum_0 : decode cX4_sum 0 = .ok (.aload_n 0, 1) := dk_42 (dk_at dksX4_sum_0 0 rfl rfl)
theorem dX4_sum_1 : decode cX4_sum 1 = .ok (.invokevirtual 186, 3) := dk_182 0 186 (dk_at dksX4_sum_0 1 rfl rfl)
theorem dX4_sum_4 : decode cX4_sum 4 = .ok (.ifCond .ne 5, 3) := dk_154 0 5 (dk_at dksX4_sum_0 4 rfl rfl)
theorem dX4_sum_7 : decode cX4_sum 7 = .ok (.iconst 0, 1) := dk_3 (dk_at dksX4_sum_0 7 rfl rfl)
theorem dX4_sum_8 : decode cX4_sum 8 = .ok (.ireturn, 1) := dk_172 (dk_at dksX4_sum_0 8 rfl rfl)
theorem dX4_sum_9 : decode cX4_sum 9 = .ok (.aload_n 0, 1) := dk_42 (dk_at dksX4_sum_0 9 rfl rfl)
theorem dX4_sum_10 : decode cX4_sum 10 = .ok (.invokevirtual 99, 3) := dk_182 0 99 (dk_at dksX4_sum_0 10 rfl rfl)
theorem dX4_sum_13 : decode cX4_sum 13 = .ok (.bipush 43, 2) := dk_16 43 (dk_at dksX4_sum_0 13 rfl rfl)
theorem dX4_sum_15 : decode cX4_sum 15 = .ok (.if_icmp .eq 12, 3) := dk_159 0 12 (dk_at dksX4_sum_0 15 rfl rfl)
theorem dX4_sum_18 : decode cX4_sum 18 = .ok (.aload_n 0, 1) := dk_42 (dk_at dksX4_sum_0 18 rfl rfl)
theorem dX4_sum_19 : decode cX4_sum 19 = .ok (.invokevirtual 99, 3) := dk_182 0 99 (dk_at dksX4_sum_0 19 rfl rfl)
theorem dX4_sum_22 : decode cX4_sum 22 = .ok (.bipush 45, 2) := dk_16 45 (dk_at dksX4_sum_0 22 rfl rfl)
theorem dX4_sum_24 : decode cX4_sum 24 = .ok (.if_icmp .ne 51, 3) := dk_160 0 51 (dk_at dksX4_sum_1 0 rfl rfl)
theorem dX4_sum_27 : decode cX4_sum 27 = .ok (.aload_n 0, 1) := dk_42 (dk_at dksX4_sum_1 3 rfl rfl)
theorem dX4_sum_28 : decode cX4_sum 28 = .ok (.getfield 7, 3) := dk_180 0 7 (dk_at dksX4_sum_1 4 rfl rfl)
theorem dX4_sum_31 : decode cX4_sum 31 = .ok (.aload_n 0, 1) := dk_42 (dk_at dksX4_sum_1 7 rfl rfl)
theorem dX4_sum_32 : decode cX4_sum 32 = .ok (.getfield 96, 3) := dk_180 0 96 (dk_at dksX4_sum_1 8 rfl rfl)
theorem dX4_sum_35 : decode cX4_sum 35 = .ok (.baload, 1) := dk_51 (dk_at dksX4_sum_1 11 rfl rfl)
theorem dX4_sum_36 : decode cX4_sum 36 = .ok (.bipush 43, 2) := dk_16 43 (dk_at dksX4_sum_1 12 rfl rfl)
theorem dX4_sum_38 : decode cX4_sum 38 = .ok (.if_icmp .ne 7, 3) := dk_160 0 7 (dk_at dksX4_sum_1 14 rfl rfl)
theorem dX4_sum_41 : decode cX4_sum 41 = .ok (.iconst 2, 1) := dk_5 (dk_at dksX4_sum_1 17 rfl rfl)
theorem dX4_sum_42 : decode cX4_sum 42 = .ok (.goto 4, 3) := dk_167 0 4 (dk_at dksX4_sum_1 18 rfl rfl)
theorem dX4_sum_45 : decode cX4_sum 45 = .ok (.iconst 3, 1) := dk_6 (dk_at dksX4_sum_1 21 rfl rfl)
theorem dX4_sum_46 : decode cX4_sum 46 = .ok (.istore_n 1, 1) := dk_60 (dk_at dksX4_sum_1 22 rfl rfl)
theorem dX4_sum_47 : decode cX4_sum 47 = .ok (.aload_n 0, 1) := dk_42 (dk_at dksX4_sum_1 23 rfl rfl)
theorem dX4_sum_48 : decode cX4_sum 48 = .ok (.dup, 1) := dk_89 (dk_at dksX4_sum_2 0 rfl rfl)
theorem dX4_sum_49 : decode cX4_sum 49 = .ok (.getfield 96, 3) := dk_180 0 96 (dk_at dksX4_sum_2 1 rfl rfl)
theorem dX4_sum_52 : decode cX4_sum 52 = .ok (.iconst 1, 1) := dk_4 (dk_at dksX4_sum_2 4 rfl rfl)
theorem dX4_sum_53 : decode cX4_sum 53 = .ok (.iadd, 1) := dk_96 (dk_at dksX4_sum_2 5 rfl rfl)
theorem dX4_sum_54 : decode cX4_sum 54 = .ok (.putfield 96, 3) := dk_181 0 96 (dk_at dksX4_sum_2 6 rfl rfl)
theorem dX4_sum_57 : decode cX4_sum 57 = .ok (.aload_n 0, 1) := dk_42 (dk_at dksX4_sum_2 9 rfl rfl)
theorem dX4_sum_58 : decode cX4_sum 58 = .ok (.invokevirtual 186, 3) := dk_182 0 186 (dk_at dksX4_sum_2 10 rfl rfl)
theorem dX4_sum_61 : decode cX4_sum 61 = .ok (.ifCond .ne 5, 3) := dk_154 0 5 (dk_at dksX4_sum_2 13 rfl rfl)
theorem dX4_sum_64 : decode cX4_sum 64 = .ok (.iconst 0, 1) := dk_3 (dk_at dksX4_sum_2 16 rfl rfl)
theorem dX4_sum_65 : decode cX4_sum 65 = .ok (.ireturn, 1) := dk_172 (dk_at dksX4_sum_2 17 rfl rfl)
theorem dX4_sum_66 : decode cX4_sum 66 = .ok (.aload_n 0, 1) := dk_42 (dk_at dksX4_sum_2 18 rfl rfl)
theorem dX4_sum_67 : decode cX4_sum 67 = .ok (.iload_n 1, 1) := dk_27 (dk_at dksX4_sum_2 19 rfl rfl)
theorem dX4_sum_68 : decode cX4_sum 68 = .ok (.iconst 0, 1) := dk_3 (dk_at dksX4_sum_2 20 rfl rfl)
theorem dX4_sum_69 : decode cX4_sum 69 = .ok (.invokevirtual 168, 3) := dk_182 0 168 (dk_at dksX4_sum_2 21 rfl rfl)
theorem dX4_sum_72 : decode cX4_sum 72 = .ok (.goto (-63), 3) := dk_167 255 193 (dk_at dksX4_sum_3 0 rfl rfl)
theorem dX4_sum_75 : decode cX4_sum 75 = .ok (.iconst 1, 1) := dk_4 (dk_at dksX4_sum_3 3 rfl rfl)
theorem dX4_sum_76 : decode cX4_sum 76 = .ok (.ireturn, 1) := dk_172 (dk_at dksX4_sum_3 4 rfl rfl)
abbrev cX4_term : ByteArray := prog_19_method_24_code
def yX4_term : MethodName := ⟨RX4, "term", "()Z"⟩
def dkwX4_term_4 : List UInt8 := [172, 42, 27, 3, 182, 0, 168, 167, 255, 165, 4, 172]
abbrev dktX4_term_4 : List UInt8 := dkwX4_term_4 ++ []
def dkwX4_term_3 : List UInt8 := [167, 0, 5, 16, 14, 60, 42, 89, 180, 0, 96, 4, 96, 181, 0, 96, 42, 182, 0, 182, 154, 0, 5, 3]
abbrev dktX4_term_3 : List UInt8 := dkwX4_term_3 ++ dktX4_term_4
def dkwX4_term_2 : List UInt8 := [160, 0, 7, 7, 167, 0, 23, 42, 180, 0, 7, 42, 180, 0, 96, 51, 16, 47, 160, 0, 7, 8]
abbrev dktX4_term_2 : List UInt8 := dkwX4_term_2 ++ dktX4_term_3
def dkwX4_term_1 : List UInt8 := [159, 0, 12, 42, 182, 0, 99, 16, 37, 160, 0, 70, 42, 180, 0, 7, 42, 180, 0, 96, 51, 16, 42]
abbrev dktX4_term_1 : List UInt8 := dkwX4_term_1 ++ dktX4_term_2
def dkwX4_term_0 : List UInt8 := [42, 182, 0, 182, 154, 0, 5, 3, 172, 42, 182, 0, 99, 16, 42, 159, 0, 21, 42, 182, 0, 99, 16, 47]
abbrev dktX4_term_0 : List UInt8 := dkwX4_term_0 ++ dktX4_term_1
theorem dksX4_term_0 : cX4_term.data.toList.drop 0 = dktX4_term_0 := by decide +kernel
theorem dksX4_term_1 : cX4_term.data.toList.drop 24 = dktX4_term_1 := dk_seg dksX4_term_0 24 rfl rfl
theorem dksX4_term_2 : cX4_term.data.toList.drop 47 = dktX4_term_2 := dk_seg dksX4_term_1 23 rfl rfl
theorem dksX4_term_3 : cX4_term.data.toList.drop 69 = dktX4_term_3 := dk_seg dksX4_term_2 22 rfl rfl
theorem dksX4_term_4 : cX4_term.data.toList.drop 93 = dktX4_term_4 := dk_seg dksX4_term_3 24 rfl rfl
theorem dX4_term_0 : decode cX4_term 0 = .ok (.aload_n 0, 1) := dk_42 (dk_at dksX4_term_0 0 rfl rfl)
theorem dX4_term_1 : decode cX4_term 1 = .ok (.invokevirtual 182, 3) := dk_182 0 182 (dk_at dksX4_term_0 1 rfl rfl)
theorem dX4_term_4 : decode cX4_term 4 = .ok (.ifCond .ne 5, 3) := dk_154 0 5 (dk_at dksX4_term_0 4 rfl rfl)
theorem dX4_term_7 : decode cX4_term 7 = .ok (.iconst 0, 1) := dk_3 (dk_at dksX4_term_0 7 rfl rfl)
theorem dX4_term_8 : decode cX4_term 8 = .ok (.ireturn, 1) := dk_172 (dk_at dksX4_term_0 8 rfl rfl)
theorem dX4_term_9 : decode cX4_term 9 = .ok (.aload_n 0, 1) := dk_42 (dk_at dksX4_term_0 9 rfl rfl)
theorem dX4_term_10 : decode cX4_term 10 = .ok (.invokevirtual 99, 3) := dk_182 0 99 (dk_at dksX4_term_0 10 rfl rfl)
theorem dX4_term_13 : decode cX4_term 13 = .ok (.bipush 42, 2) := dk_16 42 (dk_at dksX4_term_0 13 rfl rfl)
theorem dX4_term_15 : decode cX4_term 15 = .ok (.if_icmp .eq 21, 3) := dk_159 0 21 (dk_at dksX4_term_0 15 rfl rfl)
theorem dX4_term_18 : decode cX4_term 18 = .ok (.aload_n 0, 1) := dk_42 (dk_at dksX4_term_0 18 rfl rfl)
theorem dX4_term_19 : decode cX4_term 19 = .ok (.invokevirtual 99, 3) := dk_182 0 99 (dk_at dksX4_term_0 19 rfl rfl)
theorem dX4_term_22 : decode cX4_term 22 = .ok (.bipush 47, 2) := dk_16 47 (dk_at dksX4_term_0 22 rfl rfl)
theorem dX4_term_24 : decode cX4_term 24 = .ok (.if_icmp .eq 12, 3) := dk_159 0 12 (dk_at dksX4_term_1 0 rfl rfl)
theorem dX4_term_27 : decode cX4_term 27 = .ok (.aload_n 0, 1) := dk_42 (dk_at dksX4_term_1 3 rfl rfl)
theorem dX4_term_28 : decode cX4_term 28 = .ok (.invokevirtual 99, 3) := dk_182 0 99 (dk_at dksX4_term_1 4 rfl rfl)
theorem dX4_term_31 : decode cX4_term 31 = .ok (.bipush 37, 2) := dk_16 37 (dk_at dksX4_term_1 7 rfl rfl)
theorem dX4_term_33 : decode cX4_term 33 = .ok (.if_icmp .ne 70, 3) := dk_160 0 70 (dk_at dksX4_term_1 9 rfl rfl)
theorem dX4_term_36 : decode cX4_term 36 = .ok (.aload_n 0, 1) := dk_42 (dk_at dksX4_term_1 12 rfl rfl)
theorem dX4_term_37 : decode cX4_term 37 = .ok (.getfield 7, 3) := dk_180 0 7 (dk_at dksX4_term_1 13 rfl rfl)
theorem dX4_term_40 : decode cX4_term 40 = .ok (.aload_n 0, 1) := dk_42 (dk_at dksX4_term_1 16 rfl rfl)
theorem dX4_term_41 : decode cX4_term 41 = .ok (.getfield 96, 3) := dk_180 0 96 (dk_at dksX4_term_1 17 rfl rfl)
theorem dX4_term_44 : decode cX4_term 44 = .ok (.baload, 1) := dk_51 (dk_at dksX4_term_1 20 rfl rfl)
theorem dX4_term_45 : decode cX4_term 45 = .ok (.bipush 42, 2) := dk_16 42 (dk_at dksX4_term_1 21 rfl rfl)
theorem dX4_term_47 : decode cX4_term 47 = .ok (.if_icmp .ne 7, 3) := dk_160 0 7 (dk_at dksX4_term_2 0 rfl rfl)
theorem dX4_term_50 : decode cX4_term 50 = .ok (.iconst 4, 1) := dk_7 (dk_at dksX4_term_2 3 rfl rfl)
theorem dX4_term_51 : decode cX4_term 51 = .ok (.goto 23, 3) := dk_167 0 23 (dk_at dksX4_term_2 4 rfl rfl)
theorem dX4_term_54 : decode cX4_term 54 = .ok (.aload_n 0, 1) := dk_42 (dk_at dksX4_term_2 7 rfl rfl)
theorem dX4_term_55 : decode cX4_term 55 = .ok (.getfield 7, 3) := dk_180 0 7 (dk_at dksX4_term_2 8 rfl rfl)
theorem dX4_term_58 : decode cX4_term 58 = .ok (.aload_n 0, 1) := dk_42 (dk_at dksX4_term_2 11 rfl rfl)
theorem dX4_term_59 : decode cX4_term 59 = .ok (.getfield 96, 3) := dk_180 0 96 (dk_at dksX4_term_2 12 rfl rfl)
theorem dX4_term_62 : decode cX4_term 62 = .ok (.baload, 1) := dk_51 (dk_at dksX4_term_2 15 rfl rfl)
theorem dX4_term_63 : decode cX4_term 63 = .ok (.bipush 47, 2) := dk_16 47 (dk_at dksX4_term_2 16 rfl rfl)
theorem dX4_term_65 : decode cX4_term 65 = .ok (.if_icmp .ne 7, 3) := dk_160 0 7 (dk_at dksX4_term_2 18 rfl rfl)
theorem dX4_term_68 : decode cX4_term 68 = .ok (.iconst 5, 1) := dk_8 (dk_at dksX4_term_2 21 rfl rfl)
theorem dX4_term_69 : decode cX4_term 69 = .ok (.goto 5, 3) := dk_167 0 5 (dk_at dksX4_term_3 0 rfl rfl)
theorem dX4_term_72 : decode cX4_term 72 = .ok (.bipush 14, 2) := dk_16 14 (dk_at dksX4_term_3 3 rfl rfl)
theorem dX4_term_74 : decode cX4_term 74 = .ok (.istore_n 1, 1) := dk_60 (dk_at dksX4_term_3 5 rfl rfl)
theorem dX4_term_75 : decode cX4_term 75 = .ok (.aload_n 0, 1) := dk_42 (dk_at dksX4_term_3 6 rfl rfl)
theorem dX4_term_76 : decode cX4_term 76 = .ok (.dup, 1) := dk_89 (dk_at dksX4_term_3 7 rfl rfl)
theorem dX4_term_77 : decode cX4_term 77 = .ok (.getfield 96, 3) := dk_180 0 96 (dk_at dksX4_term_3 8 rfl rfl)
theorem dX4_term_80 : decode cX4_term 80 = .ok (.iconst 1, 1) := dk_4 (dk_at dksX4_term_3 11 rfl rfl)
theorem dX4_term_81 : decode cX4_term 81 = .ok (.iadd, 1) := dk_96 (dk_at dksX4_term_3 12 rfl rfl)
theorem dX4_term_82 : decode cX4_term 82 = .ok (.putfield 96, 3) := dk_181 0 96 (dk_at dksX4_term_3 13 rfl rfl)
theorem dX4_term_85 : decode cX4_term 85 = .ok (.aload_n 0, 1) := dk_42 (dk_at dksX4_term_3 16 rfl rfl)
theorem dX4_term_86 : decode cX4_term 86 = .ok (.invokevirtual 182, 3) := dk_182 0 182 (dk_at dksX4_term_3 17 rfl rfl)
theorem dX4_term_89 : decode cX4_term 89 = .ok (.ifCond .ne 5, 3) := dk_154 0 5 (dk_at dksX4_term_3 20 rfl rfl)
theorem dX4_term_92 : decode cX4_term 92 = .ok (.iconst 0, 1) := dk_3 (dk_at dksX4_term_3 23 rfl rfl)
theorem dX4_term_93 : decode cX4_term 93 = .ok (.ireturn, 1) := dk_172 (dk_at dksX4_term_4 0 rfl rfl)
theorem dX4_term_94 : decode cX4_term 94 = .ok (.aload_n 0, 1) := dk_42 (dk_at dksX4_term_4 1 rfl rfl)
theorem dX4_term_95 : decode cX4_term 95 = .ok (.iload_n 1, 1) := dk_27 (dk_at dksX4_term_4 2 rfl rfl)
theorem dX4_term_96 : decode cX4_term 96 = .ok (.iconst 0, 1) := dk_3 (dk_at dksX4_term_4 3 rfl rfl)
theorem dX4_term_97 : decode cX4_term 97 = .ok (.invokevirtual 168, 3) := dk_182 0 168 (dk_at dksX4_term_4 4 rfl rfl)
theorem dX4_term_100 : decode cX4_term 100 = .ok (.goto (-91), 3) := dk_167 255 165 (dk_at dksX4_term_4 7 rfl rfl)
theorem dX4_term_103 : decode cX4_term 103 = .ok (.iconst 1, 1) := dk_4 (dk_at dksX4_term_4 10 rfl rfl)
theorem dX4_term_104 : decode cX4_term 104 = .ok (.ireturn, 1) := dk_172 (dk_at dksX4_term_4 11 rfl rfl)
abbrev cX4_value : ByteArray := prog_19_method_23_code
def yX4_value : MethodName := ⟨RX4, "value", "()Z"⟩
def dkwX4_value_3 : List UInt8 := [182, 0, 176, 154, 0, 5, 3, 172, 42, 182, 0, 111, 42, 4, 28, 182, 0, 168, 4, 172]
abbrev dktX4_value_3 : List UInt8 := dkwX4_value_3 ++ []
def dkwX4_value_2 : List UInt8 := [182, 0, 168, 4, 172, 42, 182, 0, 179, 61, 28, 156, 0, 10, 42, 3, 27, 182, 0, 117, 172, 42, 27]
abbrev dktX4_value_2 : List UInt8 := dkwX4_value_2 ++ dktX4_value_3
def dkwX4_value_1 : List UInt8 := [18, 172, 182, 0, 173, 153, 0, 11, 42, 27, 182, 0, 176, 154, 0, 5, 3, 172, 42, 3, 42, 180, 0, 121]
abbrev dktX4_value_1 : List UInt8 := dkwX4_value_1 ++ dktX4_value_2
def dkwX4_value_0 : List UInt8 := [42, 182, 0, 99, 87, 42, 180, 0, 96, 60, 42, 42, 180, 0, 96, 182, 0, 114, 153, 0, 34, 42, 3]
abbrev dktX4_value_0 : List UInt8 := dkwX4_value_0 ++ dktX4_value_1
theorem dksX4_value_0 : cX4_value.data.toList.drop 0 = dktX4_value_0 := by decide +kernel
theorem dksX4_value_1 : cX4_value.data.toList.drop 23 = dktX4_value_1 := dk_seg dksX4_value_0 23 rfl rfl
theorem dksX4_value_2 : cX4_value.data.toList.drop 47 = dktX4_value_2 := dk_seg dksX4_value_1 24 rfl rfl
theorem dksX4_value_3 : cX4_value.data.toList.drop 70 = dktX4_value_3 := dk_seg dksX4_value_2 23 rfl rfl
theorem dX4_value_0 : decode cX4_value 0 = .ok (.aload_n 0, 1) := dk_42 (dk_at dksX4_value_0 0 rfl rfl)
theorem dX4_value_1 : decode cX4_value 1 = .ok (.invokevirtual 99, 3) := dk_182 0 99 (dk_at dksX4_value_0 1 rfl rfl)
theorem dX4_value_4 : decode cX4_value 4 = .ok (.pop, 1) := dk_87 (dk_at dksX4_value_0 4 rfl rfl)
theorem dX4_value_5 : decode cX4_value 5 = .ok (.aload_n 0, 1) := dk_42 (dk_at dksX4_value_0 5 rfl rfl)
theorem dX4_value_6 : decode cX4_value 6 = .ok (.getfield 96, 3) := dk_180 0 96 (dk_at dksX4_value_0 6 rfl rfl)
theorem dX4_value_9 : decode cX4_value 9 = .ok (.istore_n 1, 1) := dk_60 (dk_at dksX4_value_0 9 rfl rfl)
theorem dX4_value_10 : decode cX4_value 10 = .ok (.aload_n 0, 1) := dk_42 (dk_at dksX4_value_0 10 rfl rfl)
theorem dX4_value_11 : decode cX4_value 11 = .ok (.aload_n 0, 1) := dk_42 (dk_at dksX4_value_0 11 rfl rfl)
theorem dX4_value_12 : decode cX4_value 12 = .ok (.getfield 96, 3) := dk_180 0 96 (dk_at dksX4_value_0 12 rfl rfl)
theorem dX4_value_15 : decode cX4_value 15 = .ok (.invokevirtual 114, 3) := dk_182 0 114 (dk_at dksX4_value_0 15 rfl rfl)
theorem dX4_value_18 : decode cX4_value 18 = .ok (.ifCond .eq 34, 3) := dk_153 0 34 (dk_at dksX4_value_0 18 rfl rfl)
theorem dX4_value_21 : decode cX4_value 21 = .ok (.aload_n 0, 1) := dk_42 (dk_at dksX4_value_0 21 rfl rfl)
theorem dX4_value_22 : decode cX4_value 22 = .ok (.iconst 0, 1) := dk_3 (dk_at dksX4_value_0 22 rfl rfl)
theorem dX4_value_23 : decode cX4_value 23 = .ok (.ldc 172, 2) := dk_18 172 (dk_at dksX4_value_1 0 rfl rfl)
theorem dX4_value_25 : decode cX4_value 25 = .ok (.invokevirtual 173, 3) := dk_182 0 173 (dk_at dksX4_value_1 2 rfl rfl)
theorem dX4_value_28 : decode cX4_value 28 = .ok (.ifCond .eq 11, 3) := dk_153 0 11 (dk_at dksX4_value_1 5 rfl rfl)
theorem dX4_value_31 : decode cX4_value 31 = .ok (.aload_n 0, 1) := dk_42 (dk_at dksX4_value_1 8 rfl rfl)
theorem dX4_value_32 : decode cX4_value 32 = .ok (.iload_n 1, 1) := dk_27 (dk_at dksX4_value_1 9 rfl rfl)
theorem dX4_value_33 : decode cX4_value 33 = .ok (.invokevirtual 176, 3) := dk_182 0 176 (dk_at dksX4_value_1 10 rfl rfl)
theorem dX4_value_36 : decode cX4_value 36 = .ok (.ifCond .ne 5, 3) := dk_154 0 5 (dk_at dksX4_value_1 13 rfl rfl)
theorem dX4_value_39 : decode cX4_value 39 = .ok (.iconst 0, 1) := dk_3 (dk_at dksX4_value_1 16 rfl rfl)
theorem dX4_value_40 : decode cX4_value 40 = .ok (.ireturn, 1) := dk_172 (dk_at dksX4_value_1 17 rfl rfl)
theorem dX4_value_41 : decode cX4_value 41 = .ok (.aload_n 0, 1) := dk_42 (dk_at dksX4_value_1 18 rfl rfl)
theorem dX4_value_42 : decode cX4_value 42 = .ok (.iconst 0, 1) := dk_3 (dk_at dksX4_value_1 19 rfl rfl)
theorem dX4_value_43 : decode cX4_value 43 = .ok (.aload_n 0, 1) := dk_42 (dk_at dksX4_value_1 20 rfl rfl)
theorem dX4_value_44 : decode cX4_value 44 = .ok (.getfield 121, 3) := dk_180 0 121 (dk_at dksX4_value_1 21 rfl rfl)
theorem dX4_value_47 : decode cX4_value 47 = .ok (.invokevirtual 168, 3) := dk_182 0 168 (dk_at dksX4_value_2 0 rfl rfl)
theorem dX4_value_50 : decode cX4_value 50 = .ok (.iconst 1, 1) := dk_4 (dk_at dksX4_value_2 3 rfl rfl)
theorem dX4_value_51 : decode cX4_value 51 = .ok (.ireturn, 1) := dk_172 (dk_at dksX4_value_2 4 rfl rfl)
theorem dX4_value_52 : decode cX4_value 52 = .ok (.aload_n 0, 1) := dk_42 (dk_at dksX4_value_2 5 rfl rfl)
theorem dX4_value_53 : decode cX4_value 53 = .ok (.invokevirtual 179, 3) := dk_182 0 179 (dk_at dksX4_value_2 6 rfl rfl)
theorem dX4_value_56 : decode cX4_value 56 = .ok (.istore_n 2, 1) := dk_61 (dk_at dksX4_value_2 9 rfl rfl)
theorem dX4_value_57 : decode cX4_value 57 = .ok (.iload_n 2, 1) := dk_28 (dk_at dksX4_value_2 10 rfl rfl)
theorem dX4_value_58 : decode cX4_value 58 = .ok (.ifCond .ge 10, 3) := dk_156 0 10 (dk_at dksX4_value_2 11 rfl rfl)
theorem dX4_value_61 : decode cX4_value 61 = .ok (.aload_n 0, 1) := dk_42 (dk_at dksX4_value_2 14 rfl rfl)
theorem dX4_value_62 : decode cX4_value 62 = .ok (.iconst 0, 1) := dk_3 (dk_at dksX4_value_2 15 rfl rfl)
theorem dX4_value_63 : decode cX4_value 63 = .ok (.iload_n 1, 1) := dk_27 (dk_at dksX4_value_2 16 rfl rfl)
theorem dX4_value_64 : decode cX4_value 64 = .ok (.invokevirtual 117, 3) := dk_182 0 117 (dk_at dksX4_value_2 17 rfl rfl)
theorem dX4_value_67 : decode cX4_value 67 = .ok (.ireturn, 1) := dk_172 (dk_at dksX4_value_2 20 rfl rfl)
theorem dX4_value_68 : decode cX4_value 68 = .ok (.aload_n 0, 1) := dk_42 (dk_at dksX4_value_2 21 rfl rfl)
theorem dX4_value_69 : decode cX4_value 69 = .ok (.iload_n 1, 1) := dk_27 (dk_at dksX4_value_2 22 rfl rfl)
theorem dX4_value_70 : decode cX4_value 70 = .ok (.invokevirtual 176, 3) := dk_182 0 176 (dk_at dksX4_value_3 0 rfl rfl)
theorem dX4_value_73 : decode cX4_value 73 = .ok (.ifCond .ne 5, 3) := dk_154 0 5 (dk_at dksX4_value_3 3 rfl rfl)
theorem dX4_value_76 : decode cX4_value 76 = .ok (.iconst 0, 1) := dk_3 (dk_at dksX4_value_3 6 rfl rfl)
theorem dX4_value_77 : decode cX4_value 77 = .ok (.ireturn, 1) := dk_172 (dk_at dksX4_value_3 7 rfl rfl)
theorem dX4_value_78 : decode cX4_value 78 = .ok (.aload_n 0, 1) := dk_42 (dk_at dksX4_value_3 8 rfl rfl)
theorem dX4_value_79 : decode cX4_value 79 = .ok (.invokevirtual 111, 3) := dk_182 0 111 (dk_at dksX4_value_3 9 rfl rfl)
theorem dX4_value_82 : decode cX4_value 82 = .ok (.aload_n 0, 1) := dk_42 (dk_at dksX4_value_3 12 rfl rfl)
theorem dX4_value_83 : decode cX4_value 83 = .ok (.iconst 1, 1) := dk_4 (dk_at dksX4_value_3 13 rfl rfl)
theorem dX4_value_84 : decode cX4_value 84 = .ok (.iload_n 2, 1) := dk_28 (dk_at dksX4_value_3 14 rfl rfl)
theorem dX4_value_85 : decode cX4_value 85 = .ok (.invokevirtual 168, 3) := dk_182 0 168 (dk_at dksX4_value_3 15 rfl rfl)
theorem dX4_value_88 : decode cX4_value 88 = .ok (.iconst 1, 1) := dk_4 (dk_at dksX4_value_3 18 rfl rfl)
theorem dX4_value_89 : decode cX4_value 89 = .ok (.ireturn, 1) := dk_172 (dk_at dksX4_value_3 19 rfl rfl)
abbrev cX4_makes : ByteArray := prog_19_method_19_code
def yX4_makes : MethodName := ⟨RX4, "makes", "(I)Z"⟩
def dkwX4_makes_1 : List UInt8 := [181, 0, 155, 4, 172]
abbrev dktX4_makes_1 : List UInt8 := dkwX4_makes_1 ++ []
def dkwX4_makes_0 : List UInt8 := [42, 180, 0, 155, 16, 60, 160, 0, 10, 42, 6, 27, 182, 0, 117, 172, 42, 89, 180, 0, 155, 4, 96]
abbrev dktX4_makes_0 : List UInt8 := dkwX4_makes_0 ++ dktX4_makes_1
theorem dksX4_makes_0 : cX4_makes.data.toList.drop 0 = dktX4_makes_0 := by decide +kernel
theorem dksX4_makes_1 : cX4_makes.data.toList.drop 23 = dktX4_makes_1 := dk_seg dksX4_makes_0 23 rfl rfl
theorem dX4_makes_0 : decode cX4_makes 0 = .ok (.aload_n 0, 1) := dk_42 (dk_at dksX4_makes_0 0 rfl rfl)
theorem dX4_makes_1 : decode cX4_makes 1 = .ok (.getfield 155, 3) := dk_180 0 155 (dk_at dksX4_makes_0 1 rfl rfl)
theorem dX4_makes_4 : decode cX4_makes 4 = .ok (.bipush 60, 2) := dk_16 60 (dk_at dksX4_makes_0 4 rfl rfl)
theorem dX4_makes_6 : decode cX4_makes 6 = .ok (.if_icmp .ne 10, 3) := dk_160 0 10 (dk_at dksX4_makes_0 6 rfl rfl)
theorem dX4_makes_9 : decode cX4_makes 9 = .ok (.aload_n 0, 1) := dk_42 (dk_at dksX4_makes_0 9 rfl rfl)
theorem dX4_makes_10 : decode cX4_makes 10 = .ok (.iconst 3, 1) := dk_6 (dk_at dksX4_makes_0 10 rfl rfl)
theorem dX4_makes_11 : decode cX4_makes 11 = .ok (.iload_n 1, 1) := dk_27 (dk_at dksX4_makes_0 11 rfl rfl)
theorem dX4_makes_12 : decode cX4_makes 12 = .ok (.invokevirtual 117, 3) := dk_182 0 117 (dk_at dksX4_makes_0 12 rfl rfl)
theorem dX4_makes_15 : decode cX4_makes 15 = .ok (.ireturn, 1) := dk_172 (dk_at dksX4_makes_0 15 rfl rfl)
theorem dX4_makes_16 : decode cX4_makes 16 = .ok (.aload_n 0, 1) := dk_42 (dk_at dksX4_makes_0 16 rfl rfl)
theorem dX4_makes_17 : decode cX4_makes 17 = .ok (.dup, 1) := dk_89 (dk_at dksX4_makes_0 17 rfl rfl)
theorem dX4_makes_18 : decode cX4_makes 18 = .ok (.getfield 155, 3) := dk_180 0 155 (dk_at dksX4_makes_0 18 rfl rfl)
theorem dX4_makes_21 : decode cX4_makes 21 = .ok (.iconst 1, 1) := dk_4 (dk_at dksX4_makes_0 21 rfl rfl)
theorem dX4_makes_22 : decode cX4_makes 22 = .ok (.iadd, 1) := dk_96 (dk_at dksX4_makes_0 22 rfl rfl)
theorem dX4_makes_23 : decode cX4_makes 23 = .ok (.putfield 155, 3) := dk_181 0 155 (dk_at dksX4_makes_1 0 rfl rfl)
theorem dX4_makes_26 : decode cX4_makes 26 = .ok (.iconst 1, 1) := dk_4 (dk_at dksX4_makes_1 3 rfl rfl)
theorem dX4_makes_27 : decode cX4_makes 27 = .ok (.ireturn, 1) := dk_172 (dk_at dksX4_makes_1 4 rfl rfl)
abbrev cX4_puts : ByteArray := prog_19_method_18_code
def yX4_puts : MethodName := ⟨RX4, "puts", "(II)V"⟩
def dkwX4_puts_1 : List UInt8 := [16, 16, 28, 104, 96, 79, 42, 180, 0, 17, 42, 180, 0, 152, 92, 46, 4, 96, 79, 177]
abbrev dktX4_puts_1 : List UInt8 := dkwX4_puts_1 ++ []
def dkwX4_puts_0 : List UInt8 := [42, 180, 0, 13, 17, 1, 144, 42, 180, 0, 152, 104, 42, 180, 0, 17, 42, 180, 0, 152, 46, 96, 27]
abbrev dktX4_puts_0 : List UInt8 := dkwX4_puts_0 ++ dktX4_puts_1
theorem dksX4_puts_0 : cX4_puts.data.toList.drop 0 = dktX4_puts_0 := by decide +kernel
theorem dksX4_puts_1 : cX4_puts.data.toList.drop 23 = dktX4_puts_1 := dk_seg dksX4_puts_0 23 rfl rfl
theorem dX4_puts_0 : decode cX4_puts 0 = .ok (.aload_n 0, 1) := dk_42 (dk_at dksX4_puts_0 0 rfl rfl)
theorem dX4_puts_1 : decode cX4_puts 1 = .ok (.getfield 13, 3) := dk_180 0 13 (dk_at dksX4_puts_0 1 rfl rfl)
theorem dX4_puts_4 : decode cX4_puts 4 = .ok (.sipush 400, 3) := dk_17 1 144 (dk_at dksX4_puts_0 4 rfl rfl)
theorem dX4_puts_7 : decode cX4_puts 7 = .ok (.aload_n 0, 1) := dk_42 (dk_at dksX4_puts_0 7 rfl rfl)
theorem dX4_puts_8 : decode cX4_puts 8 = .ok (.getfield 152, 3) := dk_180 0 152 (dk_at dksX4_puts_0 8 rfl rfl)
theorem dX4_puts_11 : decode cX4_puts 11 = .ok (.imul, 1) := dk_104 (dk_at dksX4_puts_0 11 rfl rfl)
theorem dX4_puts_12 : decode cX4_puts 12 = .ok (.aload_n 0, 1) := dk_42 (dk_at dksX4_puts_0 12 rfl rfl)
theorem dX4_puts_13 : decode cX4_puts 13 = .ok (.getfield 17, 3) := dk_180 0 17 (dk_at dksX4_puts_0 13 rfl rfl)
theorem dX4_puts_16 : decode cX4_puts 16 = .ok (.aload_n 0, 1) := dk_42 (dk_at dksX4_puts_0 16 rfl rfl)
theorem dX4_puts_17 : decode cX4_puts 17 = .ok (.getfield 152, 3) := dk_180 0 152 (dk_at dksX4_puts_0 17 rfl rfl)
theorem dX4_puts_20 : decode cX4_puts 20 = .ok (.iaload, 1) := dk_46 (dk_at dksX4_puts_0 20 rfl rfl)
theorem dX4_puts_21 : decode cX4_puts 21 = .ok (.iadd, 1) := dk_96 (dk_at dksX4_puts_0 21 rfl rfl)
theorem dX4_puts_22 : decode cX4_puts 22 = .ok (.iload_n 1, 1) := dk_27 (dk_at dksX4_puts_0 22 rfl rfl)
theorem dX4_puts_23 : decode cX4_puts 23 = .ok (.bipush 16, 2) := dk_16 16 (dk_at dksX4_puts_1 0 rfl rfl)
theorem dX4_puts_25 : decode cX4_puts 25 = .ok (.iload_n 2, 1) := dk_28 (dk_at dksX4_puts_1 2 rfl rfl)
theorem dX4_puts_26 : decode cX4_puts 26 = .ok (.imul, 1) := dk_104 (dk_at dksX4_puts_1 3 rfl rfl)
theorem dX4_puts_27 : decode cX4_puts 27 = .ok (.iadd, 1) := dk_96 (dk_at dksX4_puts_1 4 rfl rfl)
theorem dX4_puts_28 : decode cX4_puts 28 = .ok (.iastore, 1) := dk_79 (dk_at dksX4_puts_1 5 rfl rfl)
theorem dX4_puts_29 : decode cX4_puts 29 = .ok (.aload_n 0, 1) := dk_42 (dk_at dksX4_puts_1 6 rfl rfl)
theorem dX4_puts_30 : decode cX4_puts 30 = .ok (.getfield 17, 3) := dk_180 0 17 (dk_at dksX4_puts_1 7 rfl rfl)
theorem dX4_puts_33 : decode cX4_puts 33 = .ok (.aload_n 0, 1) := dk_42 (dk_at dksX4_puts_1 10 rfl rfl)
theorem dX4_puts_34 : decode cX4_puts 34 = .ok (.getfield 152, 3) := dk_180 0 152 (dk_at dksX4_puts_1 11 rfl rfl)
theorem dX4_puts_37 : decode cX4_puts 37 = .ok (.dup2, 1) := dk_92 (dk_at dksX4_puts_1 14 rfl rfl)
theorem dX4_puts_38 : decode cX4_puts 38 = .ok (.iaload, 1) := dk_46 (dk_at dksX4_puts_1 15 rfl rfl)
theorem dX4_puts_39 : decode cX4_puts 39 = .ok (.iconst 1, 1) := dk_4 (dk_at dksX4_puts_1 16 rfl rfl)
theorem dX4_puts_40 : decode cX4_puts 40 = .ok (.iadd, 1) := dk_96 (dk_at dksX4_puts_1 17 rfl rfl)
theorem dX4_puts_41 : decode cX4_puts 41 = .ok (.iastore, 1) := dk_79 (dk_at dksX4_puts_1 18 rfl rfl)
theorem dX4_puts_42 : decode cX4_puts 42 = .ok (.return_, 1) := dk_177 (dk_at dksX4_puts_1 19 rfl rfl)
abbrev cX4_wordHere : ByteArray := prog_19_method_17_code
def yX4_wordHere : MethodName := ⟨RX4, "wordHere", "()I"⟩
def dkwX4_wordHere_6 : List UInt8 := [20, 0, 150, 182, 0, 107, 153, 0, 8, 16, 11, 167, 0, 4, 2, 172]
abbrev dktX4_wordHere_6 : List UInt8 := dkwX4_wordHere_6 ++ []
def dkwX4_wordHere_5 : List UInt8 := [153, 0, 6, 16, 9, 172, 42, 20, 0, 148, 182, 0, 107, 153, 0, 8, 16, 10, 167, 0, 19, 42]
abbrev dktX4_wordHere_5 : List UInt8 := dkwX4_wordHere_5 ++ dktX4_wordHere_6
def dkwX4_wordHere_4 : List UInt8 := [16, 7, 172, 42, 20, 0, 144, 182, 0, 107, 153, 0, 6, 16, 8, 172, 42, 20, 0, 146, 182, 0, 107]
abbrev dktX4_wordHere_4 : List UInt8 := dkwX4_wordHere_4 ++ dktX4_wordHere_5
def dkwX4_wordHere_3 : List UInt8 := [42, 20, 0, 140, 182, 0, 107, 153, 0, 6, 16, 6, 172, 42, 20, 0, 142, 182, 0, 107, 153, 0, 6]
abbrev dktX4_wordHere_3 : List UInt8 := dkwX4_wordHere_3 ++ dktX4_wordHere_4
def dkwX4_wordHere_2 : List UInt8 := [42, 20, 0, 136, 182, 0, 107, 153, 0, 5, 7, 172, 42, 20, 0, 138, 182, 0, 107, 153, 0, 5, 8, 172]
abbrev dktX4_wordHere_2 : List UInt8 := dkwX4_wordHere_2 ++ dktX4_wordHere_3
def dkwX4_wordHere_1 : List UInt8 := [42, 20, 0, 132, 182, 0, 107, 153, 0, 5, 5, 172, 42, 20, 0, 134, 182, 0, 107, 153, 0, 5, 6, 172]
abbrev dktX4_wordHere_1 : List UInt8 := dkwX4_wordHere_1 ++ dktX4_wordHere_2
def dkwX4_wordHere_0 : List UInt8 := [42, 20, 0, 128, 182, 0, 107, 153, 0, 5, 3, 172, 42, 20, 0, 130, 182, 0, 107, 153, 0, 5, 4, 172]
abbrev dktX4_wordHere_0 : List UInt8 := dkwX4_wordHere_0 ++ dktX4_wordHere_1
theorem dksX4_wordHere_0 : cX4_wordHere.data.toList.drop 0 = dktX4_wordHere_0 := by decide +kernel
theorem dksX4_wordHere_1 : cX4_wordHere.data.toList.drop 24 = dktX4_wordHere_1 := dk_seg dksX4_wordHere_0 24 rfl rfl
theorem dksX4_wordHere_2 : cX4_wordHere.data.toList.drop 48 = dktX4_wordHere_2 := dk_seg dksX4_wordHere_1 24 rfl rfl
theorem dksX4_wordHere_3 : cX4_wordHere.data.toList.drop 72 = dktX4_wordHere_3 := dk_seg dksX4_wordHere_2 24 rfl rfl
theorem dksX4_wordHere_4 : cX4_wordHere.data.toList.drop 95 = dktX4_wordHere_4 := dk_seg dksX4_wordHere_3 23 rfl rfl
theorem dksX4_wordHere_5 : cX4_wordHere.data.toList.drop 118 = dktX4_wordHere_5 := dk_seg dksX4_wordHere_4 23 rfl rfl
theorem dksX4_wordHere_6 : cX4_wordHere.data.toList.drop 140 = dktX4_wordHere_6 := dk_seg dksX4_wordHere_5 22 rfl rfl
theorem dX4_wordHere_0 : decode cX4_wordHere 0 = .ok (.aload_n 0, 1) := dk_42 (dk_at dksX4_wordHere_0 0 rfl rfl)
theorem dX4_wordHere_1 : decode cX4_wordHere 1 = .ok (.ldc2_w 128, 3) := dk_20 0 128 (dk_at dksX4_wordHere_0 1 rfl rfl)
theorem dX4_wordHere_4 : decode cX4_wordHere 4 = .ok (.invokevirtual 107, 3) := dk_182 0 107 (dk_at dksX4_wordHere_0 4 rfl rfl)
theorem dX4_wordHere_7 : decode cX4_wordHere 7 = .ok (.ifCond .eq 5, 3) := dk_153 0 5 (dk_at dksX4_wordHere_0 7 rfl rfl)
theorem dX4_wordHere_10 : decode cX4_wordHere 10 = .ok (.iconst 0, 1) := dk_3 (dk_at dksX4_wordHere_0 10 rfl rfl)
theorem dX4_wordHere_11 : decode cX4_wordHere 11 = .ok (.ireturn, 1) := dk_172 (dk_at dksX4_wordHere_0 11 rfl rfl)
theorem dX4_wordHere_12 : decode cX4_wordHere 12 = .ok (.aload_n 0, 1) := dk_42 (dk_at dksX4_wordHere_0 12 rfl rfl)
theorem dX4_wordHere_13 : decode cX4_wordHere 13 = .ok (.ldc2_w 130, 3) := dk_20 0 130 (dk_at dksX4_wordHere_0 13 rfl rfl)
theorem dX4_wordHere_16 : decode cX4_wordHere 16 = .ok (.invokevirtual 107, 3) := dk_182 0 107 (dk_at dksX4_wordHere_0 16 rfl rfl)
theorem dX4_wordHere_19 : decode cX4_wordHere 19 = .ok (.ifCond .eq 5, 3) := dk_153 0 5 (dk_at dksX4_wordHere_0 19 rfl rfl)
theorem dX4_wordHere_22 : decode cX4_wordHere 22 = .ok (.iconst 1, 1) := dk_4 (dk_at dksX4_wordHere_0 22 rfl rfl)
theorem dX4_wordHere_23 : decode cX4_wordHere 23 = .ok (.ireturn, 1) := dk_172 (dk_at dksX4_wordHere_0 23 rfl rfl)
theorem dX4_wordHere_24 : decode cX4_wordHere 24 = .ok (.aload_n 0, 1) := dk_42 (dk_at dksX4_wordHere_1 0 rfl rfl)
theorem dX4_wordHere_25 : decode cX4_wordHere 25 = .ok (.ldc2_w 132, 3) := dk_20 0 132 (dk_at dksX4_wordHere_1 1 rfl rfl)
theorem dX4_wordHere_28 : decode cX4_wordHere 28 = .ok (.invokevirtual 107, 3) := dk_182 0 107 (dk_at dksX4_wordHere_1 4 rfl rfl)
theorem dX4_wordHere_31 : decode cX4_wordHere 31 = .ok (.ifCond .eq 5, 3) := dk_153 0 5 (dk_at dksX4_wordHere_1 7 rfl rfl)
theorem dX4_wordHere_34 : decode cX4_wordHere 34 = .ok (.iconst 2, 1) := dk_5 (dk_at dksX4_wordHere_1 10 rfl rfl)
theorem dX4_wordHere_35 : decode cX4_wordHere 35 = .ok (.ireturn, 1) := dk_172 (dk_at dksX4_wordHere_1 11 rfl rfl)
theorem dX4_wordHere_36 : decode cX4_wordHere 36 = .ok (.aload_n 0, 1) := dk_42 (dk_at dksX4_wordHere_1 12 rfl rfl)
theorem dX4_wordHere_37 : decode cX4_wordHere 37 = .ok (.ldc2_w 134, 3) := dk_20 0 134 (dk_at dksX4_wordHere_1 13 rfl rfl)
theorem dX4_wordHere_40 : decode cX4_wordHere 40 = .ok (.invokevirtual 107, 3) := dk_182 0 107 (dk_at dksX4_wordHere_1 16 rfl rfl)
theorem dX4_wordHere_43 : decode cX4_wordHere 43 = .ok (.ifCond .eq 5, 3) := dk_153 0 5 (dk_at dksX4_wordHere_1 19 rfl rfl)
theorem dX4_wordHere_46 : decode cX4_wordHere 46 = .ok (.iconst 3, 1) := dk_6 (dk_at dksX4_wordHere_1 22 rfl rfl)
theorem dX4_wordHere_47 : decode cX4_wordHere 47 = .ok (.ireturn, 1) := dk_172 (dk_at dksX4_wordHere_1 23 rfl rfl)
theorem dX4_wordHere_48 : decode cX4_wordHere 48 = .ok (.aload_n 0, 1) := dk_42 (dk_at dksX4_wordHere_2 0 rfl rfl)
theorem dX4_wordHere_49 : decode cX4_wordHere 49 = .ok (.ldc2_w 136, 3) := dk_20 0 136 (dk_at dksX4_wordHere_2 1 rfl rfl)
theorem dX4_wordHere_52 : decode cX4_wordHere 52 = .ok (.invokevirtual 107, 3) := dk_182 0 107 (dk_at dksX4_wordHere_2 4 rfl rfl)
theorem dX4_wordHere_55 : decode cX4_wordHere 55 = .ok (.ifCond .eq 5, 3) := dk_153 0 5 (dk_at dksX4_wordHere_2 7 rfl rfl)
theorem dX4_wordHere_58 : decode cX4_wordHere 58 = .ok (.iconst 4, 1) := dk_7 (dk_at dksX4_wordHere_2 10 rfl rfl)
theorem dX4_wordHere_59 : decode cX4_wordHere 59 = .ok (.ireturn, 1) := dk_172 (dk_at dksX4_wordHere_2 11 rfl rfl)
theorem dX4_wordHere_60 : decode cX4_wordHere 60 = .ok (.aload_n 0, 1) := dk_42 (dk_at dksX4_wordHere_2 12 rfl rfl)
theorem dX4_wordHere_61 : decode cX4_wordHere 61 = .ok (.ldc2_w 138, 3) := dk_20 0 138 (dk_at dksX4_wordHere_2 13 rfl rfl)
theorem dX4_wordHere_64 : decode cX4_wordHere 64 = .ok (.invokevirtual 107, 3) := dk_182 0 107 (dk_at dksX4_wordHere_2 16 rfl rfl)
theorem dX4_wordHere_67 : decode cX4_wordHere 67 = .ok (.ifCond .eq 5, 3) := dk_153 0 5 (dk_at dksX4_wordHere_2 19 rfl rfl)
theorem dX4_wordHere_70 : decode cX4_wordHere 70 = .ok (.iconst 5, 1) := dk_8 (dk_at dksX4_wordHere_2 22 rfl rfl)
theorem dX4_wordHere_71 : decode cX4_wordHere 71 = .ok (.ireturn, 1) := dk_172 (dk_at dksX4_wordHere_2 23 rfl rfl)
theorem dX4_wordHere_72 : decode cX4_wordHere 72 = .ok (.aload_n 0, 1) := dk_42 (dk_at dksX4_wordHere_3 0 rfl rfl)
theorem dX4_wordHere_73 : decode cX4_wordHere 73 = .ok (.ldc2_w 140, 3) := dk_20 0 140 (dk_at dksX4_wordHere_3 1 rfl rfl)
theorem dX4_wordHere_76 : decode cX4_wordHere 76 = .ok (.invokevirtual 107, 3) := dk_182 0 107 (dk_at dksX4_wordHere_3 4 rfl rfl)
theorem dX4_wordHere_79 : decode cX4_wordHere 79 = .ok (.ifCond .eq 6, 3) := dk_153 0 6 (dk_at dksX4_wordHere_3 7 rfl rfl)
theorem dX4_wordHere_82 : decode cX4_wordHere 82 = .ok (.bipush 6, 2) := dk_16 6 (dk_at dksX4_wordHere_3 10 rfl rfl)
theorem dX4_wordHere_84 : decode cX4_wordHere 84 = .ok (.ireturn, 1) := dk_172 (dk_at dksX4_wordHere_3 12 rfl rfl)
theorem dX4_wordHere_85 : decode cX4_wordHere 85 = .ok (.aload_n 0, 1) := dk_42 (dk_at dksX4_wordHere_3 13 rfl rfl)
theorem dX4_wordHere_86 : decode cX4_wordHere 86 = .ok (.ldc2_w 142, 3) := dk_20 0 142 (dk_at dksX4_wordHere_3 14 rfl rfl)
theorem dX4_wordHere_89 : decode cX4_wordHere 89 = .ok (.invokevirtual 107, 3) := dk_182 0 107 (dk_at dksX4_wordHere_3 17 rfl rfl)
theorem dX4_wordHere_92 : decode cX4_wordHere 92 = .ok (.ifCond .eq 6, 3) := dk_153 0 6 (dk_at dksX4_wordHere_3 20 rfl rfl)
theorem dX4_wordHere_95 : decode cX4_wordHere 95 = .ok (.bipush 7, 2) := dk_16 7 (dk_at dksX4_wordHere_4 0 rfl rfl)
theorem dX4_wordHere_97 : decode cX4_wordHere 97 = .ok (.ireturn, 1) := dk_172 (dk_at dksX4_wordHere_4 2 rfl rfl)
theorem dX4_wordHere_98 : decode cX4_wordHere 98 = .ok (.aload_n 0, 1) := dk_42 (dk_at dksX4_wordHere_4 3 rfl rfl)
theorem dX4_wordHere_99 : decode cX4_wordHere 99 = .ok (.ldc2_w 144, 3) := dk_20 0 144 (dk_at dksX4_wordHere_4 4 rfl rfl)
theorem dX4_wordHere_102 : decode cX4_wordHere 102 = .ok (.invokevirtual 107, 3) := dk_182 0 107 (dk_at dksX4_wordHere_4 7 rfl rfl)
theorem dX4_wordHere_105 : decode cX4_wordHere 105 = .ok (.ifCond .eq 6, 3) := dk_153 0 6 (dk_at dksX4_wordHere_4 10 rfl rfl)
theorem dX4_wordHere_108 : decode cX4_wordHere 108 = .ok (.bipush 8, 2) := dk_16 8 (dk_at dksX4_wordHere_4 13 rfl rfl)
theorem dX4_wordHere_110 : decode cX4_wordHere 110 = .ok (.ireturn, 1) := dk_172 (dk_at dksX4_wordHere_4 15 rfl rfl)
theorem dX4_wordHere_111 : decode cX4_wordHere 111 = .ok (.aload_n 0, 1) := dk_42 (dk_at dksX4_wordHere_4 16 rfl rfl)
theorem dX4_wordHere_112 : decode cX4_wordHere 112 = .ok (.ldc2_w 146, 3) := dk_20 0 146 (dk_at dksX4_wordHere_4 17 rfl rfl)
theorem dX4_wordHere_115 : decode cX4_wordHere 115 = .ok (.invokevirtual 107, 3) := dk_182 0 107 (dk_at dksX4_wordHere_4 20 rfl rfl)
theorem dX4_wordHere_118 : decode cX4_wordHere 118 = .ok (.ifCond .eq 6, 3) := dk_153 0 6 (dk_at dksX4_wordHere_5 0 rfl rfl)
theorem dX4_wordHere_121 : decode cX4_wordHere 121 = .ok (.bipush 9, 2) := dk_16 9 (dk_at dksX4_wordHere_5 3 rfl rfl)
theorem dX4_wordHere_123 : decode cX4_wordHere 123 = .ok (.ireturn, 1) := dk_172 (dk_at dksX4_wordHere_5 5 rfl rfl)
theorem dX4_wordHere_124 : decode cX4_wordHere 124 = .ok (.aload_n 0, 1) := dk_42 (dk_at dksX4_wordHere_5 6 rfl rfl)
theorem dX4_wordHere_125 : decode cX4_wordHere 125 = .ok (.ldc2_w 148, 3) := dk_20 0 148 (dk_at dksX4_wordHere_5 7 rfl rfl)
theorem dX4_wordHere_128 : decode cX4_wordHere 128 = .ok (.invokevirtual 107, 3) := dk_182 0 107 (dk_at dksX4_wordHere_5 10 rfl rfl)
theorem dX4_wordHere_131 : decode cX4_wordHere 131 = .ok (.ifCond .eq 8, 3) := dk_153 0 8 (dk_at dksX4_wordHere_5 13 rfl rfl)
theorem dX4_wordHere_134 : decode cX4_wordHere 134 = .ok (.bipush 10, 2) := dk_16 10 (dk_at dksX4_wordHere_5 16 rfl rfl)
theorem dX4_wordHere_136 : decode cX4_wordHere 136 = .ok (.goto 19, 3) := dk_167 0 19 (dk_at dksX4_wordHere_5 18 rfl rfl)
theorem dX4_wordHere_139 : decode cX4_wordHere 139 = .ok (.aload_n 0, 1) := dk_42 (dk_at dksX4_wordHere_5 21 rfl rfl)
theorem dX4_wordHere_140 : decode cX4_wordHere 140 = .ok (.ldc2_w 150, 3) := dk_20 0 150 (dk_at dksX4_wordHere_6 0 rfl rfl)
theorem dX4_wordHere_143 : decode cX4_wordHere 143 = .ok (.invokevirtual 107, 3) := dk_182 0 107 (dk_at dksX4_wordHere_6 3 rfl rfl)
theorem dX4_wordHere_146 : decode cX4_wordHere 146 = .ok (.ifCond .eq 8, 3) := dk_153 0 8 (dk_at dksX4_wordHere_6 6 rfl rfl)
theorem dX4_wordHere_149 : decode cX4_wordHere 149 = .ok (.bipush 11, 2) := dk_16 11 (dk_at dksX4_wordHere_6 9 rfl rfl)
theorem dX4_wordHere_151 : decode cX4_wordHere 151 = .ok (.goto 4, 3) := dk_167 0 4 (dk_at dksX4_wordHere_6 11 rfl rfl)
theorem dX4_wordHere_154 : decode cX4_wordHere 154 = .ok (.iconst (-1), 1) := dk_2 (dk_at dksX4_wordHere_6 14 rfl rfl)
theorem dX4_wordHere_155 : decode cX4_wordHere 155 = .ok (.ireturn, 1) := dk_172 (dk_at dksX4_wordHere_6 15 rfl rfl)
abbrev cX4_takesWord : ByteArray := prog_19_method_15_code
def yX4_takesWord : MethodName := ⟨RX4, "takesWord", "(J)Z"⟩
def dkwX4_takesWord_0 : List UInt8 := [42, 31, 182, 0, 107, 154, 0, 5, 3, 172, 42, 182, 0, 111, 4, 172]
abbrev dktX4_takesWord_0 : List UInt8 := dkwX4_takesWord_0 ++ []
theorem dksX4_takesWord_0 : cX4_takesWord.data.toList.drop 0 = dktX4_takesWord_0 := by decide +kernel
theorem dX4_takesWord_0 : decode cX4_takesWord 0 = .ok (.aload_n 0, 1) := dk_42 (dk_at dksX4_takesWord_0 0 rfl rfl)
theorem dX4_takesWord_1 : decode cX4_takesWord 1 = .ok (.lload_n 1, 1) := dk_31 (dk_at dksX4_takesWord_0 1 rfl rfl)
theorem dX4_takesWord_2 : decode cX4_takesWord 2 = .ok (.invokevirtual 107, 3) := dk_182 0 107 (dk_at dksX4_takesWord_0 2 rfl rfl)
theorem dX4_takesWord_5 : decode cX4_takesWord 5 = .ok (.ifCond .ne 5, 3) := dk_154 0 5 (dk_at dksX4_takesWord_0 5 rfl rfl)
theorem dX4_takesWord_8 : decode cX4_takesWord 8 = .ok (.iconst 0, 1) := dk_3 (dk_at dksX4_takesWord_0 8 rfl rfl)
theorem dX4_takesWord_9 : decode cX4_takesWord 9 = .ok (.ireturn, 1) := dk_172 (dk_at dksX4_takesWord_0 9 rfl rfl)
theorem dX4_takesWord_10 : decode cX4_takesWord 10 = .ok (.aload_n 0, 1) := dk_42 (dk_at dksX4_takesWord_0 10 rfl rfl)
theorem dX4_takesWord_11 : decode cX4_takesWord 11 = .ok (.invokevirtual 111, 3) := dk_182 0 111 (dk_at dksX4_takesWord_0 11 rfl rfl)
theorem dX4_takesWord_14 : decode cX4_takesWord 14 = .ok (.iconst 1, 1) := dk_4 (dk_at dksX4_takesWord_0 14 rfl rfl)
theorem dX4_takesWord_15 : decode cX4_takesWord 15 = .ok (.ireturn, 1) := dk_172 (dk_at dksX4_takesWord_0 15 rfl rfl)
abbrev cX4_tested : ByteArray := prog_19_method_30_code
def yX4_tested : MethodName := ⟨RX4, "tested", "()Z"⟩
def dkwX4_tested_6 : List UInt8 := [172]
abbrev dktX4_tested_6 : List UInt8 := dkwX4_tested_6 ++ []
def dkwX4_tested_5 : List UInt8 := [153, 0, 18, 42, 182, 0, 99, 87, 42, 3, 42, 180, 0, 96, 182, 0, 117, 172, 42, 4, 182, 0, 200, 4]
abbrev dktX4_tested_5 : List UInt8 := dkwX4_tested_5 ++ dktX4_tested_6
def dkwX4_tested_4 : List UInt8 := [42, 180, 0, 161, 28, 79, 42, 89, 180, 0, 161, 4, 96, 181, 0, 161, 167, 255, 159, 42, 182, 0, 203]
abbrev dktX4_tested_4 : List UInt8 := dkwX4_tested_4 ++ dktX4_tested_5
def dkwX4_tested_3 : List UInt8 := [16, 12, 167, 0, 5, 16, 13, 61, 42, 182, 0, 111, 42, 28, 184, 0, 164, 182, 0, 200, 42, 180, 0, 29]
abbrev dktX4_tested_3 : List UInt8 := dkwX4_tested_3 ++ dktX4_tested_4
def dkwX4_tested_2 : List UInt8 := [153, 0, 7, 4, 167, 0, 4, 3, 60, 27, 153, 255, 212, 42, 20, 0, 212, 182, 0, 107, 153, 0, 8]
abbrev dktX4_tested_2 : List UInt8 := dkwX4_tested_2 ++ dktX4_tested_3
def dkwX4_tested_1 : List UInt8 := [172, 42, 182, 0, 209, 42, 20, 0, 212, 182, 0, 107, 154, 0, 13, 42, 20, 0, 214, 182, 0, 107]
abbrev dktX4_tested_1 : List UInt8 := dkwX4_tested_1 ++ dktX4_tested_2
def dkwX4_tested_0 : List UInt8 := [42, 3, 181, 0, 161, 42, 3, 181, 0, 158, 4, 60, 27, 153, 0, 99, 42, 182, 0, 206, 154, 0, 5, 3]
abbrev dktX4_tested_0 : List UInt8 := dkwX4_tested_0 ++ dktX4_tested_1
theorem dksX4_tested_0 : cX4_tested.data.toList.drop 0 = dktX4_tested_0 := by decide +kernel
theorem dksX4_tested_1 : cX4_tested.data.toList.drop 24 = dktX4_tested_1 := dk_seg dksX4_tested_0 24 rfl rfl
theorem dksX4_tested_2 : cX4_tested.data.toList.drop 46 = dktX4_tested_2 := dk_seg dksX4_tested_1 22 rfl rfl
theorem dksX4_tested_3 : cX4_tested.data.toList.drop 69 = dktX4_tested_3 := dk_seg dksX4_tested_2 23 rfl rfl
theorem dksX4_tested_4 : cX4_tested.data.toList.drop 93 = dktX4_tested_4 := dk_seg dksX4_tested_3 24 rfl rfl
theorem dksX4_tested_5 : cX4_tested.data.toList.drop 116 = dktX4_tested_5 := dk_seg dksX4_tested_4 23 rfl rfl
theorem dksX4_tested_6 : cX4_tested.data.toList.drop 140 = dktX4_tested_6 := dk_seg dksX4_tested_5 24 rfl rfl
theorem dX4_tested_0 : decode cX4_tested 0 = .ok (.aload_n 0, 1) := dk_42 (dk_at dksX4_tested_0 0 rfl rfl)
theorem dX4_tested_1 : decode cX4_tested 1 = .ok (.iconst 0, 1) := dk_3 (dk_at dksX4_tested_0 1 rfl rfl)
theorem dX4_tested_2 : decode cX4_tested 2 = .ok (.putfield 161, 3) := dk_181 0 161 (dk_at dksX4_tested_0 2 rfl rfl)
theorem dX4_tested_5 : decode cX4_tested 5 = .ok (.aload_n 0, 1) := dk_42 (dk_at dksX4_tested_0 5 rfl rfl)
theorem dX4_tested_6 : decode cX4_tested 6 = .ok (.iconst 0, 1) := dk_3 (dk_at dksX4_tested_0 6 rfl rfl)
theorem dX4_tested_7 : decode cX4_tested 7 = .ok (.putfield 158, 3) := dk_181 0 158 (dk_at dksX4_tested_0 7 rfl rfl)
theorem dX4_tested_10 : decode cX4_tested 10 = .ok (.iconst 1, 1) := dk_4 (dk_at dksX4_tested_0 10 rfl rfl)
theorem dX4_tested_11 : decode cX4_tested 11 = .ok (.istore_n 1, 1) := dk_60 (dk_at dksX4_tested_0 11 rfl rfl)
theorem dX4_tested_12 : decode cX4_tested 12 = .ok (.iload_n 1, 1) := dk_27 (dk_at dksX4_tested_0 12 rfl rfl)
theorem dX4_tested_13 : decode cX4_tested 13 = .ok (.ifCond .eq 99, 3) := dk_153 0 99 (dk_at dksX4_tested_0 13 rfl rfl)
theorem dX4_tested_16 : decode cX4_tested 16 = .ok (.aload_n 0, 1) := dk_42 (dk_at dksX4_tested_0 16 rfl rfl)
theorem dX4_tested_17 : decode cX4_tested 17 = .ok (.invokevirtual 206, 3) := dk_182 0 206 (dk_at dksX4_tested_0 17 rfl rfl)
theorem dX4_tested_20 : decode cX4_tested 20 = .ok (.ifCond .ne 5, 3) := dk_154 0 5 (dk_at dksX4_tested_0 20 rfl rfl)
theorem dX4_tested_23 : decode cX4_tested 23 = .ok (.iconst 0, 1) := dk_3 (dk_at dksX4_tested_0 23 rfl rfl)
theorem dX4_tested_24 : decode cX4_tested 24 = .ok (.ireturn, 1) := dk_172 (dk_at dksX4_tested_1 0 rfl rfl)
theorem dX4_tested_25 : decode cX4_tested 25 = .ok (.aload_n 0, 1) := dk_42 (dk_at dksX4_tested_1 1 rfl rfl)
theorem dX4_tested_26 : decode cX4_tested 26 = .ok (.invokevirtual 209, 3) := dk_182 0 209 (dk_at dksX4_tested_1 2 rfl rfl)
theorem dX4_tested_29 : decode cX4_tested 29 = .ok (.aload_n 0, 1) := dk_42 (dk_at dksX4_tested_1 5 rfl rfl)
theorem dX4_tested_30 : decode cX4_tested 30 = .ok (.ldc2_w 212, 3) := dk_20 0 212 (dk_at dksX4_tested_1 6 rfl rfl)
theorem dX4_tested_33 : decode cX4_tested 33 = .ok (.invokevirtual 107, 3) := dk_182 0 107 (dk_at dksX4_tested_1 9 rfl rfl)
theorem dX4_tested_36 : decode cX4_tested 36 = .ok (.ifCond .ne 13, 3) := dk_154 0 13 (dk_at dksX4_tested_1 12 rfl rfl)
theorem dX4_tested_39 : decode cX4_tested 39 = .ok (.aload_n 0, 1) := dk_42 (dk_at dksX4_tested_1 15 rfl rfl)
theorem dX4_tested_40 : decode cX4_tested 40 = .ok (.ldc2_w 214, 3) := dk_20 0 214 (dk_at dksX4_tested_1 16 rfl rfl)
theorem dX4_tested_43 : decode cX4_tested 43 = .ok (.invokevirtual 107, 3) := dk_182 0 107 (dk_at dksX4_tested_1 19 rfl rfl)
theorem dX4_tested_46 : decode cX4_tested 46 = .ok (.ifCond .eq 7, 3) := dk_153 0 7 (dk_at dksX4_tested_2 0 rfl rfl)
theorem dX4_tested_49 : decode cX4_tested 49 = .ok (.iconst 1, 1) := dk_4 (dk_at dksX4_tested_2 3 rfl rfl)
theorem dX4_tested_50 : decode cX4_tested 50 = .ok (.goto 4, 3) := dk_167 0 4 (dk_at dksX4_tested_2 4 rfl rfl)
theorem dX4_tested_53 : decode cX4_tested 53 = .ok (.iconst 0, 1) := dk_3 (dk_at dksX4_tested_2 7 rfl rfl)
theorem dX4_tested_54 : decode cX4_tested 54 = .ok (.istore_n 1, 1) := dk_60 (dk_at dksX4_tested_2 8 rfl rfl)
theorem dX4_tested_55 : decode cX4_tested 55 = .ok (.iload_n 1, 1) := dk_27 (dk_at dksX4_tested_2 9 rfl rfl)
theorem dX4_tested_56 : decode cX4_tested 56 = .ok (.ifCond .eq (-44), 3) := dk_153 255 212 (dk_at dksX4_tested_2 10 rfl rfl)
theorem dX4_tested_59 : decode cX4_tested 59 = .ok (.aload_n 0, 1) := dk_42 (dk_at dksX4_tested_2 13 rfl rfl)
theorem dX4_tested_60 : decode cX4_tested 60 = .ok (.ldc2_w 212, 3) := dk_20 0 212 (dk_at dksX4_tested_2 14 rfl rfl)
theorem dX4_tested_63 : decode cX4_tested 63 = .ok (.invokevirtual 107, 3) := dk_182 0 107 (dk_at dksX4_tested_2 17 rfl rfl)
theorem dX4_tested_66 : decode cX4_tested 66 = .ok (.ifCond .eq 8, 3) := dk_153 0 8 (dk_at dksX4_tested_2 20 rfl rfl)
theorem dX4_tested_69 : decode cX4_tested 69 = .ok (.bipush 12, 2) := dk_16 12 (dk_at dksX4_tested_3 0 rfl rfl)
theorem dX4_tested_71 : decode cX4_tested 71 = .ok (.goto 5, 3) := dk_167 0 5 (dk_at dksX4_tested_3 2 rfl rfl)
theorem dX4_tested_74 : decode cX4_tested 74 = .ok (.bipush 13, 2) := dk_16 13 (dk_at dksX4_tested_3 5 rfl rfl)
theorem dX4_tested_76 : decode cX4_tested 76 = .ok (.istore_n 2, 1) := dk_61 (dk_at dksX4_tested_3 7 rfl rfl)
theorem dX4_tested_77 : decode cX4_tested 77 = .ok (.aload_n 0, 1) := dk_42 (dk_at dksX4_tested_3 8 rfl rfl)
theorem dX4_tested_78 : decode cX4_tested 78 = .ok (.invokevirtual 111, 3) := dk_182 0 111 (dk_at dksX4_tested_3 9 rfl rfl)
theorem dX4_tested_81 : decode cX4_tested 81 = .ok (.aload_n 0, 1) := dk_42 (dk_at dksX4_tested_3 12 rfl rfl)
theorem dX4_tested_82 : decode cX4_tested 82 = .ok (.iload_n 2, 1) := dk_28 (dk_at dksX4_tested_3 13 rfl rfl)
theorem dX4_tested_83 : decode cX4_tested 83 = .ok (.invokestatic 164, 3) := dk_184 0 164 (dk_at dksX4_tested_3 14 rfl rfl)
theorem dX4_tested_86 : decode cX4_tested 86 = .ok (.invokevirtual 200, 3) := dk_182 0 200 (dk_at dksX4_tested_3 17 rfl rfl)
theorem dX4_tested_89 : decode cX4_tested 89 = .ok (.aload_n 0, 1) := dk_42 (dk_at dksX4_tested_3 20 rfl rfl)
theorem dX4_tested_90 : decode cX4_tested 90 = .ok (.getfield 29, 3) := dk_180 0 29 (dk_at dksX4_tested_3 21 rfl rfl)
theorem dX4_tested_93 : decode cX4_tested 93 = .ok (.aload_n 0, 1) := dk_42 (dk_at dksX4_tested_4 0 rfl rfl)
theorem dX4_tested_94 : decode cX4_tested 94 = .ok (.getfield 161, 3) := dk_180 0 161 (dk_at dksX4_tested_4 1 rfl rfl)
theorem dX4_tested_97 : decode cX4_tested 97 = .ok (.iload_n 2, 1) := dk_28 (dk_at dksX4_tested_4 4 rfl rfl)
theorem dX4_tested_98 : decode cX4_tested 98 = .ok (.iastore, 1) := dk_79 (dk_at dksX4_tested_4 5 rfl rfl)
theorem dX4_tested_99 : decode cX4_tested 99 = .ok (.aload_n 0, 1) := dk_42 (dk_at dksX4_tested_4 6 rfl rfl)
theorem dX4_tested_100 : decode cX4_tested 100 = .ok (.dup, 1) := dk_89 (dk_at dksX4_tested_4 7 rfl rfl)
theorem dX4_tested_101 : decode cX4_tested 101 = .ok (.getfield 161, 3) := dk_180 0 161 (dk_at dksX4_tested_4 8 rfl rfl)
theorem dX4_tested_104 : decode cX4_tested 104 = .ok (.iconst 1, 1) := dk_4 (dk_at dksX4_tested_4 11 rfl rfl)
theorem dX4_tested_105 : decode cX4_tested 105 = .ok (.iadd, 1) := dk_96 (dk_at dksX4_tested_4 12 rfl rfl)
theorem dX4_tested_106 : decode cX4_tested 106 = .ok (.putfield 161, 3) := dk_181 0 161 (dk_at dksX4_tested_4 13 rfl rfl)
theorem dX4_tested_109 : decode cX4_tested 109 = .ok (.goto (-97), 3) := dk_167 255 159 (dk_at dksX4_tested_4 16 rfl rfl)
theorem dX4_tested_112 : decode cX4_tested 112 = .ok (.aload_n 0, 1) := dk_42 (dk_at dksX4_tested_4 19 rfl rfl)
theorem dX4_tested_113 : decode cX4_tested 113 = .ok (.invokevirtual 203, 3) := dk_182 0 203 (dk_at dksX4_tested_4 20 rfl rfl)
theorem dX4_tested_116 : decode cX4_tested 116 = .ok (.ifCond .eq 18, 3) := dk_153 0 18 (dk_at dksX4_tested_5 0 rfl rfl)
theorem dX4_tested_119 : decode cX4_tested 119 = .ok (.aload_n 0, 1) := dk_42 (dk_at dksX4_tested_5 3 rfl rfl)
theorem dX4_tested_120 : decode cX4_tested 120 = .ok (.invokevirtual 99, 3) := dk_182 0 99 (dk_at dksX4_tested_5 4 rfl rfl)
theorem dX4_tested_123 : decode cX4_tested 123 = .ok (.pop, 1) := dk_87 (dk_at dksX4_tested_5 7 rfl rfl)
theorem dX4_tested_124 : decode cX4_tested 124 = .ok (.aload_n 0, 1) := dk_42 (dk_at dksX4_tested_5 8 rfl rfl)
theorem dX4_tested_125 : decode cX4_tested 125 = .ok (.iconst 0, 1) := dk_3 (dk_at dksX4_tested_5 9 rfl rfl)
theorem dX4_tested_126 : decode cX4_tested 126 = .ok (.aload_n 0, 1) := dk_42 (dk_at dksX4_tested_5 10 rfl rfl)
theorem dX4_tested_127 : decode cX4_tested 127 = .ok (.getfield 96, 3) := dk_180 0 96 (dk_at dksX4_tested_5 11 rfl rfl)
theorem dX4_tested_130 : decode cX4_tested 130 = .ok (.invokevirtual 117, 3) := dk_182 0 117 (dk_at dksX4_tested_5 14 rfl rfl)
theorem dX4_tested_133 : decode cX4_tested 133 = .ok (.ireturn, 1) := dk_172 (dk_at dksX4_tested_5 17 rfl rfl)
theorem dX4_tested_134 : decode cX4_tested 134 = .ok (.aload_n 0, 1) := dk_42 (dk_at dksX4_tested_5 18 rfl rfl)
theorem dX4_tested_135 : decode cX4_tested 135 = .ok (.iconst 1, 1) := dk_4 (dk_at dksX4_tested_5 19 rfl rfl)
theorem dX4_tested_136 : decode cX4_tested 136 = .ok (.invokevirtual 200, 3) := dk_182 0 200 (dk_at dksX4_tested_5 20 rfl rfl)
theorem dX4_tested_139 : decode cX4_tested 139 = .ok (.iconst 1, 1) := dk_4 (dk_at dksX4_tested_5 23 rfl rfl)
theorem dX4_tested_140 : decode cX4_tested 140 = .ok (.ireturn, 1) := dk_172 (dk_at dksX4_tested_6 0 rfl rfl)
abbrev cX4_fact : ByteArray := prog_19_method_27_code
def yX4_fact : MethodName := ⟨RX4, "fact", "()Z"⟩
def dkwX4_fact_3 : List UInt8 := [4, 60, 167, 255, 186, 42, 182, 0, 197, 172]
abbrev dktX4_fact_3 : List UInt8 := dkwX4_fact_3 ++ []
def dkwX4_fact_2 : List UInt8 := [160, 0, 26, 42, 16, 91, 182, 0, 194, 154, 0, 5, 3, 172, 42, 89, 180, 0, 96, 4, 96, 181, 0, 96]
abbrev dktX4_fact_2 : List UInt8 := dkwX4_fact_2 ++ dktX4_fact_3
def dkwX4_fact_1 : List UInt8 := [16, 11, 182, 0, 194, 154, 0, 5, 3, 172, 42, 182, 0, 111, 4, 60, 167, 0, 32, 28, 16, 91]
abbrev dktX4_fact_1 : List UInt8 := dkwX4_fact_1 ++ dktX4_fact_2
def dkwX4_fact_0 : List UInt8 := [4, 60, 27, 153, 0, 72, 3, 60, 42, 182, 0, 99, 61, 42, 20, 0, 192, 182, 0, 107, 153, 0, 23, 42]
abbrev dktX4_fact_0 : List UInt8 := dkwX4_fact_0 ++ dktX4_fact_1
theorem dksX4_fact_0 : cX4_fact.data.toList.drop 0 = dktX4_fact_0 := by decide +kernel
theorem dksX4_fact_1 : cX4_fact.data.toList.drop 24 = dktX4_fact_1 := dk_seg dksX4_fact_0 24 rfl rfl
theorem dksX4_fact_2 : cX4_fact.data.toList.drop 46 = dktX4_fact_2 := dk_seg dksX4_fact_1 22 rfl rfl
theorem dksX4_fact_3 : cX4_fact.data.toList.drop 70 = dktX4_fact_3 := dk_seg dksX4_fact_2 24 rfl rfl
theorem dX4_fact_0 : decode cX4_fact 0 = .ok (.iconst 1, 1) := dk_4 (dk_at dksX4_fact_0 0 rfl rfl)
theorem dX4_fact_1 : decode cX4_fact 1 = .ok (.istore_n 1, 1) := dk_60 (dk_at dksX4_fact_0 1 rfl rfl)
theorem dX4_fact_2 : decode cX4_fact 2 = .ok (.iload_n 1, 1) := dk_27 (dk_at dksX4_fact_0 2 rfl rfl)
theorem dX4_fact_3 : decode cX4_fact 3 = .ok (.ifCond .eq 72, 3) := dk_153 0 72 (dk_at dksX4_fact_0 3 rfl rfl)
theorem dX4_fact_6 : decode cX4_fact 6 = .ok (.iconst 0, 1) := dk_3 (dk_at dksX4_fact_0 6 rfl rfl)
theorem dX4_fact_7 : decode cX4_fact 7 = .ok (.istore_n 1, 1) := dk_60 (dk_at dksX4_fact_0 7 rfl rfl)
theorem dX4_fact_8 : decode cX4_fact 8 = .ok (.aload_n 0, 1) := dk_42 (dk_at dksX4_fact_0 8 rfl rfl)
theorem dX4_fact_9 : decode cX4_fact 9 = .ok (.invokevirtual 99, 3) := dk_182 0 99 (dk_at dksX4_fact_0 9 rfl rfl)
theorem dX4_fact_12 : decode cX4_fact 12 = .ok (.istore_n 2, 1) := dk_61 (dk_at dksX4_fact_0 12 rfl rfl)
theorem dX4_fact_13 : decode cX4_fact 13 = .ok (.aload_n 0, 1) := dk_42 (dk_at dksX4_fact_0 13 rfl rfl)
theorem dX4_fact_14 : decode cX4_fact 14 = .ok (.ldc2_w 192, 3) := dk_20 0 192 (dk_at dksX4_fact_0 14 rfl rfl)
theorem dX4_fact_17 : decode cX4_fact 17 = .ok (.invokevirtual 107, 3) := dk_182 0 107 (dk_at dksX4_fact_0 17 rfl rfl)
theorem dX4_fact_20 : decode cX4_fact 20 = .ok (.ifCond .eq 23, 3) := dk_153 0 23 (dk_at dksX4_fact_0 20 rfl rfl)
theorem dX4_fact_23 : decode cX4_fact 23 = .ok (.aload_n 0, 1) := dk_42 (dk_at dksX4_fact_0 23 rfl rfl)
theorem dX4_fact_24 : decode cX4_fact 24 = .ok (.bipush 11, 2) := dk_16 11 (dk_at dksX4_fact_1 0 rfl rfl)
theorem dX4_fact_26 : decode cX4_fact 26 = .ok (.invokevirtual 194, 3) := dk_182 0 194 (dk_at dksX4_fact_1 2 rfl rfl)
theorem dX4_fact_29 : decode cX4_fact 29 = .ok (.ifCond .ne 5, 3) := dk_154 0 5 (dk_at dksX4_fact_1 5 rfl rfl)
theorem dX4_fact_32 : decode cX4_fact 32 = .ok (.iconst 0, 1) := dk_3 (dk_at dksX4_fact_1 8 rfl rfl)
theorem dX4_fact_33 : decode cX4_fact 33 = .ok (.ireturn, 1) := dk_172 (dk_at dksX4_fact_1 9 rfl rfl)
theorem dX4_fact_34 : decode cX4_fact 34 = .ok (.aload_n 0, 1) := dk_42 (dk_at dksX4_fact_1 10 rfl rfl)
theorem dX4_fact_35 : decode cX4_fact 35 = .ok (.invokevirtual 111, 3) := dk_182 0 111 (dk_at dksX4_fact_1 11 rfl rfl)
theorem dX4_fact_38 : decode cX4_fact 38 = .ok (.iconst 1, 1) := dk_4 (dk_at dksX4_fact_1 14 rfl rfl)
theorem dX4_fact_39 : decode cX4_fact 39 = .ok (.istore_n 1, 1) := dk_60 (dk_at dksX4_fact_1 15 rfl rfl)
theorem dX4_fact_40 : decode cX4_fact 40 = .ok (.goto 32, 3) := dk_167 0 32 (dk_at dksX4_fact_1 16 rfl rfl)
theorem dX4_fact_43 : decode cX4_fact 43 = .ok (.iload_n 2, 1) := dk_28 (dk_at dksX4_fact_1 19 rfl rfl)
theorem dX4_fact_44 : decode cX4_fact 44 = .ok (.bipush 91, 2) := dk_16 91 (dk_at dksX4_fact_1 20 rfl rfl)
theorem dX4_fact_46 : decode cX4_fact 46 = .ok (.if_icmp .ne 26, 3) := dk_160 0 26 (dk_at dksX4_fact_2 0 rfl rfl)
theorem dX4_fact_49 : decode cX4_fact 49 = .ok (.aload_n 0, 1) := dk_42 (dk_at dksX4_fact_2 3 rfl rfl)
theorem dX4_fact_50 : decode cX4_fact 50 = .ok (.bipush 91, 2) := dk_16 91 (dk_at dksX4_fact_2 4 rfl rfl)
theorem dX4_fact_52 : decode cX4_fact 52 = .ok (.invokevirtual 194, 3) := dk_182 0 194 (dk_at dksX4_fact_2 6 rfl rfl)
theorem dX4_fact_55 : decode cX4_fact 55 = .ok (.ifCond .ne 5, 3) := dk_154 0 5 (dk_at dksX4_fact_2 9 rfl rfl)
theorem dX4_fact_58 : decode cX4_fact 58 = .ok (.iconst 0, 1) := dk_3 (dk_at dksX4_fact_2 12 rfl rfl)
theorem dX4_fact_59 : decode cX4_fact 59 = .ok (.ireturn, 1) := dk_172 (dk_at dksX4_fact_2 13 rfl rfl)
theorem dX4_fact_60 : decode cX4_fact 60 = .ok (.aload_n 0, 1) := dk_42 (dk_at dksX4_fact_2 14 rfl rfl)
theorem dX4_fact_61 : decode cX4_fact 61 = .ok (.dup, 1) := dk_89 (dk_at dksX4_fact_2 15 rfl rfl)
theorem dX4_fact_62 : decode cX4_fact 62 = .ok (.getfield 96, 3) := dk_180 0 96 (dk_at dksX4_fact_2 16 rfl rfl)
theorem dX4_fact_65 : decode cX4_fact 65 = .ok (.iconst 1, 1) := dk_4 (dk_at dksX4_fact_2 19 rfl rfl)
theorem dX4_fact_66 : decode cX4_fact 66 = .ok (.iadd, 1) := dk_96 (dk_at dksX4_fact_2 20 rfl rfl)
theorem dX4_fact_67 : decode cX4_fact 67 = .ok (.putfield 96, 3) := dk_181 0 96 (dk_at dksX4_fact_2 21 rfl rfl)
theorem dX4_fact_70 : decode cX4_fact 70 = .ok (.iconst 1, 1) := dk_4 (dk_at dksX4_fact_3 0 rfl rfl)
theorem dX4_fact_71 : decode cX4_fact 71 = .ok (.istore_n 1, 1) := dk_60 (dk_at dksX4_fact_3 1 rfl rfl)
theorem dX4_fact_72 : decode cX4_fact 72 = .ok (.goto (-70), 3) := dk_167 255 186 (dk_at dksX4_fact_3 2 rfl rfl)
theorem dX4_fact_75 : decode cX4_fact 75 = .ok (.aload_n 0, 1) := dk_42 (dk_at dksX4_fact_3 5 rfl rfl)
theorem dX4_fact_76 : decode cX4_fact 76 = .ok (.invokevirtual 197, 3) := dk_182 0 197 (dk_at dksX4_fact_3 6 rfl rfl)
theorem dX4_fact_79 : decode cX4_fact 79 = .ok (.ireturn, 1) := dk_172 (dk_at dksX4_fact_3 9 rfl rfl)
abbrev cX4_opens : ByteArray := prog_19_method_20_code
def yX4_opens : MethodName := ⟨RX4, "opens", "(I)Z"⟩
def dkwX4_opens_2 : List UInt8 := [181, 0, 161, 4, 172]
abbrev dktX4_opens_2 : List UInt8 := dkwX4_opens_2 ++ []
def dkwX4_opens_1 : List UInt8 := [4, 96, 181, 0, 158, 42, 180, 0, 29, 42, 180, 0, 161, 27, 79, 42, 89, 180, 0, 161, 4, 96]
abbrev dktX4_opens_1 : List UInt8 := dkwX4_opens_1 ++ dktX4_opens_2
def dkwX4_opens_0 : List UInt8 := [42, 180, 0, 158, 16, 10, 160, 0, 13, 42, 5, 42, 180, 0, 96, 182, 0, 117, 172, 42, 89, 180, 0, 158]
abbrev dktX4_opens_0 : List UInt8 := dkwX4_opens_0 ++ dktX4_opens_1
theorem dksX4_opens_0 : cX4_opens.data.toList.drop 0 = dktX4_opens_0 := by decide +kernel
theorem dksX4_opens_1 : cX4_opens.data.toList.drop 24 = dktX4_opens_1 := dk_seg dksX4_opens_0 24 rfl rfl
theorem dksX4_opens_2 : cX4_opens.data.toList.drop 46 = dktX4_opens_2 := dk_seg dksX4_opens_1 22 rfl rfl
theorem dX4_opens_0 : decode cX4_opens 0 = .ok (.aload_n 0, 1) := dk_42 (dk_at dksX4_opens_0 0 rfl rfl)
theorem dX4_opens_1 : decode cX4_opens 1 = .ok (.getfield 158, 3) := dk_180 0 158 (dk_at dksX4_opens_0 1 rfl rfl)
theorem dX4_opens_4 : decode cX4_opens 4 = .ok (.bipush 10, 2) := dk_16 10 (dk_at dksX4_opens_0 4 rfl rfl)
theorem dX4_opens_6 : decode cX4_opens 6 = .ok (.if_icmp .ne 13, 3) := dk_160 0 13 (dk_at dksX4_opens_0 6 rfl rfl)
theorem dX4_opens_9 : decode cX4_opens 9 = .ok (.aload_n 0, 1) := dk_42 (dk_at dksX4_opens_0 9 rfl rfl)
theorem dX4_opens_10 : decode cX4_opens 10 = .ok (.iconst 2, 1) := dk_5 (dk_at dksX4_opens_0 10 rfl rfl)
theorem dX4_opens_11 : decode cX4_opens 11 = .ok (.aload_n 0, 1) := dk_42 (dk_at dksX4_opens_0 11 rfl rfl)
theorem dX4_opens_12 : decode cX4_opens 12 = .ok (.getfield 96, 3) := dk_180 0 96 (dk_at dksX4_opens_0 12 rfl rfl)
theorem dX4_opens_15 : decode cX4_opens 15 = .ok (.invokevirtual 117, 3) := dk_182 0 117 (dk_at dksX4_opens_0 15 rfl rfl)
theorem dX4_opens_18 : decode cX4_opens 18 = .ok (.ireturn, 1) := dk_172 (dk_at dksX4_opens_0 18 rfl rfl)
theorem dX4_opens_19 : decode cX4_opens 19 = .ok (.aload_n 0, 1) := dk_42 (dk_at dksX4_opens_0 19 rfl rfl)
theorem dX4_opens_20 : decode cX4_opens 20 = .ok (.dup, 1) := dk_89 (dk_at dksX4_opens_0 20 rfl rfl)
theorem dX4_opens_21 : decode cX4_opens 21 = .ok (.getfield 158, 3) := dk_180 0 158 (dk_at dksX4_opens_0 21 rfl rfl)
theorem dX4_opens_24 : decode cX4_opens 24 = .ok (.iconst 1, 1) := dk_4 (dk_at dksX4_opens_1 0 rfl rfl)
theorem dX4_opens_25 : decode cX4_opens 25 = .ok (.iadd, 1) := dk_96 (dk_at dksX4_opens_1 1 rfl rfl)
theorem dX4_opens_26 : decode cX4_opens 26 = .ok (.putfield 158, 3) := dk_181 0 158 (dk_at dksX4_opens_1 2 rfl rfl)
theorem dX4_opens_29 : decode cX4_opens 29 = .ok (.aload_n 0, 1) := dk_42 (dk_at dksX4_opens_1 5 rfl rfl)
theorem dX4_opens_30 : decode cX4_opens 30 = .ok (.getfield 29, 3) := dk_180 0 29 (dk_at dksX4_opens_1 6 rfl rfl)
theorem dX4_opens_33 : decode cX4_opens 33 = .ok (.aload_n 0, 1) := dk_42 (dk_at dksX4_opens_1 9 rfl rfl)
theorem dX4_opens_34 : decode cX4_opens 34 = .ok (.getfield 161, 3) := dk_180 0 161 (dk_at dksX4_opens_1 10 rfl rfl)
theorem dX4_opens_37 : decode cX4_opens 37 = .ok (.iload_n 1, 1) := dk_27 (dk_at dksX4_opens_1 13 rfl rfl)
theorem dX4_opens_38 : decode cX4_opens 38 = .ok (.iastore, 1) := dk_79 (dk_at dksX4_opens_1 14 rfl rfl)
theorem dX4_opens_39 : decode cX4_opens 39 = .ok (.aload_n 0, 1) := dk_42 (dk_at dksX4_opens_1 15 rfl rfl)
theorem dX4_opens_40 : decode cX4_opens 40 = .ok (.dup, 1) := dk_89 (dk_at dksX4_opens_1 16 rfl rfl)
theorem dX4_opens_41 : decode cX4_opens 41 = .ok (.getfield 161, 3) := dk_180 0 161 (dk_at dksX4_opens_1 17 rfl rfl)
theorem dX4_opens_44 : decode cX4_opens 44 = .ok (.iconst 1, 1) := dk_4 (dk_at dksX4_opens_1 20 rfl rfl)
theorem dX4_opens_45 : decode cX4_opens 45 = .ok (.iadd, 1) := dk_96 (dk_at dksX4_opens_1 21 rfl rfl)
theorem dX4_opens_46 : decode cX4_opens 46 = .ok (.putfield 161, 3) := dk_181 0 161 (dk_at dksX4_opens_2 0 rfl rfl)
theorem dX4_opens_49 : decode cX4_opens 49 = .ok (.iconst 1, 1) := dk_4 (dk_at dksX4_opens_2 3 rfl rfl)
theorem dX4_opens_50 : decode cX4_opens 50 = .ok (.ireturn, 1) := dk_172 (dk_at dksX4_opens_2 4 rfl rfl)
abbrev cX4_compare : ByteArray := prog_19_method_26_code
def yX4_compare : MethodName := ⟨RX4, "compare", "()Z"⟩
def dkwX4_compare_7 : List UInt8 := [16, 6, 21, 4, 96, 3, 182, 0, 168, 4, 172]
abbrev dktX4_compare_7 : List UInt8 := dkwX4_compare_7 ++ []
def dkwX4_compare_6 : List UInt8 := [167, 0, 12, 29, 153, 0, 7, 6, 167, 0, 4, 7, 54, 4, 42, 182, 0, 189, 154, 0, 5, 3, 172, 42]
abbrev dktX4_compare_6 : List UInt8 := dkwX4_compare_6 ++ dktX4_compare_7
def dkwX4_compare_5 : List UInt8 := [16, 60, 160, 0, 15, 29, 153, 0, 7, 4, 167, 0, 26, 3, 167, 0, 22, 27, 16, 61, 160, 0, 7, 5]
abbrev dktX4_compare_5 : List UInt8 := dkwX4_compare_5 ++ dktX4_compare_6
def dkwX4_compare_4 : List UInt8 := [153, 0, 13, 42, 89, 180, 0, 96, 4, 96, 181, 0, 96, 42, 28, 182, 0, 176, 154, 0, 5, 3, 172, 27]
abbrev dktX4_compare_4 : List UInt8 := dkwX4_compare_4 ++ dktX4_compare_5
def dkwX4_compare_3 : List UInt8 := [162, 0, 21, 42, 180, 0, 7, 42, 180, 0, 96, 51, 16, 61, 160, 0, 7, 4, 167, 0, 4, 3, 62, 29]
abbrev dktX4_compare_3 : List UInt8 := dkwX4_compare_3 ++ dktX4_compare_4
def dkwX4_compare_2 : List UInt8 := [180, 0, 96, 4, 96, 181, 0, 96, 27, 16, 61, 159, 0, 32, 42, 180, 0, 96, 42, 180, 0, 86]
abbrev dktX4_compare_2 : List UInt8 := dkwX4_compare_2 ++ dktX4_compare_3
def dkwX4_compare_1 : List UInt8 := [159, 0, 22, 27, 16, 61, 159, 0, 16, 27, 16, 62, 159, 0, 10, 42, 3, 28, 182, 0, 117, 172, 42, 89]
abbrev dktX4_compare_1 : List UInt8 := dkwX4_compare_1 ++ dktX4_compare_2
def dkwX4_compare_0 : List UInt8 := [42, 182, 0, 189, 154, 0, 5, 3, 172, 42, 182, 0, 99, 60, 42, 180, 0, 96, 61, 27, 16, 60]
abbrev dktX4_compare_0 : List UInt8 := dkwX4_compare_0 ++ dktX4_compare_1
theorem dksX4_compare_0 : cX4_compare.data.toList.drop 0 = dktX4_compare_0 := by decide +kernel
theorem dksX4_compare_1 : cX4_compare.data.toList.drop 22 = dktX4_compare_1 := dk_seg dksX4_compare_0 22 rfl rfl
theorem dksX4_compare_2 : cX4_compare.data.toList.drop 46 = dktX4_compare_2 := dk_seg dksX4_compare_1 24 rfl rfl
theorem dksX4_compare_3 : cX4_compare.data.toList.drop 68 = dktX4_compare_3 := dk_seg dksX4_compare_2 22 rfl rfl
theorem dksX4_compare_4 : cX4_compare.data.toList.drop 92 = dktX4_compare_4 := dk_seg dksX4_compare_3 24 rfl rfl
theorem dksX4_compare_5 : cX4_compare.data.toList.drop 116 = dktX4_compare_5 := dk_seg dksX4_compare_4 24 rfl rfl
theorem dksX4_compare_6 : cX4_compare.data.toList.drop 140 = dktX4_compare_6 := dk_seg dksX4_compare_5 24 rfl rfl
theorem dksX4_compare_7 : cX4_compare.data.toList.drop 164 = dktX4_compare_7 := dk_seg dksX4_compare_6 24 rfl rfl
theorem dX4_compare_0 : decode cX4_compare 0 = .ok (.aload_n 0, 1) := dk_42 (dk_at dksX4_compare_0 0 rfl rfl)
theorem dX4_compare_1 : decode cX4_compare 1 = .ok (.invokevirtual 189, 3) := dk_182 0 189 (dk_at dksX4_compare_0 1 rfl rfl)
theorem dX4_compare_4 : decode cX4_compare 4 = .ok (.ifCond .ne 5, 3) := dk_154 0 5 (dk_at dksX4_compare_0 4 rfl rfl)
theorem dX4_compare_7 : decode cX4_compare 7 = .ok (.iconst 0, 1) := dk_3 (dk_at dksX4_compare_0 7 rfl rfl)
theorem dX4_compare_8 : decode cX4_compare 8 = .ok (.ireturn, 1) := dk_172 (dk_at dksX4_compare_0 8 rfl rfl)
theorem dX4_compare_9 : decode cX4_compare 9 = .ok (.aload_n 0, 1) := dk_42 (dk_at dksX4_compare_0 9 rfl rfl)
theorem dX4_compare_10 : decode cX4_compare 10 = .ok (.invokevirtual 99, 3) := dk_182 0 99 (dk_at dksX4_compare_0 10 rfl rfl)
theorem dX4_compare_13 : decode cX4_compare 13 = .ok (.istore_n 1, 1) := dk_60 (dk_at dksX4_compare_0 13 rfl rfl)
theorem dX4_compare_14 : decode cX4_compare 14 = .ok (.aload_n 0, 1) := dk_42 (dk_at dksX4_compare_0 14 rfl rfl)
theorem dX4_compare_15 : decode cX4_compare 15 = .ok (.getfield 96, 3) := dk_180 0 96 (dk_at dksX4_compare_0 15 rfl rfl)
theorem dX4_compare_18 : decode cX4_compare 18 = .ok (.istore_n 2, 1) := dk_61 (dk_at dksX4_compare_0 18 rfl rfl)
theorem dX4_compare_19 : decode cX4_compare 19 = .ok (.iload_n 1, 1) := dk_27 (dk_at dksX4_compare_0 19 rfl rfl)
theorem dX4_compare_20 : decode cX4_compare 20 = .ok (.bipush 60, 2) := dk_16 60 (dk_at dksX4_compare_0 20 rfl rfl)
theorem dX4_compare_22 : decode cX4_compare 22 = .ok (.if_icmp .eq 22, 3) := dk_159 0 22 (dk_at dksX4_compare_1 0 rfl rfl)
theorem dX4_compare_25 : decode cX4_compare 25 = .ok (.iload_n 1, 1) := dk_27 (dk_at dksX4_compare_1 3 rfl rfl)
theorem dX4_compare_26 : decode cX4_compare 26 = .ok (.bipush 61, 2) := dk_16 61 (dk_at dksX4_compare_1 4 rfl rfl)
theorem dX4_compare_28 : decode cX4_compare 28 = .ok (.if_icmp .eq 16, 3) := dk_159 0 16 (dk_at dksX4_compare_1 6 rfl rfl)
theorem dX4_compare_31 : decode cX4_compare 31 = .ok (.iload_n 1, 1) := dk_27 (dk_at dksX4_compare_1 9 rfl rfl)
theorem dX4_compare_32 : decode cX4_compare 32 = .ok (.bipush 62, 2) := dk_16 62 (dk_at dksX4_compare_1 10 rfl rfl)
theorem dX4_compare_34 : decode cX4_compare 34 = .ok (.if_icmp .eq 10, 3) := dk_159 0 10 (dk_at dksX4_compare_1 12 rfl rfl)
theorem dX4_compare_37 : decode cX4_compare 37 = .ok (.aload_n 0, 1) := dk_42 (dk_at dksX4_compare_1 15 rfl rfl)
theorem dX4_compare_38 : decode cX4_compare 38 = .ok (.iconst 0, 1) := dk_3 (dk_at dksX4_compare_1 16 rfl rfl)
theorem dX4_compare_39 : decode cX4_compare 39 = .ok (.iload_n 2, 1) := dk_28 (dk_at dksX4_compare_1 17 rfl rfl)
theorem dX4_compare_40 : decode cX4_compare 40 = .ok (.invokevirtual 117, 3) := dk_182 0 117 (dk_at dksX4_compare_1 18 rfl rfl)
theorem dX4_compare_43 : decode cX4_compare 43 = .ok (.ireturn, 1) := dk_172 (dk_at dksX4_compare_1 21 rfl rfl)
theorem dX4_compare_44 : decode cX4_compare 44 = .ok (.aload_n 0, 1) := dk_42 (dk_at dksX4_compare_1 22 rfl rfl)
theorem dX4_compare_45 : decode cX4_compare 45 = .ok (.dup, 1) := dk_89 (dk_at dksX4_compare_1 23 rfl rfl)
theorem dX4_compare_46 : decode cX4_compare 46 = .ok (.getfield 96, 3) := dk_180 0 96 (dk_at dksX4_compare_2 0 rfl rfl)
theorem dX4_compare_49 : decode cX4_compare 49 = .ok (.iconst 1, 1) := dk_4 (dk_at dksX4_compare_2 3 rfl rfl)
theorem dX4_compare_50 : decode cX4_compare 50 = .ok (.iadd, 1) := dk_96 (dk_at dksX4_compare_2 4 rfl rfl)
theorem dX4_compare_51 : decode cX4_compare 51 = .ok (.putfield 96, 3) := dk_181 0 96 (dk_at dksX4_compare_2 5 rfl rfl)
theorem dX4_compare_54 : decode cX4_compare 54 = .ok (.iload_n 1, 1) := dk_27 (dk_at dksX4_compare_2 8 rfl rfl)
theorem dX4_compare_55 : decode cX4_compare 55 = .ok (.bipush 61, 2) := dk_16 61 (dk_at dksX4_compare_2 9 rfl rfl)
theorem dX4_compare_57 : decode cX4_compare 57 = .ok (.if_icmp .eq 32, 3) := dk_159 0 32 (dk_at dksX4_compare_2 11 rfl rfl)
theorem dX4_compare_60 : decode cX4_compare 60 = .ok (.aload_n 0, 1) := dk_42 (dk_at dksX4_compare_2 14 rfl rfl)
theorem dX4_compare_61 : decode cX4_compare 61 = .ok (.getfield 96, 3) := dk_180 0 96 (dk_at dksX4_compare_2 15 rfl rfl)
theorem dX4_compare_64 : decode cX4_compare 64 = .ok (.aload_n 0, 1) := dk_42 (dk_at dksX4_compare_2 18 rfl rfl)
theorem dX4_compare_65 : decode cX4_compare 65 = .ok (.getfield 86, 3) := dk_180 0 86 (dk_at dksX4_compare_2 19 rfl rfl)
theorem dX4_compare_68 : decode cX4_compare 68 = .ok (.if_icmp .ge 21, 3) := dk_162 0 21 (dk_at dksX4_compare_3 0 rfl rfl)
theorem dX4_compare_71 : decode cX4_compare 71 = .ok (.aload_n 0, 1) := dk_42 (dk_at dksX4_compare_3 3 rfl rfl)
theorem dX4_compare_72 : decode cX4_compare 72 = .ok (.getfield 7, 3) := dk_180 0 7 (dk_at dksX4_compare_3 4 rfl rfl)
theorem dX4_compare_75 : decode cX4_compare 75 = .ok (.aload_n 0, 1) := dk_42 (dk_at dksX4_compare_3 7 rfl rfl)
theorem dX4_compare_76 : decode cX4_compare 76 = .ok (.getfield 96, 3) := dk_180 0 96 (dk_at dksX4_compare_3 8 rfl rfl)
theorem dX4_compare_79 : decode cX4_compare 79 = .ok (.baload, 1) := dk_51 (dk_at dksX4_compare_3 11 rfl rfl)
theorem dX4_compare_80 : decode cX4_compare 80 = .ok (.bipush 61, 2) := dk_16 61 (dk_at dksX4_compare_3 12 rfl rfl)
theorem dX4_compare_82 : decode cX4_compare 82 = .ok (.if_icmp .ne 7, 3) := dk_160 0 7 (dk_at dksX4_compare_3 14 rfl rfl)
theorem dX4_compare_85 : decode cX4_compare 85 = .ok (.iconst 1, 1) := dk_4 (dk_at dksX4_compare_3 17 rfl rfl)
theorem dX4_compare_86 : decode cX4_compare 86 = .ok (.goto 4, 3) := dk_167 0 4 (dk_at dksX4_compare_3 18 rfl rfl)
theorem dX4_compare_89 : decode cX4_compare 89 = .ok (.iconst 0, 1) := dk_3 (dk_at dksX4_compare_3 21 rfl rfl)
theorem dX4_compare_90 : decode cX4_compare 90 = .ok (.istore_n 3, 1) := dk_62 (dk_at dksX4_compare_3 22 rfl rfl)
theorem dX4_compare_91 : decode cX4_compare 91 = .ok (.iload_n 3, 1) := dk_29 (dk_at dksX4_compare_3 23 rfl rfl)
theorem dX4_compare_92 : decode cX4_compare 92 = .ok (.ifCond .eq 13, 3) := dk_153 0 13 (dk_at dksX4_compare_4 0 rfl rfl)
theorem dX4_compare_95 : decode cX4_compare 95 = .ok (.aload_n 0, 1) := dk_42 (dk_at dksX4_compare_4 3 rfl rfl)
theorem dX4_compare_96 : decode cX4_compare 96 = .ok (.dup, 1) := dk_89 (dk_at dksX4_compare_4 4 rfl rfl)
theorem dX4_compare_97 : decode cX4_compare 97 = .ok (.getfield 96, 3) := dk_180 0 96 (dk_at dksX4_compare_4 5 rfl rfl)
theorem dX4_compare_100 : decode cX4_compare 100 = .ok (.iconst 1, 1) := dk_4 (dk_at dksX4_compare_4 8 rfl rfl)
theorem dX4_compare_101 : decode cX4_compare 101 = .ok (.iadd, 1) := dk_96 (dk_at dksX4_compare_4 9 rfl rfl)
theorem dX4_compare_102 : decode cX4_compare 102 = .ok (.putfield 96, 3) := dk_181 0 96 (dk_at dksX4_compare_4 10 rfl rfl)
theorem dX4_compare_105 : decode cX4_compare 105 = .ok (.aload_n 0, 1) := dk_42 (dk_at dksX4_compare_4 13 rfl rfl)
theorem dX4_compare_106 : decode cX4_compare 106 = .ok (.iload_n 2, 1) := dk_28 (dk_at dksX4_compare_4 14 rfl rfl)
theorem dX4_compare_107 : decode cX4_compare 107 = .ok (.invokevirtual 176, 3) := dk_182 0 176 (dk_at dksX4_compare_4 15 rfl rfl)
theorem dX4_compare_110 : decode cX4_compare 110 = .ok (.ifCond .ne 5, 3) := dk_154 0 5 (dk_at dksX4_compare_4 18 rfl rfl)
theorem dX4_compare_113 : decode cX4_compare 113 = .ok (.iconst 0, 1) := dk_3 (dk_at dksX4_compare_4 21 rfl rfl)
theorem dX4_compare_114 : decode cX4_compare 114 = .ok (.ireturn, 1) := dk_172 (dk_at dksX4_compare_4 22 rfl rfl)
theorem dX4_compare_115 : decode cX4_compare 115 = .ok (.iload_n 1, 1) := dk_27 (dk_at dksX4_compare_4 23 rfl rfl)
theorem dX4_compare_116 : decode cX4_compare 116 = .ok (.bipush 60, 2) := dk_16 60 (dk_at dksX4_compare_5 0 rfl rfl)
theorem dX4_compare_118 : decode cX4_compare 118 = .ok (.if_icmp .ne 15, 3) := dk_160 0 15 (dk_at dksX4_compare_5 2 rfl rfl)
theorem dX4_compare_121 : decode cX4_compare 121 = .ok (.iload_n 3, 1) := dk_29 (dk_at dksX4_compare_5 5 rfl rfl)
theorem dX4_compare_122 : decode cX4_compare 122 = .ok (.ifCond .eq 7, 3) := dk_153 0 7 (dk_at dksX4_compare_5 6 rfl rfl)
theorem dX4_compare_125 : decode cX4_compare 125 = .ok (.iconst 1, 1) := dk_4 (dk_at dksX4_compare_5 9 rfl rfl)
theorem dX4_compare_126 : decode cX4_compare 126 = .ok (.goto 26, 3) := dk_167 0 26 (dk_at dksX4_compare_5 10 rfl rfl)
theorem dX4_compare_129 : decode cX4_compare 129 = .ok (.iconst 0, 1) := dk_3 (dk_at dksX4_compare_5 13 rfl rfl)
theorem dX4_compare_130 : decode cX4_compare 130 = .ok (.goto 22, 3) := dk_167 0 22 (dk_at dksX4_compare_5 14 rfl rfl)
theorem dX4_compare_133 : decode cX4_compare 133 = .ok (.iload_n 1, 1) := dk_27 (dk_at dksX4_compare_5 17 rfl rfl)
theorem dX4_compare_134 : decode cX4_compare 134 = .ok (.bipush 61, 2) := dk_16 61 (dk_at dksX4_compare_5 18 rfl rfl)
theorem dX4_compare_136 : decode cX4_compare 136 = .ok (.if_icmp .ne 7, 3) := dk_160 0 7 (dk_at dksX4_compare_5 20 rfl rfl)
theorem dX4_compare_139 : decode cX4_compare 139 = .ok (.iconst 2, 1) := dk_5 (dk_at dksX4_compare_5 23 rfl rfl)
theorem dX4_compare_140 : decode cX4_compare 140 = .ok (.goto 12, 3) := dk_167 0 12 (dk_at dksX4_compare_6 0 rfl rfl)
theorem dX4_compare_143 : decode cX4_compare 143 = .ok (.iload_n 3, 1) := dk_29 (dk_at dksX4_compare_6 3 rfl rfl)
theorem dX4_compare_144 : decode cX4_compare 144 = .ok (.ifCond .eq 7, 3) := dk_153 0 7 (dk_at dksX4_compare_6 4 rfl rfl)
theorem dX4_compare_147 : decode cX4_compare 147 = .ok (.iconst 3, 1) := dk_6 (dk_at dksX4_compare_6 7 rfl rfl)
theorem dX4_compare_148 : decode cX4_compare 148 = .ok (.goto 4, 3) := dk_167 0 4 (dk_at dksX4_compare_6 8 rfl rfl)
theorem dX4_compare_151 : decode cX4_compare 151 = .ok (.iconst 4, 1) := dk_7 (dk_at dksX4_compare_6 11 rfl rfl)
theorem dX4_compare_152 : decode cX4_compare 152 = .ok (.istore 4, 2) := dk_54 4 (dk_at dksX4_compare_6 12 rfl rfl)
theorem dX4_compare_154 : decode cX4_compare 154 = .ok (.aload_n 0, 1) := dk_42 (dk_at dksX4_compare_6 14 rfl rfl)
theorem dX4_compare_155 : decode cX4_compare 155 = .ok (.invokevirtual 189, 3) := dk_182 0 189 (dk_at dksX4_compare_6 15 rfl rfl)
theorem dX4_compare_158 : decode cX4_compare 158 = .ok (.ifCond .ne 5, 3) := dk_154 0 5 (dk_at dksX4_compare_6 18 rfl rfl)
theorem dX4_compare_161 : decode cX4_compare 161 = .ok (.iconst 0, 1) := dk_3 (dk_at dksX4_compare_6 21 rfl rfl)
theorem dX4_compare_162 : decode cX4_compare 162 = .ok (.ireturn, 1) := dk_172 (dk_at dksX4_compare_6 22 rfl rfl)
theorem dX4_compare_163 : decode cX4_compare 163 = .ok (.aload_n 0, 1) := dk_42 (dk_at dksX4_compare_6 23 rfl rfl)
theorem dX4_compare_164 : decode cX4_compare 164 = .ok (.bipush 6, 2) := dk_16 6 (dk_at dksX4_compare_7 0 rfl rfl)
theorem dX4_compare_166 : decode cX4_compare 166 = .ok (.iload 4, 2) := dk_21 4 (dk_at dksX4_compare_7 2 rfl rfl)
theorem dX4_compare_168 : decode cX4_compare 168 = .ok (.iadd, 1) := dk_96 (dk_at dksX4_compare_7 4 rfl rfl)
theorem dX4_compare_169 : decode cX4_compare 169 = .ok (.iconst 0, 1) := dk_3 (dk_at dksX4_compare_7 5 rfl rfl)
theorem dX4_compare_170 : decode cX4_compare 170 = .ok (.invokevirtual 168, 3) := dk_182 0 168 (dk_at dksX4_compare_7 6 rfl rfl)
theorem dX4_compare_173 : decode cX4_compare 173 = .ok (.iconst 1, 1) := dk_4 (dk_at dksX4_compare_7 9 rfl rfl)
theorem dX4_compare_174 : decode cX4_compare 174 = .ok (.ireturn, 1) := dk_172 (dk_at dksX4_compare_7 10 rfl rfl)
abbrev cX4_closes : ByteArray := prog_19_method_29_code
def yX4_closes : MethodName := ⟨RX4, "closes", "()V"⟩
def dkwX4_closes_2 : List UInt8 := [89, 180, 0, 96, 4, 96, 181, 0, 96, 42, 6, 182, 0, 200, 167, 255, 200, 177]
abbrev dktX4_closes_2 : List UInt8 := dkwX4_closes_2 ++ []
def dkwX4_closes_1 : List UInt8 := [182, 0, 200, 42, 89, 180, 0, 161, 4, 100, 181, 0, 161, 42, 89, 180, 0, 158, 4, 100, 181, 0, 158, 42]
abbrev dktX4_closes_1 : List UInt8 := dkwX4_closes_1 ++ dktX4_closes_2
def dkwX4_closes_0 : List UInt8 := [42, 6, 182, 0, 200, 42, 182, 0, 99, 16, 93, 160, 0, 53, 42, 182, 0, 203, 153, 0, 46, 42, 4]
abbrev dktX4_closes_0 : List UInt8 := dkwX4_closes_0 ++ dktX4_closes_1
theorem dksX4_closes_0 : cX4_closes.data.toList.drop 0 = dktX4_closes_0 := by decide +kernel
theorem dksX4_closes_1 : cX4_closes.data.toList.drop 23 = dktX4_closes_1 := dk_seg dksX4_closes_0 23 rfl rfl
theorem dksX4_closes_2 : cX4_closes.data.toList.drop 47 = dktX4_closes_2 := dk_seg dksX4_closes_1 24 rfl rfl
theorem dX4_closes_0 : decode cX4_closes 0 = .ok (.aload_n 0, 1) := dk_42 (dk_at dksX4_closes_0 0 rfl rfl)
theorem dX4_closes_1 : decode cX4_closes 1 = .ok (.iconst 3, 1) := dk_6 (dk_at dksX4_closes_0 1 rfl rfl)
theorem dX4_closes_2 : decode cX4_closes 2 = .ok (.invokevirtual 200, 3) := dk_182 0 200 (dk_at dksX4_closes_0 2 rfl rfl)
theorem dX4_closes_5 : decode cX4_closes 5 = .ok (.aload_n 0, 1) := dk_42 (dk_at dksX4_closes_0 5 rfl rfl)
theorem dX4_closes_6 : decode cX4_closes 6 = .ok (.invokevirtual 99, 3) := dk_182 0 99 (dk_at dksX4_closes_0 6 rfl rfl)
theorem dX4_closes_9 : decode cX4_closes 9 = .ok (.bipush 93, 2) := dk_16 93 (dk_at dksX4_closes_0 9 rfl rfl)
theorem dX4_closes_11 : decode cX4_closes 11 = .ok (.if_icmp .ne 53, 3) := dk_160 0 53 (dk_at dksX4_closes_0 11 rfl rfl)
theorem dX4_closes_14 : decode cX4_closes 14 = .ok (.aload_n 0, 1) := dk_42 (dk_at dksX4_closes_0 14 rfl rfl)
theorem dX4_closes_15 : decode cX4_closes 15 = .ok (.invokevirtual 203, 3) := dk_182 0 203 (dk_at dksX4_closes_0 15 rfl rfl)
theorem dX4_closes_18 : decode cX4_closes 18 = .ok (.ifCond .eq 46, 3) := dk_153 0 46 (dk_at dksX4_closes_0 18 rfl rfl)
theorem dX4_closes_21 : decode cX4_closes 21 = .ok (.aload_n 0, 1) := dk_42 (dk_at dksX4_closes_0 21 rfl rfl)
theorem dX4_closes_22 : decode cX4_closes 22 = .ok (.iconst 1, 1) := dk_4 (dk_at dksX4_closes_0 22 rfl rfl)
theorem dX4_closes_23 : decode cX4_closes 23 = .ok (.invokevirtual 200, 3) := dk_182 0 200 (dk_at dksX4_closes_1 0 rfl rfl)
theorem dX4_closes_26 : decode cX4_closes 26 = .ok (.aload_n 0, 1) := dk_42 (dk_at dksX4_closes_1 3 rfl rfl)
theorem dX4_closes_27 : decode cX4_closes 27 = .ok (.dup, 1) := dk_89 (dk_at dksX4_closes_1 4 rfl rfl)
theorem dX4_closes_28 : decode cX4_closes 28 = .ok (.getfield 161, 3) := dk_180 0 161 (dk_at dksX4_closes_1 5 rfl rfl)
theorem dX4_closes_31 : decode cX4_closes 31 = .ok (.iconst 1, 1) := dk_4 (dk_at dksX4_closes_1 8 rfl rfl)
theorem dX4_closes_32 : decode cX4_closes 32 = .ok (.isub, 1) := dk_100 (dk_at dksX4_closes_1 9 rfl rfl)
theorem dX4_closes_33 : decode cX4_closes 33 = .ok (.putfield 161, 3) := dk_181 0 161 (dk_at dksX4_closes_1 10 rfl rfl)
theorem dX4_closes_36 : decode cX4_closes 36 = .ok (.aload_n 0, 1) := dk_42 (dk_at dksX4_closes_1 13 rfl rfl)
theorem dX4_closes_37 : decode cX4_closes 37 = .ok (.dup, 1) := dk_89 (dk_at dksX4_closes_1 14 rfl rfl)
theorem dX4_closes_38 : decode cX4_closes 38 = .ok (.getfield 158, 3) := dk_180 0 158 (dk_at dksX4_closes_1 15 rfl rfl)
theorem dX4_closes_41 : decode cX4_closes 41 = .ok (.iconst 1, 1) := dk_4 (dk_at dksX4_closes_1 18 rfl rfl)
theorem dX4_closes_42 : decode cX4_closes 42 = .ok (.isub, 1) := dk_100 (dk_at dksX4_closes_1 19 rfl rfl)
theorem dX4_closes_43 : decode cX4_closes 43 = .ok (.putfield 158, 3) := dk_181 0 158 (dk_at dksX4_closes_1 20 rfl rfl)
theorem dX4_closes_46 : decode cX4_closes 46 = .ok (.aload_n 0, 1) := dk_42 (dk_at dksX4_closes_1 23 rfl rfl)
theorem dX4_closes_47 : decode cX4_closes 47 = .ok (.dup, 1) := dk_89 (dk_at dksX4_closes_2 0 rfl rfl)
theorem dX4_closes_48 : decode cX4_closes 48 = .ok (.getfield 96, 3) := dk_180 0 96 (dk_at dksX4_closes_2 1 rfl rfl)
theorem dX4_closes_51 : decode cX4_closes 51 = .ok (.iconst 1, 1) := dk_4 (dk_at dksX4_closes_2 4 rfl rfl)
theorem dX4_closes_52 : decode cX4_closes 52 = .ok (.iadd, 1) := dk_96 (dk_at dksX4_closes_2 5 rfl rfl)
theorem dX4_closes_53 : decode cX4_closes 53 = .ok (.putfield 96, 3) := dk_181 0 96 (dk_at dksX4_closes_2 6 rfl rfl)
theorem dX4_closes_56 : decode cX4_closes 56 = .ok (.aload_n 0, 1) := dk_42 (dk_at dksX4_closes_2 9 rfl rfl)
theorem dX4_closes_57 : decode cX4_closes 57 = .ok (.iconst 3, 1) := dk_6 (dk_at dksX4_closes_2 10 rfl rfl)
theorem dX4_closes_58 : decode cX4_closes 58 = .ok (.invokevirtual 200, 3) := dk_182 0 200 (dk_at dksX4_closes_2 11 rfl rfl)
theorem dX4_closes_61 : decode cX4_closes 61 = .ok (.goto (-56), 3) := dk_167 255 200 (dk_at dksX4_closes_2 14 rfl rfl)
theorem dX4_closes_64 : decode cX4_closes 64 = .ok (.return_, 1) := dk_177 (dk_at dksX4_closes_2 17 rfl rfl)
abbrev cX4_settles : ByteArray := prog_19_method_22_code
def yX4_settles : MethodName := ⟨RX4, "settles", "(I)V"⟩
def dkwX4_settles_3 : List UInt8 := [181, 0, 158, 167, 255, 183, 177]
abbrev dktX4_settles_3 : List UInt8 := dkwX4_settles_3 ++ []
def dkwX4_settles_2 : List UInt8 := [182, 0, 168, 42, 180, 0, 29, 42, 180, 0, 161, 46, 16, 11, 160, 255, 196, 42, 89, 180, 0, 158, 4, 100]
abbrev dktX4_settles_2 : List UInt8 := dkwX4_settles_2 ++ dktX4_settles_3
def dkwX4_settles_1 : List UInt8 := [161, 0, 54, 42, 89, 180, 0, 161, 4, 100, 181, 0, 161, 42, 42, 180, 0, 29, 42, 180, 0, 161, 46, 3]
abbrev dktX4_settles_1 : List UInt8 := dkwX4_settles_1 ++ dktX4_settles_2
def dkwX4_settles_0 : List UInt8 := [42, 180, 0, 161, 158, 0, 72, 42, 180, 0, 29, 42, 180, 0, 161, 4, 100, 46, 184, 0, 164, 27]
abbrev dktX4_settles_0 : List UInt8 := dkwX4_settles_0 ++ dktX4_settles_1
theorem dksX4_settles_0 : cX4_settles.data.toList.drop 0 = dktX4_settles_0 := by decide +kernel
theorem dksX4_settles_1 : cX4_settles.data.toList.drop 22 = dktX4_settles_1 := dk_seg dksX4_settles_0 22 rfl rfl
theorem dksX4_settles_2 : cX4_settles.data.toList.drop 46 = dktX4_settles_2 := dk_seg dksX4_settles_1 24 rfl rfl
theorem dksX4_settles_3 : cX4_settles.data.toList.drop 70 = dktX4_settles_3 := dk_seg dksX4_settles_2 24 rfl rfl
theorem dX4_settles_0 : decode cX4_settles 0 = .ok (.aload_n 0, 1) := dk_42 (dk_at dksX4_settles_0 0 rfl rfl)
theorem dX4_settles_1 : decode cX4_settles 1 = .ok (.getfield 161, 3) := dk_180 0 161 (dk_at dksX4_settles_0 1 rfl rfl)
theorem dX4_settles_4 : decode cX4_settles 4 = .ok (.ifCond .le 72, 3) := dk_158 0 72 (dk_at dksX4_settles_0 4 rfl rfl)
theorem dX4_settles_7 : decode cX4_settles 7 = .ok (.aload_n 0, 1) := dk_42 (dk_at dksX4_settles_0 7 rfl rfl)
theorem dX4_settles_8 : decode cX4_settles 8 = .ok (.getfield 29, 3) := dk_180 0 29 (dk_at dksX4_settles_0 8 rfl rfl)
theorem dX4_settles_11 : decode cX4_settles 11 = .ok (.aload_n 0, 1) := dk_42 (dk_at dksX4_settles_0 11 rfl rfl)
theorem dX4_settles_12 : decode cX4_settles 12 = .ok (.getfield 161, 3) := dk_180 0 161 (dk_at dksX4_settles_0 12 rfl rfl)
theorem dX4_settles_15 : decode cX4_settles 15 = .ok (.iconst 1, 1) := dk_4 (dk_at dksX4_settles_0 15 rfl rfl)
theorem dX4_settles_16 : decode cX4_settles 16 = .ok (.isub, 1) := dk_100 (dk_at dksX4_settles_0 16 rfl rfl)
theorem dX4_settles_17 : decode cX4_settles 17 = .ok (.iaload, 1) := dk_46 (dk_at dksX4_settles_0 17 rfl rfl)
theorem dX4_settles_18 : decode cX4_settles 18 = .ok (.invokestatic 164, 3) := dk_184 0 164 (dk_at dksX4_settles_0 18 rfl rfl)
theorem dX4_settles_21 : decode cX4_settles 21 = .ok (.iload_n 1, 1) := dk_27 (dk_at dksX4_settles_0 21 rfl rfl)
theorem dX4_settles_22 : decode cX4_settles 22 = .ok (.if_icmp .lt 54, 3) := dk_161 0 54 (dk_at dksX4_settles_1 0 rfl rfl)
theorem dX4_settles_25 : decode cX4_settles 25 = .ok (.aload_n 0, 1) := dk_42 (dk_at dksX4_settles_1 3 rfl rfl)
theorem dX4_settles_26 : decode cX4_settles 26 = .ok (.dup, 1) := dk_89 (dk_at dksX4_settles_1 4 rfl rfl)
theorem dX4_settles_27 : decode cX4_settles 27 = .ok (.getfield 161, 3) := dk_180 0 161 (dk_at dksX4_settles_1 5 rfl rfl)
theorem dX4_settles_30 : decode cX4_settles 30 = .ok (.iconst 1, 1) := dk_4 (dk_at dksX4_settles_1 8 rfl rfl)
theorem dX4_settles_31 : decode cX4_settles 31 = .ok (.isub, 1) := dk_100 (dk_at dksX4_settles_1 9 rfl rfl)
theorem dX4_settles_32 : decode cX4_settles 32 = .ok (.putfield 161, 3) := dk_181 0 161 (dk_at dksX4_settles_1 10 rfl rfl)
theorem dX4_settles_35 : decode cX4_settles 35 = .ok (.aload_n 0, 1) := dk_42 (dk_at dksX4_settles_1 13 rfl rfl)
theorem dX4_settles_36 : decode cX4_settles 36 = .ok (.aload_n 0, 1) := dk_42 (dk_at dksX4_settles_1 14 rfl rfl)
theorem dX4_settles_37 : decode cX4_settles 37 = .ok (.getfield 29, 3) := dk_180 0 29 (dk_at dksX4_settles_1 15 rfl rfl)
theorem dX4_settles_40 : decode cX4_settles 40 = .ok (.aload_n 0, 1) := dk_42 (dk_at dksX4_settles_1 18 rfl rfl)
theorem dX4_settles_41 : decode cX4_settles 41 = .ok (.getfield 161, 3) := dk_180 0 161 (dk_at dksX4_settles_1 19 rfl rfl)
theorem dX4_settles_44 : decode cX4_settles 44 = .ok (.iaload, 1) := dk_46 (dk_at dksX4_settles_1 22 rfl rfl)
theorem dX4_settles_45 : decode cX4_settles 45 = .ok (.iconst 0, 1) := dk_3 (dk_at dksX4_settles_1 23 rfl rfl)
theorem dX4_settles_46 : decode cX4_settles 46 = .ok (.invokevirtual 168, 3) := dk_182 0 168 (dk_at dksX4_settles_2 0 rfl rfl)
theorem dX4_settles_49 : decode cX4_settles 49 = .ok (.aload_n 0, 1) := dk_42 (dk_at dksX4_settles_2 3 rfl rfl)
theorem dX4_settles_50 : decode cX4_settles 50 = .ok (.getfield 29, 3) := dk_180 0 29 (dk_at dksX4_settles_2 4 rfl rfl)
theorem dX4_settles_53 : decode cX4_settles 53 = .ok (.aload_n 0, 1) := dk_42 (dk_at dksX4_settles_2 7 rfl rfl)
theorem dX4_settles_54 : decode cX4_settles 54 = .ok (.getfield 161, 3) := dk_180 0 161 (dk_at dksX4_settles_2 8 rfl rfl)
theorem dX4_settles_57 : decode cX4_settles 57 = .ok (.iaload, 1) := dk_46 (dk_at dksX4_settles_2 11 rfl rfl)
theorem dX4_settles_58 : decode cX4_settles 58 = .ok (.bipush 11, 2) := dk_16 11 (dk_at dksX4_settles_2 12 rfl rfl)
theorem dX4_settles_60 : decode cX4_settles 60 = .ok (.if_icmp .ne (-60), 3) := dk_160 255 196 (dk_at dksX4_settles_2 14 rfl rfl)
theorem dX4_settles_63 : decode cX4_settles 63 = .ok (.aload_n 0, 1) := dk_42 (dk_at dksX4_settles_2 17 rfl rfl)
theorem dX4_settles_64 : decode cX4_settles 64 = .ok (.dup, 1) := dk_89 (dk_at dksX4_settles_2 18 rfl rfl)
theorem dX4_settles_65 : decode cX4_settles 65 = .ok (.getfield 158, 3) := dk_180 0 158 (dk_at dksX4_settles_2 19 rfl rfl)
theorem dX4_settles_68 : decode cX4_settles 68 = .ok (.iconst 1, 1) := dk_4 (dk_at dksX4_settles_2 22 rfl rfl)
theorem dX4_settles_69 : decode cX4_settles 69 = .ok (.isub, 1) := dk_100 (dk_at dksX4_settles_2 23 rfl rfl)
theorem dX4_settles_70 : decode cX4_settles 70 = .ok (.putfield 158, 3) := dk_181 0 158 (dk_at dksX4_settles_3 0 rfl rfl)
theorem dX4_settles_73 : decode cX4_settles 73 = .ok (.goto (-73), 3) := dk_167 255 183 (dk_at dksX4_settles_3 3 rfl rfl)
theorem dX4_settles_76 : decode cX4_settles 76 = .ok (.return_, 1) := dk_177 (dk_at dksX4_settles_3 6 rfl rfl)
abbrev cX4_strength : ByteArray := prog_19_method_21_code
def yX4_strength : MethodName := ⟨RX4, "strength", "(I)I"⟩
def dkwX4_strength_1 : List UInt8 := [160, 0, 7, 6, 167, 0, 4, 3, 172]
abbrev dktX4_strength_1 : List UInt8 := dkwX4_strength_1 ++ []
def dkwX4_strength_0 : List UInt8 := [26, 16, 13, 160, 0, 7, 4, 167, 0, 24, 26, 16, 12, 160, 0, 7, 5, 167, 0, 14, 26, 16, 11]
abbrev dktX4_strength_0 : List UInt8 := dkwX4_strength_0 ++ dktX4_strength_1
theorem dksX4_strength_0 : cX4_strength.data.toList.drop 0 = dktX4_strength_0 := by decide +kernel
theorem dksX4_strength_1 : cX4_strength.data.toList.drop 23 = dktX4_strength_1 := dk_seg dksX4_strength_0 23 rfl rfl
theorem dX4_strength_0 : decode cX4_strength 0 = .ok (.iload_n 0, 1) := dk_26 (dk_at dksX4_strength_0 0 rfl rfl)
theorem dX4_strength_1 : decode cX4_strength 1 = .ok (.bipush 13, 2) := dk_16 13 (dk_at dksX4_strength_0 1 rfl rfl)
theorem dX4_strength_3 : decode cX4_strength 3 = .ok (.if_icmp .ne 7, 3) := dk_160 0 7 (dk_at dksX4_strength_0 3 rfl rfl)
theorem dX4_strength_6 : decode cX4_strength 6 = .ok (.iconst 1, 1) := dk_4 (dk_at dksX4_strength_0 6 rfl rfl)
theorem dX4_strength_7 : decode cX4_strength 7 = .ok (.goto 24, 3) := dk_167 0 24 (dk_at dksX4_strength_0 7 rfl rfl)
theorem dX4_strength_10 : decode cX4_strength 10 = .ok (.iload_n 0, 1) := dk_26 (dk_at dksX4_strength_0 10 rfl rfl)
theorem dX4_strength_11 : decode cX4_strength 11 = .ok (.bipush 12, 2) := dk_16 12 (dk_at dksX4_strength_0 11 rfl rfl)
theorem dX4_strength_13 : decode cX4_strength 13 = .ok (.if_icmp .ne 7, 3) := dk_160 0 7 (dk_at dksX4_strength_0 13 rfl rfl)
theorem dX4_strength_16 : decode cX4_strength 16 = .ok (.iconst 2, 1) := dk_5 (dk_at dksX4_strength_0 16 rfl rfl)
theorem dX4_strength_17 : decode cX4_strength 17 = .ok (.goto 14, 3) := dk_167 0 14 (dk_at dksX4_strength_0 17 rfl rfl)
theorem dX4_strength_20 : decode cX4_strength 20 = .ok (.iload_n 0, 1) := dk_26 (dk_at dksX4_strength_0 20 rfl rfl)
theorem dX4_strength_21 : decode cX4_strength 21 = .ok (.bipush 11, 2) := dk_16 11 (dk_at dksX4_strength_0 21 rfl rfl)
theorem dX4_strength_23 : decode cX4_strength 23 = .ok (.if_icmp .ne 7, 3) := dk_160 0 7 (dk_at dksX4_strength_1 0 rfl rfl)
theorem dX4_strength_26 : decode cX4_strength 26 = .ok (.iconst 3, 1) := dk_6 (dk_at dksX4_strength_1 3 rfl rfl)
theorem dX4_strength_27 : decode cX4_strength 27 = .ok (.goto 4, 3) := dk_167 0 4 (dk_at dksX4_strength_1 4 rfl rfl)
theorem dX4_strength_30 : decode cX4_strength 30 = .ok (.iconst 0, 1) := dk_3 (dk_at dksX4_strength_1 7 rfl rfl)
theorem dX4_strength_31 : decode cX4_strength 31 = .ok (.ireturn, 1) := dk_172 (dk_at dksX4_strength_1 8 rfl rfl)
abbrev cX4_isInside : ByteArray := prog_19_method_28_code
def yX4_isInside : MethodName := ⟨RX4, "isInside", "()Z"⟩
def dkwX4_isInside_1 : List UInt8 := [132, 1, 1, 167, 255, 232, 3, 172]
abbrev dktX4_isInside_1 : List UInt8 := dkwX4_isInside_1 ++ []
def dkwX4_isInside_0 : List UInt8 := [3, 60, 27, 42, 180, 0, 161, 162, 0, 22, 42, 180, 0, 29, 27, 46, 16, 91, 160, 0, 5, 4, 172]
abbrev dktX4_isInside_0 : List UInt8 := dkwX4_isInside_0 ++ dktX4_isInside_1
theorem dksX4_isInside_0 : cX4_isInside.data.toList.drop 0 = dktX4_isInside_0 := by decide +kernel
theorem dksX4_isInside_1 : cX4_isInside.data.toList.drop 23 = dktX4_isInside_1 := dk_seg dksX4_isInside_0 23 rfl rfl
theorem dX4_isInside_0 : decode cX4_isInside 0 = .ok (.iconst 0, 1) := dk_3 (dk_at dksX4_isInside_0 0 rfl rfl)
theorem dX4_isInside_1 : decode cX4_isInside 1 = .ok (.istore_n 1, 1) := dk_60 (dk_at dksX4_isInside_0 1 rfl rfl)
theorem dX4_isInside_2 : decode cX4_isInside 2 = .ok (.iload_n 1, 1) := dk_27 (dk_at dksX4_isInside_0 2 rfl rfl)
theorem dX4_isInside_3 : decode cX4_isInside 3 = .ok (.aload_n 0, 1) := dk_42 (dk_at dksX4_isInside_0 3 rfl rfl)
theorem dX4_isInside_4 : decode cX4_isInside 4 = .ok (.getfield 161, 3) := dk_180 0 161 (dk_at dksX4_isInside_0 4 rfl rfl)
theorem dX4_isInside_7 : decode cX4_isInside 7 = .ok (.if_icmp .ge 22, 3) := dk_162 0 22 (dk_at dksX4_isInside_0 7 rfl rfl)
theorem dX4_isInside_10 : decode cX4_isInside 10 = .ok (.aload_n 0, 1) := dk_42 (dk_at dksX4_isInside_0 10 rfl rfl)
theorem dX4_isInside_11 : decode cX4_isInside 11 = .ok (.getfield 29, 3) := dk_180 0 29 (dk_at dksX4_isInside_0 11 rfl rfl)
theorem dX4_isInside_14 : decode cX4_isInside 14 = .ok (.iload_n 1, 1) := dk_27 (dk_at dksX4_isInside_0 14 rfl rfl)
theorem dX4_isInside_15 : decode cX4_isInside 15 = .ok (.iaload, 1) := dk_46 (dk_at dksX4_isInside_0 15 rfl rfl)
theorem dX4_isInside_16 : decode cX4_isInside 16 = .ok (.bipush 91, 2) := dk_16 91 (dk_at dksX4_isInside_0 16 rfl rfl)
theorem dX4_isInside_18 : decode cX4_isInside 18 = .ok (.if_icmp .ne 5, 3) := dk_160 0 5 (dk_at dksX4_isInside_0 18 rfl rfl)
theorem dX4_isInside_21 : decode cX4_isInside 21 = .ok (.iconst 1, 1) := dk_4 (dk_at dksX4_isInside_0 21 rfl rfl)
theorem dX4_isInside_22 : decode cX4_isInside 22 = .ok (.ireturn, 1) := dk_172 (dk_at dksX4_isInside_0 22 rfl rfl)
theorem dX4_isInside_23 : decode cX4_isInside 23 = .ok (.iinc 1 1, 3) := dk_132 1 1 (dk_at dksX4_isInside_1 0 rfl rfl)
theorem dX4_isInside_26 : decode cX4_isInside 26 = .ok (.goto (-24), 3) := dk_167 255 232 (dk_at dksX4_isInside_1 3 rfl rfl)
theorem dX4_isInside_29 : decode cX4_isInside 29 = .ok (.iconst 0, 1) := dk_3 (dk_at dksX4_isInside_1 6 rfl rfl)
theorem dX4_isInside_30 : decode cX4_isInside 30 = .ok (.ireturn, 1) := dk_172 (dk_at dksX4_isInside_1 7 rfl rfl)
abbrev cX4_valley : ByteArray := prog_19_method_45_code
def yX4_valley : MethodName := ⟨RX4, "valley", "()I"⟩
def dkwX4_valley_3 : List UInt8 := [79, 132, 1, 1, 167, 255, 225, 42, 182, 1, 30, 42, 3, 181, 1, 33, 42, 180, 0, 39, 5, 46, 172]
abbrev dktX4_valley_3 : List UInt8 := dkwX4_valley_3 ++ []
def dkwX4_valley_2 : List UInt8 := [162, 0, 31, 42, 180, 0, 39, 27, 27, 16, 93, 162, 0, 12, 42, 180, 0, 26, 27, 46, 167, 0, 4, 3]
abbrev dktX4_valley_2 : List UInt8 := dkwX4_valley_2 ++ dktX4_valley_3
def dkwX4_valley_1 : List UInt8 := [167, 255, 240, 42, 182, 1, 27, 154, 0, 11, 16, 254, 42, 180, 0, 93, 100, 172, 3, 60, 27, 16, 124]
abbrev dktX4_valley_1 : List UInt8 := dkwX4_valley_1 ++ dktX4_valley_2
def dkwX4_valley_0 : List UInt8 := [42, 16, 6, 181, 0, 152, 3, 60, 27, 16, 93, 162, 0, 16, 42, 180, 0, 26, 27, 3, 79, 132, 1, 1]
abbrev dktX4_valley_0 : List UInt8 := dkwX4_valley_0 ++ dktX4_valley_1
theorem dksX4_valley_0 : cX4_valley.data.toList.drop 0 = dktX4_valley_0 := by decide +kernel
theorem dksX4_valley_1 : cX4_valley.data.toList.drop 24 = dktX4_valley_1 := dk_seg dksX4_valley_0 24 rfl rfl
theorem dksX4_valley_2 : cX4_valley.data.toList.drop 47 = dktX4_valley_2 := dk_seg dksX4_valley_1 23 rfl rfl
theorem dksX4_valley_3 : cX4_valley.data.toList.drop 71 = dktX4_valley_3 := dk_seg dksX4_valley_2 24 rfl rfl
theorem dX4_valley_0 : decode cX4_valley 0 = .ok (.aload_n 0, 1) := dk_42 (dk_at dksX4_valley_0 0 rfl rfl)
theorem dX4_valley_1 : decode cX4_valley 1 = .ok (.bipush 6, 2) := dk_16 6 (dk_at dksX4_valley_0 1 rfl rfl)
theorem dX4_valley_3 : decode cX4_valley 3 = .ok (.putfield 152, 3) := dk_181 0 152 (dk_at dksX4_valley_0 3 rfl rfl)
theorem dX4_valley_6 : decode cX4_valley 6 = .ok (.iconst 0, 1) := dk_3 (dk_at dksX4_valley_0 6 rfl rfl)
theorem dX4_valley_7 : decode cX4_valley 7 = .ok (.istore_n 1, 1) := dk_60 (dk_at dksX4_valley_0 7 rfl rfl)
theorem dX4_valley_8 : decode cX4_valley 8 = .ok (.iload_n 1, 1) := dk_27 (dk_at dksX4_valley_0 8 rfl rfl)
theorem dX4_valley_9 : decode cX4_valley 9 = .ok (.bipush 93, 2) := dk_16 93 (dk_at dksX4_valley_0 9 rfl rfl)
theorem dX4_valley_11 : decode cX4_valley 11 = .ok (.if_icmp .ge 16, 3) := dk_162 0 16 (dk_at dksX4_valley_0 11 rfl rfl)
theorem dX4_valley_14 : decode cX4_valley 14 = .ok (.aload_n 0, 1) := dk_42 (dk_at dksX4_valley_0 14 rfl rfl)
theorem dX4_valley_15 : decode cX4_valley 15 = .ok (.getfield 26, 3) := dk_180 0 26 (dk_at dksX4_valley_0 15 rfl rfl)
theorem dX4_valley_18 : decode cX4_valley 18 = .ok (.iload_n 1, 1) := dk_27 (dk_at dksX4_valley_0 18 rfl rfl)
theorem dX4_valley_19 : decode cX4_valley 19 = .ok (.iconst 0, 1) := dk_3 (dk_at dksX4_valley_0 19 rfl rfl)
theorem dX4_valley_20 : decode cX4_valley 20 = .ok (.iastore, 1) := dk_79 (dk_at dksX4_valley_0 20 rfl rfl)
theorem dX4_valley_21 : decode cX4_valley 21 = .ok (.iinc 1 1, 3) := dk_132 1 1 (dk_at dksX4_valley_0 21 rfl rfl)
theorem dX4_valley_24 : decode cX4_valley 24 = .ok (.goto (-16), 3) := dk_167 255 240 (dk_at dksX4_valley_1 0 rfl rfl)
theorem dX4_valley_27 : decode cX4_valley 27 = .ok (.aload_n 0, 1) := dk_42 (dk_at dksX4_valley_1 3 rfl rfl)
theorem dX4_valley_28 : decode cX4_valley 28 = .ok (.invokevirtual 283, 3) := dk_182 1 27 (dk_at dksX4_valley_1 4 rfl rfl)
theorem dX4_valley_31 : decode cX4_valley 31 = .ok (.ifCond .ne 11, 3) := dk_154 0 11 (dk_at dksX4_valley_1 7 rfl rfl)
theorem dX4_valley_34 : decode cX4_valley 34 = .ok (.bipush (-2), 2) := dk_16 254 (dk_at dksX4_valley_1 10 rfl rfl)
theorem dX4_valley_36 : decode cX4_valley 36 = .ok (.aload_n 0, 1) := dk_42 (dk_at dksX4_valley_1 12 rfl rfl)
theorem dX4_valley_37 : decode cX4_valley 37 = .ok (.getfield 93, 3) := dk_180 0 93 (dk_at dksX4_valley_1 13 rfl rfl)
theorem dX4_valley_40 : decode cX4_valley 40 = .ok (.isub, 1) := dk_100 (dk_at dksX4_valley_1 16 rfl rfl)
theorem dX4_valley_41 : decode cX4_valley 41 = .ok (.ireturn, 1) := dk_172 (dk_at dksX4_valley_1 17 rfl rfl)
theorem dX4_valley_42 : decode cX4_valley 42 = .ok (.iconst 0, 1) := dk_3 (dk_at dksX4_valley_1 18 rfl rfl)
theorem dX4_valley_43 : decode cX4_valley 43 = .ok (.istore_n 1, 1) := dk_60 (dk_at dksX4_valley_1 19 rfl rfl)
theorem dX4_valley_44 : decode cX4_valley 44 = .ok (.iload_n 1, 1) := dk_27 (dk_at dksX4_valley_1 20 rfl rfl)
theorem dX4_valley_45 : decode cX4_valley 45 = .ok (.bipush 124, 2) := dk_16 124 (dk_at dksX4_valley_1 21 rfl rfl)
theorem dX4_valley_47 : decode cX4_valley 47 = .ok (.if_icmp .ge 31, 3) := dk_162 0 31 (dk_at dksX4_valley_2 0 rfl rfl)
theorem dX4_valley_50 : decode cX4_valley 50 = .ok (.aload_n 0, 1) := dk_42 (dk_at dksX4_valley_2 3 rfl rfl)
theorem dX4_valley_51 : decode cX4_valley 51 = .ok (.getfield 39, 3) := dk_180 0 39 (dk_at dksX4_valley_2 4 rfl rfl)
theorem dX4_valley_54 : decode cX4_valley 54 = .ok (.iload_n 1, 1) := dk_27 (dk_at dksX4_valley_2 7 rfl rfl)
theorem dX4_valley_55 : decode cX4_valley 55 = .ok (.iload_n 1, 1) := dk_27 (dk_at dksX4_valley_2 8 rfl rfl)
theorem dX4_valley_56 : decode cX4_valley 56 = .ok (.bipush 93, 2) := dk_16 93 (dk_at dksX4_valley_2 9 rfl rfl)
theorem dX4_valley_58 : decode cX4_valley 58 = .ok (.if_icmp .ge 12, 3) := dk_162 0 12 (dk_at dksX4_valley_2 11 rfl rfl)
theorem dX4_valley_61 : decode cX4_valley 61 = .ok (.aload_n 0, 1) := dk_42 (dk_at dksX4_valley_2 14 rfl rfl)
theorem dX4_valley_62 : decode cX4_valley 62 = .ok (.getfield 26, 3) := dk_180 0 26 (dk_at dksX4_valley_2 15 rfl rfl)
theorem dX4_valley_65 : decode cX4_valley 65 = .ok (.iload_n 1, 1) := dk_27 (dk_at dksX4_valley_2 18 rfl rfl)
theorem dX4_valley_66 : decode cX4_valley 66 = .ok (.iaload, 1) := dk_46 (dk_at dksX4_valley_2 19 rfl rfl)
theorem dX4_valley_67 : decode cX4_valley 67 = .ok (.goto 4, 3) := dk_167 0 4 (dk_at dksX4_valley_2 20 rfl rfl)
theorem dX4_valley_70 : decode cX4_valley 70 = .ok (.iconst 0, 1) := dk_3 (dk_at dksX4_valley_2 23 rfl rfl)
theorem dX4_valley_71 : decode cX4_valley 71 = .ok (.iastore, 1) := dk_79 (dk_at dksX4_valley_3 0 rfl rfl)
theorem dX4_valley_72 : decode cX4_valley 72 = .ok (.iinc 1 1, 3) := dk_132 1 1 (dk_at dksX4_valley_3 1 rfl rfl)
theorem dX4_valley_75 : decode cX4_valley 75 = .ok (.goto (-31), 3) := dk_167 255 225 (dk_at dksX4_valley_3 4 rfl rfl)
theorem dX4_valley_78 : decode cX4_valley 78 = .ok (.aload_n 0, 1) := dk_42 (dk_at dksX4_valley_3 7 rfl rfl)
theorem dX4_valley_79 : decode cX4_valley 79 = .ok (.invokevirtual 286, 3) := dk_182 1 30 (dk_at dksX4_valley_3 8 rfl rfl)
theorem dX4_valley_82 : decode cX4_valley 82 = .ok (.aload_n 0, 1) := dk_42 (dk_at dksX4_valley_3 11 rfl rfl)
theorem dX4_valley_83 : decode cX4_valley 83 = .ok (.iconst 0, 1) := dk_3 (dk_at dksX4_valley_3 12 rfl rfl)
theorem dX4_valley_84 : decode cX4_valley 84 = .ok (.putfield 289, 3) := dk_181 1 33 (dk_at dksX4_valley_3 13 rfl rfl)
theorem dX4_valley_87 : decode cX4_valley 87 = .ok (.aload_n 0, 1) := dk_42 (dk_at dksX4_valley_3 16 rfl rfl)
theorem dX4_valley_88 : decode cX4_valley 88 = .ok (.getfield 39, 3) := dk_180 0 39 (dk_at dksX4_valley_3 17 rfl rfl)
theorem dX4_valley_91 : decode cX4_valley 91 = .ok (.iconst 2, 1) := dk_5 (dk_at dksX4_valley_3 20 rfl rfl)
theorem dX4_valley_92 : decode cX4_valley 92 = .ok (.iaload, 1) := dk_46 (dk_at dksX4_valley_3 21 rfl rfl)
theorem dX4_valley_93 : decode cX4_valley 93 = .ok (.ireturn, 1) := dk_172 (dk_at dksX4_valley_3 22 rfl rfl)
abbrev cX4_begins : ByteArray := prog_19_method_60_code
def yX4_begins : MethodName := ⟨RX4, "begins", "()V"⟩
def dkwX4_begins_3 : List UInt8 := [177]
abbrev dktX4_begins_3 : List UInt8 := dkwX4_begins_3 ++ []
def dkwX4_begins_2 : List UInt8 := [42, 180, 0, 39, 16, 22, 27, 96, 42, 180, 0, 39, 16, 54, 27, 96, 46, 79, 132, 1, 1, 167, 255, 211]
abbrev dktX4_begins_2 : List UInt8 := dkwX4_begins_2 ++ dktX4_begins_3
def dkwX4_begins_1 : List UInt8 := [27, 16, 8, 162, 0, 45, 42, 180, 0, 39, 16, 14, 27, 96, 42, 180, 0, 39, 16, 46, 27, 96, 46, 79]
abbrev dktX4_begins_1 : List UInt8 := dkwX4_begins_1 ++ dktX4_begins_2
def dkwX4_begins_0 : List UInt8 := [16, 10, 60, 27, 16, 14, 162, 0, 16, 42, 180, 0, 39, 27, 3, 79, 132, 1, 1, 167, 255, 240, 3, 60]
abbrev dktX4_begins_0 : List UInt8 := dkwX4_begins_0 ++ dktX4_begins_1
theorem dksX4_begins_0 : cX4_begins.data.toList.drop 0 = dktX4_begins_0 := by decide +kernel
theorem dksX4_begins_1 : cX4_begins.data.toList.drop 24 = dktX4_begins_1 := dk_seg dksX4_begins_0 24 rfl rfl
theorem dksX4_begins_2 : cX4_begins.data.toList.drop 48 = dktX4_begins_2 := dk_seg dksX4_begins_1 24 rfl rfl
theorem dksX4_begins_3 : cX4_begins.data.toList.drop 72 = dktX4_begins_3 := dk_seg dksX4_begins_2 24 rfl rfl
theorem dX4_begins_0 : decode cX4_begins 0 = .ok (.bipush 10, 2) := dk_16 10 (dk_at dksX4_begins_0 0 rfl rfl)
theorem dX4_begins_2 : decode cX4_begins 2 = .ok (.istore_n 1, 1) := dk_60 (dk_at dksX4_begins_0 2 rfl rfl)
theorem dX4_begins_3 : decode cX4_begins 3 = .ok (.iload_n 1, 1) := dk_27 (dk_at dksX4_begins_0 3 rfl rfl)
theorem dX4_begins_4 : decode cX4_begins 4 = .ok (.bipush 14, 2) := dk_16 14 (dk_at dksX4_begins_0 4 rfl rfl)
theorem dX4_begins_6 : decode cX4_begins 6 = .ok (.if_icmp .ge 16, 3) := dk_162 0 16 (dk_at dksX4_begins_0 6 rfl rfl)
theorem dX4_begins_9 : decode cX4_begins 9 = .ok (.aload_n 0, 1) := dk_42 (dk_at dksX4_begins_0 9 rfl rfl)
theorem dX4_begins_10 : decode cX4_begins 10 = .ok (.getfield 39, 3) := dk_180 0 39 (dk_at dksX4_begins_0 10 rfl rfl)
theorem dX4_begins_13 : decode cX4_begins 13 = .ok (.iload_n 1, 1) := dk_27 (dk_at dksX4_begins_0 13 rfl rfl)
theorem dX4_begins_14 : decode cX4_begins 14 = .ok (.iconst 0, 1) := dk_3 (dk_at dksX4_begins_0 14 rfl rfl)
theorem dX4_begins_15 : decode cX4_begins 15 = .ok (.iastore, 1) := dk_79 (dk_at dksX4_begins_0 15 rfl rfl)
theorem dX4_begins_16 : decode cX4_begins 16 = .ok (.iinc 1 1, 3) := dk_132 1 1 (dk_at dksX4_begins_0 16 rfl rfl)
theorem dX4_begins_19 : decode cX4_begins 19 = .ok (.goto (-16), 3) := dk_167 255 240 (dk_at dksX4_begins_0 19 rfl rfl)
theorem dX4_begins_22 : decode cX4_begins 22 = .ok (.iconst 0, 1) := dk_3 (dk_at dksX4_begins_0 22 rfl rfl)
theorem dX4_begins_23 : decode cX4_begins 23 = .ok (.istore_n 1, 1) := dk_60 (dk_at dksX4_begins_0 23 rfl rfl)
theorem dX4_begins_24 : decode cX4_begins 24 = .ok (.iload_n 1, 1) := dk_27 (dk_at dksX4_begins_1 0 rfl rfl)
theorem dX4_begins_25 : decode cX4_begins 25 = .ok (.bipush 8, 2) := dk_16 8 (dk_at dksX4_begins_1 1 rfl rfl)
theorem dX4_begins_27 : decode cX4_begins 27 = .ok (.if_icmp .ge 45, 3) := dk_162 0 45 (dk_at dksX4_begins_1 3 rfl rfl)
theorem dX4_begins_30 : decode cX4_begins 30 = .ok (.aload_n 0, 1) := dk_42 (dk_at dksX4_begins_1 6 rfl rfl)
theorem dX4_begins_31 : decode cX4_begins 31 = .ok (.getfield 39, 3) := dk_180 0 39 (dk_at dksX4_begins_1 7 rfl rfl)
theorem dX4_begins_34 : decode cX4_begins 34 = .ok (.bipush 14, 2) := dk_16 14 (dk_at dksX4_begins_1 10 rfl rfl)
theorem dX4_begins_36 : decode cX4_begins 36 = .ok (.iload_n 1, 1) := dk_27 (dk_at dksX4_begins_1 12 rfl rfl)
theorem dX4_begins_37 : decode cX4_begins 37 = .ok (.iadd, 1) := dk_96 (dk_at dksX4_begins_1 13 rfl rfl)
theorem dX4_begins_38 : decode cX4_begins 38 = .ok (.aload_n 0, 1) := dk_42 (dk_at dksX4_begins_1 14 rfl rfl)
theorem dX4_begins_39 : decode cX4_begins 39 = .ok (.getfield 39, 3) := dk_180 0 39 (dk_at dksX4_begins_1 15 rfl rfl)
theorem dX4_begins_42 : decode cX4_begins 42 = .ok (.bipush 46, 2) := dk_16 46 (dk_at dksX4_begins_1 18 rfl rfl)
theorem dX4_begins_44 : decode cX4_begins 44 = .ok (.iload_n 1, 1) := dk_27 (dk_at dksX4_begins_1 20 rfl rfl)
theorem dX4_begins_45 : decode cX4_begins 45 = .ok (.iadd, 1) := dk_96 (dk_at dksX4_begins_1 21 rfl rfl)
theorem dX4_begins_46 : decode cX4_begins 46 = .ok (.iaload, 1) := dk_46 (dk_at dksX4_begins_1 22 rfl rfl)
theorem dX4_begins_47 : decode cX4_begins 47 = .ok (.iastore, 1) := dk_79 (dk_at dksX4_begins_1 23 rfl rfl)
theorem dX4_begins_48 : decode cX4_begins 48 = .ok (.aload_n 0, 1) := dk_42 (dk_at dksX4_begins_2 0 rfl rfl)
theorem dX4_begins_49 : decode cX4_begins 49 = .ok (.getfield 39, 3) := dk_180 0 39 (dk_at dksX4_begins_2 1 rfl rfl)
theorem dX4_begins_52 : decode cX4_begins 52 = .ok (.bipush 22, 2) := dk_16 22 (dk_at dksX4_begins_2 4 rfl rfl)
theorem dX4_begins_54 : decode cX4_begins 54 = .ok (.iload_n 1, 1) := dk_27 (dk_at dksX4_begins_2 6 rfl rfl)
theorem dX4_begins_55 : decode cX4_begins 55 = .ok (.iadd, 1) := dk_96 (dk_at dksX4_begins_2 7 rfl rfl)
theorem dX4_begins_56 : decode cX4_begins 56 = .ok (.aload_n 0, 1) := dk_42 (dk_at dksX4_begins_2 8 rfl rfl)
theorem dX4_begins_57 : decode cX4_begins 57 = .ok (.getfield 39, 3) := dk_180 0 39 (dk_at dksX4_begins_2 9 rfl rfl)
theorem dX4_begins_60 : decode cX4_begins 60 = .ok (.bipush 54, 2) := dk_16 54 (dk_at dksX4_begins_2 12 rfl rfl)
theorem dX4_begins_62 : decode cX4_begins 62 = .ok (.iload_n 1, 1) := dk_27 (dk_at dksX4_begins_2 14 rfl rfl)
theorem dX4_begins_63 : decode cX4_begins 63 = .ok (.iadd, 1) := dk_96 (dk_at dksX4_begins_2 15 rfl rfl)
theorem dX4_begins_64 : decode cX4_begins 64 = .ok (.iaload, 1) := dk_46 (dk_at dksX4_begins_2 16 rfl rfl)
theorem dX4_begins_65 : decode cX4_begins 65 = .ok (.iastore, 1) := dk_79 (dk_at dksX4_begins_2 17 rfl rfl)
theorem dX4_begins_66 : decode cX4_begins 66 = .ok (.iinc 1 1, 3) := dk_132 1 1 (dk_at dksX4_begins_2 18 rfl rfl)
theorem dX4_begins_69 : decode cX4_begins 69 = .ok (.goto (-45), 3) := dk_167 255 211 (dk_at dksX4_begins_2 21 rfl rfl)
theorem dX4_begins_72 : decode cX4_begins 72 = .ok (.return_, 1) := dk_177 (dk_at dksX4_begins_3 0 rfl rfl)
abbrev cX4_force : ByteArray := prog_19_method_61_code
def yX4_force : MethodName := ⟨RX4, "force", "(I)I"⟩
def dkwX4_force_1 : List UInt8 := [181, 0, 42, 28, 172]
abbrev dktX4_force_1 : List UInt8 := dkwX4_force_1 ++ []
def dkwX4_force_0 : List UInt8 := [27, 2, 159, 0, 14, 42, 27, 182, 1, 54, 154, 0, 6, 16, 254, 172, 42, 180, 0, 42, 61, 42, 27]
abbrev dktX4_force_0 : List UInt8 := dkwX4_force_0 ++ dktX4_force_1
theorem dksX4_force_0 : cX4_force.data.toList.drop 0 = dktX4_force_0 := by decide +kernel
theorem dksX4_force_1 : cX4_force.data.toList.drop 23 = dktX4_force_1 := dk_seg dksX4_force_0 23 rfl rfl
theorem dX4_force_0 : decode cX4_force 0 = .ok (.iload_n 1, 1) := dk_27 (dk_at dksX4_force_0 0 rfl rfl)
theorem dX4_force_1 : decode cX4_force 1 = .ok (.iconst (-1), 1) := dk_2 (dk_at dksX4_force_0 1 rfl rfl)
theorem dX4_force_2 : decode cX4_force 2 = .ok (.if_icmp .eq 14, 3) := dk_159 0 14 (dk_at dksX4_force_0 2 rfl rfl)
theorem dX4_force_5 : decode cX4_force 5 = .ok (.aload_n 0, 1) := dk_42 (dk_at dksX4_force_0 5 rfl rfl)
theorem dX4_force_6 : decode cX4_force 6 = .ok (.iload_n 1, 1) := dk_27 (dk_at dksX4_force_0 6 rfl rfl)
theorem dX4_force_7 : decode cX4_force 7 = .ok (.invokevirtual 310, 3) := dk_182 1 54 (dk_at dksX4_force_0 7 rfl rfl)
theorem dX4_force_10 : decode cX4_force 10 = .ok (.ifCond .ne 6, 3) := dk_154 0 6 (dk_at dksX4_force_0 10 rfl rfl)
theorem dX4_force_13 : decode cX4_force 13 = .ok (.bipush (-2), 2) := dk_16 254 (dk_at dksX4_force_0 13 rfl rfl)
theorem dX4_force_15 : decode cX4_force 15 = .ok (.ireturn, 1) := dk_172 (dk_at dksX4_force_0 15 rfl rfl)
theorem dX4_force_16 : decode cX4_force 16 = .ok (.aload_n 0, 1) := dk_42 (dk_at dksX4_force_0 16 rfl rfl)
theorem dX4_force_17 : decode cX4_force 17 = .ok (.getfield 42, 3) := dk_180 0 42 (dk_at dksX4_force_0 17 rfl rfl)
theorem dX4_force_20 : decode cX4_force 20 = .ok (.istore_n 2, 1) := dk_61 (dk_at dksX4_force_0 20 rfl rfl)
theorem dX4_force_21 : decode cX4_force 21 = .ok (.aload_n 0, 1) := dk_42 (dk_at dksX4_force_0 21 rfl rfl)
theorem dX4_force_22 : decode cX4_force 22 = .ok (.iload_n 1, 1) := dk_27 (dk_at dksX4_force_0 22 rfl rfl)
theorem dX4_force_23 : decode cX4_force 23 = .ok (.putfield 42, 3) := dk_181 0 42 (dk_at dksX4_force_1 0 rfl rfl)
theorem dX4_force_26 : decode cX4_force 26 = .ok (.iload_n 2, 1) := dk_28 (dk_at dksX4_force_1 3 rfl rfl)
theorem dX4_force_27 : decode cX4_force 27 = .ok (.ireturn, 1) := dk_172 (dk_at dksX4_force_1 4 rfl rfl)
abbrev cX4_isRule : ByteArray := prog_19_method_46_code
def yX4_isRule : MethodName := ⟨RX4, "isRule", "(I)Z"⟩
def dkwX4_isRule_0 : List UInt8 := [27, 155, 0, 15, 27, 42, 180, 1, 24, 162, 0, 7, 4, 167, 0, 4, 3, 172]
abbrev dktX4_isRule_0 : List UInt8 := dkwX4_isRule_0 ++ []
theorem dksX4_isRule_0 : cX4_isRule.data.toList.drop 0 = dktX4_isRule_0 := by decide +kernel
theorem dX4_isRule_0 : decode cX4_isRule 0 = .ok (.iload_n 1, 1) := dk_27 (dk_at dksX4_isRule_0 0 rfl rfl)
theorem dX4_isRule_1 : decode cX4_isRule 1 = .ok (.ifCond .lt 15, 3) := dk_155 0 15 (dk_at dksX4_isRule_0 1 rfl rfl)
theorem dX4_isRule_4 : decode cX4_isRule 4 = .ok (.iload_n 1, 1) := dk_27 (dk_at dksX4_isRule_0 4 rfl rfl)
theorem dX4_isRule_5 : decode cX4_isRule 5 = .ok (.aload_n 0, 1) := dk_42 (dk_at dksX4_isRule_0 5 rfl rfl)
theorem dX4_isRule_6 : decode cX4_isRule 6 = .ok (.getfield 280, 3) := dk_180 1 24 (dk_at dksX4_isRule_0 6 rfl rfl)
theorem dX4_isRule_9 : decode cX4_isRule 9 = .ok (.if_icmp .ge 7, 3) := dk_162 0 7 (dk_at dksX4_isRule_0 9 rfl rfl)
theorem dX4_isRule_12 : decode cX4_isRule 12 = .ok (.iconst 1, 1) := dk_4 (dk_at dksX4_isRule_0 12 rfl rfl)
theorem dX4_isRule_13 : decode cX4_isRule 13 = .ok (.goto 4, 3) := dk_167 0 4 (dk_at dksX4_isRule_0 13 rfl rfl)
theorem dX4_isRule_16 : decode cX4_isRule 16 = .ok (.iconst 0, 1) := dk_3 (dk_at dksX4_isRule_0 16 rfl rfl)
theorem dX4_isRule_17 : decode cX4_isRule 17 = .ok (.ireturn, 1) := dk_172 (dk_at dksX4_isRule_0 17 rfl rfl)
abbrev cX4_step : ByteArray := prog_19_method_62_code
def yX4_step : MethodName := ⟨RX4, "step", "(II)I"⟩
def dkwX4_step_5 : List UInt8 := [182, 1, 63, 27, 184, 1, 60, 153, 0, 7, 4, 167, 0, 4, 3, 172, 16, 254, 172]
abbrev dktX4_step_5 : List UInt8 := dkwX4_step_5 ++ []
def dkwX4_step_4 : List UInt8 := [16, 22, 27, 96, 46, 172, 42, 180, 0, 39, 16, 30, 27, 96, 46, 172, 42, 42, 180, 0, 39, 16, 10, 46]
abbrev dktX4_step_4 : List UInt8 := dkwX4_step_4 ++ dktX4_step_5
def dkwX4_step_3 : List UInt8 := [42, 180, 0, 39, 16, 11, 46, 27, 184, 1, 60, 153, 0, 7, 4, 167, 0, 4, 3, 172, 42, 180, 0, 39]
abbrev dktX4_step_3 : List UInt8 := dkwX4_step_3 ++ dktX4_step_4
def dkwX4_step_2 : List UInt8 := [42, 180, 0, 39, 16, 14, 27, 96, 46, 172, 42, 27, 182, 1, 51, 153, 0, 7, 4, 167, 0, 4, 3, 172]
abbrev dktX4_step_2 : List UInt8 := dkwX4_step_2 ++ dktX4_step_3
def dkwX4_step_1 : List UInt8 := [170, 0, 0, 0, 0, 0, 0, 128, 0, 0, 0, 0, 0, 0, 0, 5, 0, 0, 0, 40, 0, 0, 0, 50, 0, 0, 0, 64, 0, 0, 0, 84, 0, 0, 0, 94, 0, 0, 0, 104]
abbrev dktX4_step_1 : List UInt8 := dkwX4_step_1 ++ dktX4_step_2
def dkwX4_step_0 : List UInt8 := [42, 27, 182, 1, 57, 154, 0, 6, 16, 254, 172, 28]
abbrev dktX4_step_0 : List UInt8 := dkwX4_step_0 ++ dktX4_step_1
theorem dksX4_step_0 : cX4_step.data.toList.drop 0 = dktX4_step_0 := by decide +kernel
theorem dksX4_step_1 : cX4_step.data.toList.drop 12 = dktX4_step_1 := dk_seg dksX4_step_0 12 rfl rfl
theorem dksX4_step_2 : cX4_step.data.toList.drop 52 = dktX4_step_2 := dk_seg dksX4_step_1 40 rfl rfl
theorem dksX4_step_3 : cX4_step.data.toList.drop 76 = dktX4_step_3 := dk_seg dksX4_step_2 24 rfl rfl
theorem dksX4_step_4 : cX4_step.data.toList.drop 100 = dktX4_step_4 := dk_seg dksX4_step_3 24 rfl rfl
theorem dksX4_step_5 : cX4_step.data.toList.drop 124 = dktX4_step_5 := dk_seg dksX4_step_4 24 rfl rfl
theorem dX4_step_0 : decode cX4_step 0 = .ok (.aload_n 0, 1) := dk_42 (dk_at dksX4_step_0 0 rfl rfl)
theorem dX4_step_1 : decode cX4_step 1 = .ok (.iload_n 1, 1) := dk_27 (dk_at dksX4_step_0 1 rfl rfl)
theorem dX4_step_2 : decode cX4_step 2 = .ok (.invokevirtual 313, 3) := dk_182 1 57 (dk_at dksX4_step_0 2 rfl rfl)
theorem dX4_step_5 : decode cX4_step 5 = .ok (.ifCond .ne 6, 3) := dk_154 0 6 (dk_at dksX4_step_0 5 rfl rfl)
theorem dX4_step_8 : decode cX4_step 8 = .ok (.bipush (-2), 2) := dk_16 254 (dk_at dksX4_step_0 8 rfl rfl)
theorem dX4_step_10 : decode cX4_step 10 = .ok (.ireturn, 1) := dk_172 (dk_at dksX4_step_0 10 rfl rfl)
theorem dX4_step_11 : decode cX4_step 11 = .ok (.iload_n 2, 1) := dk_28 (dk_at dksX4_step_0 11 rfl rfl)
theorem dX4_step_12 : decode cX4_step 12 = .ok (.tableswitch 128 0 5 #[40, 50, 64, 84, 94, 104], 40) := by decide +kernel
theorem dX4_step_52 : decode cX4_step 52 = .ok (.aload_n 0, 1) := dk_42 (dk_at dksX4_step_2 0 rfl rfl)
theorem dX4_step_53 : decode cX4_step 53 = .ok (.getfield 39, 3) := dk_180 0 39 (dk_at dksX4_step_2 1 rfl rfl)
theorem dX4_step_56 : decode cX4_step 56 = .ok (.bipush 14, 2) := dk_16 14 (dk_at dksX4_step_2 4 rfl rfl)
theorem dX4_step_58 : decode cX4_step 58 = .ok (.iload_n 1, 1) := dk_27 (dk_at dksX4_step_2 6 rfl rfl)
theorem dX4_step_59 : decode cX4_step 59 = .ok (.iadd, 1) := dk_96 (dk_at dksX4_step_2 7 rfl rfl)
theorem dX4_step_60 : decode cX4_step 60 = .ok (.iaload, 1) := dk_46 (dk_at dksX4_step_2 8 rfl rfl)
theorem dX4_step_61 : decode cX4_step 61 = .ok (.ireturn, 1) := dk_172 (dk_at dksX4_step_2 9 rfl rfl)
theorem dX4_step_62 : decode cX4_step 62 = .ok (.aload_n 0, 1) := dk_42 (dk_at dksX4_step_2 10 rfl rfl)
theorem dX4_step_63 : decode cX4_step 63 = .ok (.iload_n 1, 1) := dk_27 (dk_at dksX4_step_2 11 rfl rfl)
theorem dX4_step_64 : decode cX4_step 64 = .ok (.invokevirtual 307, 3) := dk_182 1 51 (dk_at dksX4_step_2 12 rfl rfl)
theorem dX4_step_67 : decode cX4_step 67 = .ok (.ifCond .eq 7, 3) := dk_153 0 7 (dk_at dksX4_step_2 15 rfl rfl)
theorem dX4_step_70 : decode cX4_step 70 = .ok (.iconst 1, 1) := dk_4 (dk_at dksX4_step_2 18 rfl rfl)
theorem dX4_step_71 : decode cX4_step 71 = .ok (.goto 4, 3) := dk_167 0 4 (dk_at dksX4_step_2 19 rfl rfl)
theorem dX4_step_74 : decode cX4_step 74 = .ok (.iconst 0, 1) := dk_3 (dk_at dksX4_step_2 22 rfl rfl)
theorem dX4_step_75 : decode cX4_step 75 = .ok (.ireturn, 1) := dk_172 (dk_at dksX4_step_2 23 rfl rfl)
theorem dX4_step_76 : decode cX4_step 76 = .ok (.aload_n 0, 1) := dk_42 (dk_at dksX4_step_3 0 rfl rfl)
theorem dX4_step_77 : decode cX4_step 77 = .ok (.getfield 39, 3) := dk_180 0 39 (dk_at dksX4_step_3 1 rfl rfl)
theorem dX4_step_80 : decode cX4_step 80 = .ok (.bipush 11, 2) := dk_16 11 (dk_at dksX4_step_3 4 rfl rfl)
theorem dX4_step_82 : decode cX4_step 82 = .ok (.iaload, 1) := dk_46 (dk_at dksX4_step_3 6 rfl rfl)
theorem dX4_step_83 : decode cX4_step 83 = .ok (.iload_n 1, 1) := dk_27 (dk_at dksX4_step_3 7 rfl rfl)
theorem dX4_step_84 : decode cX4_step 84 = .ok (.invokestatic 316, 3) := dk_184 1 60 (dk_at dksX4_step_3 8 rfl rfl)
theorem dX4_step_87 : decode cX4_step 87 = .ok (.ifCond .eq 7, 3) := dk_153 0 7 (dk_at dksX4_step_3 11 rfl rfl)
theorem dX4_step_90 : decode cX4_step 90 = .ok (.iconst 1, 1) := dk_4 (dk_at dksX4_step_3 14 rfl rfl)
theorem dX4_step_91 : decode cX4_step 91 = .ok (.goto 4, 3) := dk_167 0 4 (dk_at dksX4_step_3 15 rfl rfl)
theorem dX4_step_94 : decode cX4_step 94 = .ok (.iconst 0, 1) := dk_3 (dk_at dksX4_step_3 18 rfl rfl)
theorem dX4_step_95 : decode cX4_step 95 = .ok (.ireturn, 1) := dk_172 (dk_at dksX4_step_3 19 rfl rfl)
theorem dX4_step_96 : decode cX4_step 96 = .ok (.aload_n 0, 1) := dk_42 (dk_at dksX4_step_3 20 rfl rfl)
theorem dX4_step_97 : decode cX4_step 97 = .ok (.getfield 39, 3) := dk_180 0 39 (dk_at dksX4_step_3 21 rfl rfl)
theorem dX4_step_100 : decode cX4_step 100 = .ok (.bipush 22, 2) := dk_16 22 (dk_at dksX4_step_4 0 rfl rfl)
theorem dX4_step_102 : decode cX4_step 102 = .ok (.iload_n 1, 1) := dk_27 (dk_at dksX4_step_4 2 rfl rfl)
theorem dX4_step_103 : decode cX4_step 103 = .ok (.iadd, 1) := dk_96 (dk_at dksX4_step_4 3 rfl rfl)
theorem dX4_step_104 : decode cX4_step 104 = .ok (.iaload, 1) := dk_46 (dk_at dksX4_step_4 4 rfl rfl)
theorem dX4_step_105 : decode cX4_step 105 = .ok (.ireturn, 1) := dk_172 (dk_at dksX4_step_4 5 rfl rfl)
theorem dX4_step_106 : decode cX4_step 106 = .ok (.aload_n 0, 1) := dk_42 (dk_at dksX4_step_4 6 rfl rfl)
theorem dX4_step_107 : decode cX4_step 107 = .ok (.getfield 39, 3) := dk_180 0 39 (dk_at dksX4_step_4 7 rfl rfl)
theorem dX4_step_110 : decode cX4_step 110 = .ok (.bipush 30, 2) := dk_16 30 (dk_at dksX4_step_4 10 rfl rfl)
theorem dX4_step_112 : decode cX4_step 112 = .ok (.iload_n 1, 1) := dk_27 (dk_at dksX4_step_4 12 rfl rfl)
theorem dX4_step_113 : decode cX4_step 113 = .ok (.iadd, 1) := dk_96 (dk_at dksX4_step_4 13 rfl rfl)
theorem dX4_step_114 : decode cX4_step 114 = .ok (.iaload, 1) := dk_46 (dk_at dksX4_step_4 14 rfl rfl)
theorem dX4_step_115 : decode cX4_step 115 = .ok (.ireturn, 1) := dk_172 (dk_at dksX4_step_4 15 rfl rfl)
theorem dX4_step_116 : decode cX4_step 116 = .ok (.aload_n 0, 1) := dk_42 (dk_at dksX4_step_4 16 rfl rfl)
theorem dX4_step_117 : decode cX4_step 117 = .ok (.aload_n 0, 1) := dk_42 (dk_at dksX4_step_4 17 rfl rfl)
theorem dX4_step_118 : decode cX4_step 118 = .ok (.getfield 39, 3) := dk_180 0 39 (dk_at dksX4_step_4 18 rfl rfl)
theorem dX4_step_121 : decode cX4_step 121 = .ok (.bipush 10, 2) := dk_16 10 (dk_at dksX4_step_4 21 rfl rfl)
theorem dX4_step_123 : decode cX4_step 123 = .ok (.iaload, 1) := dk_46 (dk_at dksX4_step_4 23 rfl rfl)
theorem dX4_step_124 : decode cX4_step 124 = .ok (.invokevirtual 319, 3) := dk_182 1 63 (dk_at dksX4_step_5 0 rfl rfl)
theorem dX4_step_127 : decode cX4_step 127 = .ok (.iload_n 1, 1) := dk_27 (dk_at dksX4_step_5 3 rfl rfl)
theorem dX4_step_128 : decode cX4_step 128 = .ok (.invokestatic 316, 3) := dk_184 1 60 (dk_at dksX4_step_5 4 rfl rfl)
theorem dX4_step_131 : decode cX4_step 131 = .ok (.ifCond .eq 7, 3) := dk_153 0 7 (dk_at dksX4_step_5 7 rfl rfl)
theorem dX4_step_134 : decode cX4_step 134 = .ok (.iconst 1, 1) := dk_4 (dk_at dksX4_step_5 10 rfl rfl)
theorem dX4_step_135 : decode cX4_step 135 = .ok (.goto 4, 3) := dk_167 0 4 (dk_at dksX4_step_5 11 rfl rfl)
theorem dX4_step_138 : decode cX4_step 138 = .ok (.iconst 0, 1) := dk_3 (dk_at dksX4_step_5 14 rfl rfl)
theorem dX4_step_139 : decode cX4_step 139 = .ok (.ireturn, 1) := dk_172 (dk_at dksX4_step_5 15 rfl rfl)
theorem dX4_step_140 : decode cX4_step 140 = .ok (.bipush (-2), 2) := dk_16 254 (dk_at dksX4_step_5 16 rfl rfl)
theorem dX4_step_142 : decode cX4_step 142 = .ok (.ireturn, 1) := dk_172 (dk_at dksX4_step_5 18 rfl rfl)
abbrev cX4_isStep : ByteArray := prog_19_method_52_code
def yX4_isStep : MethodName := ⟨RX4, "isStep", "(I)Z"⟩
def dkwX4_isStep_0 : List UInt8 := [27, 155, 0, 17, 27, 42, 180, 0, 39, 5, 46, 162, 0, 7, 4, 167, 0, 4, 3, 172]
abbrev dktX4_isStep_0 : List UInt8 := dkwX4_isStep_0 ++ []
theorem dksX4_isStep_0 : cX4_isStep.data.toList.drop 0 = dktX4_isStep_0 := by decide +kernel
theorem dX4_isStep_0 : decode cX4_isStep 0 = .ok (.iload_n 1, 1) := dk_27 (dk_at dksX4_isStep_0 0 rfl rfl)
theorem dX4_isStep_1 : decode cX4_isStep 1 = .ok (.ifCond .lt 17, 3) := dk_155 0 17 (dk_at dksX4_isStep_0 1 rfl rfl)
theorem dX4_isStep_4 : decode cX4_isStep 4 = .ok (.iload_n 1, 1) := dk_27 (dk_at dksX4_isStep_0 4 rfl rfl)
theorem dX4_isStep_5 : decode cX4_isStep 5 = .ok (.aload_n 0, 1) := dk_42 (dk_at dksX4_isStep_0 5 rfl rfl)
theorem dX4_isStep_6 : decode cX4_isStep 6 = .ok (.getfield 39, 3) := dk_180 0 39 (dk_at dksX4_isStep_0 6 rfl rfl)
theorem dX4_isStep_9 : decode cX4_isStep 9 = .ok (.iconst 2, 1) := dk_5 (dk_at dksX4_isStep_0 9 rfl rfl)
theorem dX4_isStep_10 : decode cX4_isStep 10 = .ok (.iaload, 1) := dk_46 (dk_at dksX4_isStep_0 10 rfl rfl)
theorem dX4_isStep_11 : decode cX4_isStep 11 = .ok (.if_icmp .ge 7, 3) := dk_162 0 7 (dk_at dksX4_isStep_0 11 rfl rfl)
theorem dX4_isStep_14 : decode cX4_isStep 14 = .ok (.iconst 1, 1) := dk_4 (dk_at dksX4_isStep_0 14 rfl rfl)
theorem dX4_isStep_15 : decode cX4_isStep 15 = .ok (.goto 4, 3) := dk_167 0 4 (dk_at dksX4_isStep_0 15 rfl rfl)
theorem dX4_isStep_18 : decode cX4_isStep 18 = .ok (.iconst 0, 1) := dk_3 (dk_at dksX4_isStep_0 18 rfl rfl)
theorem dX4_isStep_19 : decode cX4_isStep 19 = .ok (.ireturn, 1) := dk_172 (dk_at dksX4_isStep_0 19 rfl rfl)
abbrev cX4_isClosed : ByteArray := prog_19_method_54_code
def yX4_isClosed : MethodName := ⟨RX4, "isClosed", "(I)Z"⟩
def dkwX4_isClosed_0 : List UInt8 := [42, 180, 0, 39, 16, 14, 27, 96, 46, 42, 180, 0, 39, 4, 46, 161, 0, 7, 4, 167, 0, 4, 3, 172]
abbrev dktX4_isClosed_0 : List UInt8 := dkwX4_isClosed_0 ++ []
theorem dksX4_isClosed_0 : cX4_isClosed.data.toList.drop 0 = dktX4_isClosed_0 := by decide +kernel
theorem dX4_isClosed_0 : decode cX4_isClosed 0 = .ok (.aload_n 0, 1) := dk_42 (dk_at dksX4_isClosed_0 0 rfl rfl)
theorem dX4_isClosed_1 : decode cX4_isClosed 1 = .ok (.getfield 39, 3) := dk_180 0 39 (dk_at dksX4_isClosed_0 1 rfl rfl)
theorem dX4_isClosed_4 : decode cX4_isClosed 4 = .ok (.bipush 14, 2) := dk_16 14 (dk_at dksX4_isClosed_0 4 rfl rfl)
theorem dX4_isClosed_6 : decode cX4_isClosed 6 = .ok (.iload_n 1, 1) := dk_27 (dk_at dksX4_isClosed_0 6 rfl rfl)
theorem dX4_isClosed_7 : decode cX4_isClosed 7 = .ok (.iadd, 1) := dk_96 (dk_at dksX4_isClosed_0 7 rfl rfl)
theorem dX4_isClosed_8 : decode cX4_isClosed 8 = .ok (.iaload, 1) := dk_46 (dk_at dksX4_isClosed_0 8 rfl rfl)
theorem dX4_isClosed_9 : decode cX4_isClosed 9 = .ok (.aload_n 0, 1) := dk_42 (dk_at dksX4_isClosed_0 9 rfl rfl)
theorem dX4_isClosed_10 : decode cX4_isClosed 10 = .ok (.getfield 39, 3) := dk_180 0 39 (dk_at dksX4_isClosed_0 10 rfl rfl)
theorem dX4_isClosed_13 : decode cX4_isClosed 13 = .ok (.iconst 1, 1) := dk_4 (dk_at dksX4_isClosed_0 13 rfl rfl)
theorem dX4_isClosed_14 : decode cX4_isClosed 14 = .ok (.iaload, 1) := dk_46 (dk_at dksX4_isClosed_0 14 rfl rfl)
theorem dX4_isClosed_15 : decode cX4_isClosed 15 = .ok (.if_icmp .lt 7, 3) := dk_161 0 7 (dk_at dksX4_isClosed_0 15 rfl rfl)
theorem dX4_isClosed_18 : decode cX4_isClosed 18 = .ok (.iconst 1, 1) := dk_4 (dk_at dksX4_isClosed_0 18 rfl rfl)
theorem dX4_isClosed_19 : decode cX4_isClosed 19 = .ok (.goto 4, 3) := dk_167 0 4 (dk_at dksX4_isClosed_0 19 rfl rfl)
theorem dX4_isClosed_22 : decode cX4_isClosed 22 = .ok (.iconst 0, 1) := dk_3 (dk_at dksX4_isClosed_0 22 rfl rfl)
theorem dX4_isClosed_23 : decode cX4_isClosed 23 = .ok (.ireturn, 1) := dk_172 (dk_at dksX4_isClosed_0 23 rfl rfl)
abbrev cX4_isOf : ByteArray := prog_19_method_3_code
def yX4_isOf : MethodName := ⟨RX4, "isOf", "(II)Z"⟩
def dkwX4_isOf_0 : List UInt8 := [26, 27, 122, 4, 126, 4, 160, 0, 7, 4, 167, 0, 4, 3, 172]
abbrev dktX4_isOf_0 : List UInt8 := dkwX4_isOf_0 ++ []
theorem dksX4_isOf_0 : cX4_isOf.data.toList.drop 0 = dktX4_isOf_0 := by decide +kernel
theorem dX4_isOf_0 : decode cX4_isOf 0 = .ok (.iload_n 0, 1) := dk_26 (dk_at dksX4_isOf_0 0 rfl rfl)
theorem dX4_isOf_1 : decode cX4_isOf 1 = .ok (.iload_n 1, 1) := dk_27 (dk_at dksX4_isOf_0 1 rfl rfl)
theorem dX4_isOf_2 : decode cX4_isOf 2 = .ok (.ishr, 1) := dk_122 (dk_at dksX4_isOf_0 2 rfl rfl)
theorem dX4_isOf_3 : decode cX4_isOf 3 = .ok (.iconst 1, 1) := dk_4 (dk_at dksX4_isOf_0 3 rfl rfl)
theorem dX4_isOf_4 : decode cX4_isOf 4 = .ok (.iand, 1) := dk_126 (dk_at dksX4_isOf_0 4 rfl rfl)
theorem dX4_isOf_5 : decode cX4_isOf 5 = .ok (.iconst 1, 1) := dk_4 (dk_at dksX4_isOf_0 5 rfl rfl)
theorem dX4_isOf_6 : decode cX4_isOf 6 = .ok (.if_icmp .ne 7, 3) := dk_160 0 7 (dk_at dksX4_isOf_0 6 rfl rfl)
theorem dX4_isOf_9 : decode cX4_isOf 9 = .ok (.iconst 1, 1) := dk_4 (dk_at dksX4_isOf_0 9 rfl rfl)
theorem dX4_isOf_10 : decode cX4_isOf 10 = .ok (.goto 4, 3) := dk_167 0 4 (dk_at dksX4_isOf_0 10 rfl rfl)
theorem dX4_isOf_13 : decode cX4_isOf 13 = .ok (.iconst 0, 1) := dk_3 (dk_at dksX4_isOf_0 13 rfl rfl)
theorem dX4_isOf_14 : decode cX4_isOf 14 = .ok (.ireturn, 1) := dk_172 (dk_at dksX4_isOf_0 14 rfl rfl)
abbrev cX4_neededOn : ByteArray := prog_19_method_57_code
def yX4_neededOn : MethodName := ⟨RX4, "neededOn", "(I)I"⟩
def dkwX4_neededOn_0 : List UInt8 := [27, 16, 30, 163, 0, 15, 42, 180, 0, 39, 16, 62, 27, 96, 46, 167, 0, 4, 3, 172]
abbrev dktX4_neededOn_0 : List UInt8 := dkwX4_neededOn_0 ++ []
theorem dksX4_neededOn_0 : cX4_neededOn.data.toList.drop 0 = dktX4_neededOn_0 := by decide +kernel
theorem dX4_neededOn_0 : decode cX4_neededOn 0 = .ok (.iload_n 1, 1) := dk_27 (dk_at dksX4_neededOn_0 0 rfl rfl)
theorem dX4_neededOn_1 : decode cX4_neededOn 1 = .ok (.bipush 30, 2) := dk_16 30 (dk_at dksX4_neededOn_0 1 rfl rfl)
theorem dX4_neededOn_3 : decode cX4_neededOn 3 = .ok (.if_icmp .gt 15, 3) := dk_163 0 15 (dk_at dksX4_neededOn_0 3 rfl rfl)
theorem dX4_neededOn_6 : decode cX4_neededOn 6 = .ok (.aload_n 0, 1) := dk_42 (dk_at dksX4_neededOn_0 6 rfl rfl)
theorem dX4_neededOn_7 : decode cX4_neededOn 7 = .ok (.getfield 39, 3) := dk_180 0 39 (dk_at dksX4_neededOn_0 7 rfl rfl)
theorem dX4_neededOn_10 : decode cX4_neededOn 10 = .ok (.bipush 62, 2) := dk_16 62 (dk_at dksX4_neededOn_0 10 rfl rfl)
theorem dX4_neededOn_12 : decode cX4_neededOn 12 = .ok (.iload_n 1, 1) := dk_27 (dk_at dksX4_neededOn_0 12 rfl rfl)
theorem dX4_neededOn_13 : decode cX4_neededOn 13 = .ok (.iadd, 1) := dk_96 (dk_at dksX4_neededOn_0 13 rfl rfl)
theorem dX4_neededOn_14 : decode cX4_neededOn 14 = .ok (.iaload, 1) := dk_46 (dk_at dksX4_neededOn_0 14 rfl rfl)
theorem dX4_neededOn_15 : decode cX4_neededOn 15 = .ok (.goto 4, 3) := dk_167 0 4 (dk_at dksX4_neededOn_0 15 rfl rfl)
theorem dX4_neededOn_18 : decode cX4_neededOn 18 = .ok (.iconst 0, 1) := dk_3 (dk_at dksX4_neededOn_0 18 rfl rfl)
theorem dX4_neededOn_19 : decode cX4_neededOn 19 = .ok (.ireturn, 1) := dk_172 (dk_at dksX4_neededOn_0 19 rfl rfl)
abbrev cX4_house : ByteArray := prog_19_method_63_code
def yX4_house : MethodName := ⟨RX4, "house", "(II)I"⟩
def dkwX4_house_2 : List UInt8 := [42, 180, 0, 39, 16, 13, 46, 27, 184, 1, 60, 153, 0, 7, 4, 167, 0, 4, 3, 172]
abbrev dktX4_house_2 : List UInt8 := dkwX4_house_2 ++ []
def dkwX4_house_1 : List UInt8 := [154, 0, 11, 42, 27, 182, 1, 71, 167, 0, 35, 28, 4, 160, 0, 11, 42, 27, 182, 1, 74, 167, 0, 22]
abbrev dktX4_house_1 : List UInt8 := dkwX4_house_1 ++ dktX4_house_2
def dkwX4_house_0 : List UInt8 := [42, 27, 182, 1, 66, 153, 0, 15, 28, 133, 9, 20, 1, 69, 184, 0, 124, 154, 0, 5, 2, 172, 28]
abbrev dktX4_house_0 : List UInt8 := dkwX4_house_0 ++ dktX4_house_1
theorem dksX4_house_0 : cX4_house.data.toList.drop 0 = dktX4_house_0 := by decide +kernel
theorem dksX4_house_1 : cX4_house.data.toList.drop 23 = dktX4_house_1 := dk_seg dksX4_house_0 23 rfl rfl
theorem dksX4_house_2 : cX4_house.data.toList.drop 47 = dktX4_house_2 := dk_seg dksX4_house_1 24 rfl rfl
theorem dX4_house_0 : decode cX4_house 0 = .ok (.aload_n 0, 1) := dk_42 (dk_at dksX4_house_0 0 rfl rfl)
theorem dX4_house_1 : decode cX4_house 1 = .ok (.iload_n 1, 1) := dk_27 (dk_at dksX4_house_0 1 rfl rfl)
theorem dX4_house_2 : decode cX4_house 2 = .ok (.invokevirtual 322, 3) := dk_182 1 66 (dk_at dksX4_house_0 2 rfl rfl)
theorem dX4_house_5 : decode cX4_house 5 = .ok (.ifCond .eq 15, 3) := dk_153 0 15 (dk_at dksX4_house_0 5 rfl rfl)
theorem dX4_house_8 : decode cX4_house 8 = .ok (.iload_n 2, 1) := dk_28 (dk_at dksX4_house_0 8 rfl rfl)
theorem dX4_house_9 : decode cX4_house 9 = .ok (.i2l, 1) := dk_133 (dk_at dksX4_house_0 9 rfl rfl)
theorem dX4_house_10 : decode cX4_house 10 = .ok (.lconst 0, 1) := dk_9 (dk_at dksX4_house_0 10 rfl rfl)
theorem dX4_house_11 : decode cX4_house 11 = .ok (.ldc2_w 325, 3) := dk_20 1 69 (dk_at dksX4_house_0 11 rfl rfl)
theorem dX4_house_14 : decode cX4_house 14 = .ok (.invokestatic 124, 3) := dk_184 0 124 (dk_at dksX4_house_0 14 rfl rfl)
theorem dX4_house_17 : decode cX4_house 17 = .ok (.ifCond .ne 5, 3) := dk_154 0 5 (dk_at dksX4_house_0 17 rfl rfl)
theorem dX4_house_20 : decode cX4_house 20 = .ok (.iconst (-1), 1) := dk_2 (dk_at dksX4_house_0 20 rfl rfl)
theorem dX4_house_21 : decode cX4_house 21 = .ok (.ireturn, 1) := dk_172 (dk_at dksX4_house_0 21 rfl rfl)
theorem dX4_house_22 : decode cX4_house 22 = .ok (.iload_n 2, 1) := dk_28 (dk_at dksX4_house_0 22 rfl rfl)
theorem dX4_house_23 : decode cX4_house 23 = .ok (.ifCond .ne 11, 3) := dk_154 0 11 (dk_at dksX4_house_1 0 rfl rfl)
theorem dX4_house_26 : decode cX4_house 26 = .ok (.aload_n 0, 1) := dk_42 (dk_at dksX4_house_1 3 rfl rfl)
theorem dX4_house_27 : decode cX4_house 27 = .ok (.iload_n 1, 1) := dk_27 (dk_at dksX4_house_1 4 rfl rfl)
theorem dX4_house_28 : decode cX4_house 28 = .ok (.invokevirtual 327, 3) := dk_182 1 71 (dk_at dksX4_house_1 5 rfl rfl)
theorem dX4_house_31 : decode cX4_house 31 = .ok (.goto 35, 3) := dk_167 0 35 (dk_at dksX4_house_1 8 rfl rfl)
theorem dX4_house_34 : decode cX4_house 34 = .ok (.iload_n 2, 1) := dk_28 (dk_at dksX4_house_1 11 rfl rfl)
theorem dX4_house_35 : decode cX4_house 35 = .ok (.iconst 1, 1) := dk_4 (dk_at dksX4_house_1 12 rfl rfl)
theorem dX4_house_36 : decode cX4_house 36 = .ok (.if_icmp .ne 11, 3) := dk_160 0 11 (dk_at dksX4_house_1 13 rfl rfl)
theorem dX4_house_39 : decode cX4_house 39 = .ok (.aload_n 0, 1) := dk_42 (dk_at dksX4_house_1 16 rfl rfl)
theorem dX4_house_40 : decode cX4_house 40 = .ok (.iload_n 1, 1) := dk_27 (dk_at dksX4_house_1 17 rfl rfl)
theorem dX4_house_41 : decode cX4_house 41 = .ok (.invokevirtual 330, 3) := dk_182 1 74 (dk_at dksX4_house_1 18 rfl rfl)
theorem dX4_house_44 : decode cX4_house 44 = .ok (.goto 22, 3) := dk_167 0 22 (dk_at dksX4_house_1 21 rfl rfl)
theorem dX4_house_47 : decode cX4_house 47 = .ok (.aload_n 0, 1) := dk_42 (dk_at dksX4_house_2 0 rfl rfl)
theorem dX4_house_48 : decode cX4_house 48 = .ok (.getfield 39, 3) := dk_180 0 39 (dk_at dksX4_house_2 1 rfl rfl)
theorem dX4_house_51 : decode cX4_house 51 = .ok (.bipush 13, 2) := dk_16 13 (dk_at dksX4_house_2 4 rfl rfl)
theorem dX4_house_53 : decode cX4_house 53 = .ok (.iaload, 1) := dk_46 (dk_at dksX4_house_2 6 rfl rfl)
theorem dX4_house_54 : decode cX4_house 54 = .ok (.iload_n 1, 1) := dk_27 (dk_at dksX4_house_2 7 rfl rfl)
theorem dX4_house_55 : decode cX4_house 55 = .ok (.invokestatic 316, 3) := dk_184 1 60 (dk_at dksX4_house_2 8 rfl rfl)
theorem dX4_house_58 : decode cX4_house 58 = .ok (.ifCond .eq 7, 3) := dk_153 0 7 (dk_at dksX4_house_2 11 rfl rfl)
theorem dX4_house_61 : decode cX4_house 61 = .ok (.iconst 1, 1) := dk_4 (dk_at dksX4_house_2 14 rfl rfl)
theorem dX4_house_62 : decode cX4_house 62 = .ok (.goto 4, 3) := dk_167 0 4 (dk_at dksX4_house_2 15 rfl rfl)
theorem dX4_house_65 : decode cX4_house 65 = .ok (.iconst 0, 1) := dk_3 (dk_at dksX4_house_2 18 rfl rfl)
theorem dX4_house_66 : decode cX4_house 66 = .ok (.ireturn, 1) := dk_172 (dk_at dksX4_house_2 19 rfl rfl)
abbrev cX4_isHouse : ByteArray := prog_19_method_53_code
def yX4_isHouse : MethodName := ⟨RX4, "isHouse", "(I)Z"⟩
def dkwX4_isHouse_0 : List UInt8 := [27, 155, 0, 17, 27, 42, 180, 0, 39, 6, 46, 162, 0, 7, 4, 167, 0, 4, 3, 172]
abbrev dktX4_isHouse_0 : List UInt8 := dkwX4_isHouse_0 ++ []
theorem dksX4_isHouse_0 : cX4_isHouse.data.toList.drop 0 = dktX4_isHouse_0 := by decide +kernel
theorem dX4_isHouse_0 : decode cX4_isHouse 0 = .ok (.iload_n 1, 1) := dk_27 (dk_at dksX4_isHouse_0 0 rfl rfl)
theorem dX4_isHouse_1 : decode cX4_isHouse 1 = .ok (.ifCond .lt 17, 3) := dk_155 0 17 (dk_at dksX4_isHouse_0 1 rfl rfl)
theorem dX4_isHouse_4 : decode cX4_isHouse 4 = .ok (.iload_n 1, 1) := dk_27 (dk_at dksX4_isHouse_0 4 rfl rfl)
theorem dX4_isHouse_5 : decode cX4_isHouse 5 = .ok (.aload_n 0, 1) := dk_42 (dk_at dksX4_isHouse_0 5 rfl rfl)
theorem dX4_isHouse_6 : decode cX4_isHouse 6 = .ok (.getfield 39, 3) := dk_180 0 39 (dk_at dksX4_isHouse_0 6 rfl rfl)
theorem dX4_isHouse_9 : decode cX4_isHouse 9 = .ok (.iconst 3, 1) := dk_6 (dk_at dksX4_isHouse_0 9 rfl rfl)
theorem dX4_isHouse_10 : decode cX4_isHouse 10 = .ok (.iaload, 1) := dk_46 (dk_at dksX4_isHouse_0 10 rfl rfl)
theorem dX4_isHouse_11 : decode cX4_isHouse 11 = .ok (.if_icmp .ge 7, 3) := dk_162 0 7 (dk_at dksX4_isHouse_0 11 rfl rfl)
theorem dX4_isHouse_14 : decode cX4_isHouse 14 = .ok (.iconst 1, 1) := dk_4 (dk_at dksX4_isHouse_0 14 rfl rfl)
theorem dX4_isHouse_15 : decode cX4_isHouse 15 = .ok (.goto 4, 3) := dk_167 0 4 (dk_at dksX4_isHouse_0 15 rfl rfl)
theorem dX4_isHouse_18 : decode cX4_isHouse 18 = .ok (.iconst 0, 1) := dk_3 (dk_at dksX4_isHouse_0 18 rfl rfl)
theorem dX4_isHouse_19 : decode cX4_isHouse 19 = .ok (.ireturn, 1) := dk_172 (dk_at dksX4_isHouse_0 19 rfl rfl)
abbrev cX4_ownOf : ByteArray := prog_19_method_58_code
def yX4_ownOf : MethodName := ⟨RX4, "ownOf", "(I)I"⟩
def dkwX4_ownOf_0 : List UInt8 := [42, 180, 0, 39, 16, 38, 5, 27, 104, 96, 46, 172]
abbrev dktX4_ownOf_0 : List UInt8 := dkwX4_ownOf_0 ++ []
theorem dksX4_ownOf_0 : cX4_ownOf.data.toList.drop 0 = dktX4_ownOf_0 := by decide +kernel
theorem dX4_ownOf_0 : decode cX4_ownOf 0 = .ok (.aload_n 0, 1) := dk_42 (dk_at dksX4_ownOf_0 0 rfl rfl)
theorem dX4_ownOf_1 : decode cX4_ownOf 1 = .ok (.getfield 39, 3) := dk_180 0 39 (dk_at dksX4_ownOf_0 1 rfl rfl)
theorem dX4_ownOf_4 : decode cX4_ownOf 4 = .ok (.bipush 38, 2) := dk_16 38 (dk_at dksX4_ownOf_0 4 rfl rfl)
theorem dX4_ownOf_6 : decode cX4_ownOf 6 = .ok (.iconst 2, 1) := dk_5 (dk_at dksX4_ownOf_0 6 rfl rfl)
theorem dX4_ownOf_7 : decode cX4_ownOf 7 = .ok (.iload_n 1, 1) := dk_27 (dk_at dksX4_ownOf_0 7 rfl rfl)
theorem dX4_ownOf_8 : decode cX4_ownOf 8 = .ok (.imul, 1) := dk_104 (dk_at dksX4_ownOf_0 8 rfl rfl)
theorem dX4_ownOf_9 : decode cX4_ownOf 9 = .ok (.iadd, 1) := dk_96 (dk_at dksX4_ownOf_0 9 rfl rfl)
theorem dX4_ownOf_10 : decode cX4_ownOf 10 = .ok (.iaload, 1) := dk_46 (dk_at dksX4_ownOf_0 10 rfl rfl)
theorem dX4_ownOf_11 : decode cX4_ownOf 11 = .ok (.ireturn, 1) := dk_172 (dk_at dksX4_ownOf_0 11 rfl rfl)
abbrev cX4_strengthOf : ByteArray := prog_19_method_59_code
def yX4_strengthOf : MethodName := ⟨RX4, "strengthOf", "(I)I"⟩
def dkwX4_strengthOf_0 : List UInt8 := [42, 180, 0, 39, 16, 38, 5, 27, 104, 96, 4, 96, 46, 172]
abbrev dktX4_strengthOf_0 : List UInt8 := dkwX4_strengthOf_0 ++ []
theorem dksX4_strengthOf_0 : cX4_strengthOf.data.toList.drop 0 = dktX4_strengthOf_0 := by decide +kernel
theorem dX4_strengthOf_0 : decode cX4_strengthOf 0 = .ok (.aload_n 0, 1) := dk_42 (dk_at dksX4_strengthOf_0 0 rfl rfl)
theorem dX4_strengthOf_1 : decode cX4_strengthOf 1 = .ok (.getfield 39, 3) := dk_180 0 39 (dk_at dksX4_strengthOf_0 1 rfl rfl)
theorem dX4_strengthOf_4 : decode cX4_strengthOf 4 = .ok (.bipush 38, 2) := dk_16 38 (dk_at dksX4_strengthOf_0 4 rfl rfl)
theorem dX4_strengthOf_6 : decode cX4_strengthOf 6 = .ok (.iconst 2, 1) := dk_5 (dk_at dksX4_strengthOf_0 6 rfl rfl)
theorem dX4_strengthOf_7 : decode cX4_strengthOf 7 = .ok (.iload_n 1, 1) := dk_27 (dk_at dksX4_strengthOf_0 7 rfl rfl)
theorem dX4_strengthOf_8 : decode cX4_strengthOf 8 = .ok (.imul, 1) := dk_104 (dk_at dksX4_strengthOf_0 8 rfl rfl)
theorem dX4_strengthOf_9 : decode cX4_strengthOf 9 = .ok (.iadd, 1) := dk_96 (dk_at dksX4_strengthOf_0 9 rfl rfl)
theorem dX4_strengthOf_10 : decode cX4_strengthOf 10 = .ok (.iconst 1, 1) := dk_4 (dk_at dksX4_strengthOf_0 10 rfl rfl)
theorem dX4_strengthOf_11 : decode cX4_strengthOf 11 = .ok (.iadd, 1) := dk_96 (dk_at dksX4_strengthOf_0 11 rfl rfl)
theorem dX4_strengthOf_12 : decode cX4_strengthOf 12 = .ok (.iaload, 1) := dk_46 (dk_at dksX4_strengthOf_0 12 rfl rfl)
theorem dX4_strengthOf_13 : decode cX4_strengthOf 13 = .ok (.ireturn, 1) := dk_172 (dk_at dksX4_strengthOf_0 13 rfl rfl)
abbrev cX4_undo : ByteArray := prog_19_method_72_code
def yX4_undo : MethodName := ⟨RX4, "undo", "()I"⟩
def dkwX4_undo_2 : List UInt8 := [46, 79, 132, 1, 1, 167, 255, 224, 42, 180, 1, 33, 172]
abbrev dktX4_undo_2 : List UInt8 := dkwX4_undo_2 ++ []
def dkwX4_undo_1 : List UInt8 := [162, 0, 32, 42, 180, 0, 39, 16, 10, 27, 96, 42, 180, 0, 52, 16, 20, 42, 180, 1, 33, 104, 27, 96]
abbrev dktX4_undo_1 : List UInt8 := dkwX4_undo_1 ++ dktX4_undo_2
def dkwX4_undo_0 : List UInt8 := [42, 180, 1, 33, 154, 0, 5, 2, 172, 42, 89, 180, 1, 33, 4, 100, 181, 1, 33, 3, 60, 27, 16, 20]
abbrev dktX4_undo_0 : List UInt8 := dkwX4_undo_0 ++ dktX4_undo_1
theorem dksX4_undo_0 : cX4_undo.data.toList.drop 0 = dktX4_undo_0 := by decide +kernel
theorem dksX4_undo_1 : cX4_undo.data.toList.drop 24 = dktX4_undo_1 := dk_seg dksX4_undo_0 24 rfl rfl
theorem dksX4_undo_2 : cX4_undo.data.toList.drop 48 = dktX4_undo_2 := dk_seg dksX4_undo_1 24 rfl rfl
theorem dX4_undo_0 : decode cX4_undo 0 = .ok (.aload_n 0, 1) := dk_42 (dk_at dksX4_undo_0 0 rfl rfl)
theorem dX4_undo_1 : decode cX4_undo 1 = .ok (.getfield 289, 3) := dk_180 1 33 (dk_at dksX4_undo_0 1 rfl rfl)
theorem dX4_undo_4 : decode cX4_undo 4 = .ok (.ifCond .ne 5, 3) := dk_154 0 5 (dk_at dksX4_undo_0 4 rfl rfl)
theorem dX4_undo_7 : decode cX4_undo 7 = .ok (.iconst (-1), 1) := dk_2 (dk_at dksX4_undo_0 7 rfl rfl)
theorem dX4_undo_8 : decode cX4_undo 8 = .ok (.ireturn, 1) := dk_172 (dk_at dksX4_undo_0 8 rfl rfl)
theorem dX4_undo_9 : decode cX4_undo 9 = .ok (.aload_n 0, 1) := dk_42 (dk_at dksX4_undo_0 9 rfl rfl)
theorem dX4_undo_10 : decode cX4_undo 10 = .ok (.dup, 1) := dk_89 (dk_at dksX4_undo_0 10 rfl rfl)
theorem dX4_undo_11 : decode cX4_undo 11 = .ok (.getfield 289, 3) := dk_180 1 33 (dk_at dksX4_undo_0 11 rfl rfl)
theorem dX4_undo_14 : decode cX4_undo 14 = .ok (.iconst 1, 1) := dk_4 (dk_at dksX4_undo_0 14 rfl rfl)
theorem dX4_undo_15 : decode cX4_undo 15 = .ok (.isub, 1) := dk_100 (dk_at dksX4_undo_0 15 rfl rfl)
theorem dX4_undo_16 : decode cX4_undo 16 = .ok (.putfield 289, 3) := dk_181 1 33 (dk_at dksX4_undo_0 16 rfl rfl)
theorem dX4_undo_19 : decode cX4_undo 19 = .ok (.iconst 0, 1) := dk_3 (dk_at dksX4_undo_0 19 rfl rfl)
theorem dX4_undo_20 : decode cX4_undo 20 = .ok (.istore_n 1, 1) := dk_60 (dk_at dksX4_undo_0 20 rfl rfl)
theorem dX4_undo_21 : decode cX4_undo 21 = .ok (.iload_n 1, 1) := dk_27 (dk_at dksX4_undo_0 21 rfl rfl)
theorem dX4_undo_22 : decode cX4_undo 22 = .ok (.bipush 20, 2) := dk_16 20 (dk_at dksX4_undo_0 22 rfl rfl)
theorem dX4_undo_24 : decode cX4_undo 24 = .ok (.if_icmp .ge 32, 3) := dk_162 0 32 (dk_at dksX4_undo_1 0 rfl rfl)
theorem dX4_undo_27 : decode cX4_undo 27 = .ok (.aload_n 0, 1) := dk_42 (dk_at dksX4_undo_1 3 rfl rfl)
theorem dX4_undo_28 : decode cX4_undo 28 = .ok (.getfield 39, 3) := dk_180 0 39 (dk_at dksX4_undo_1 4 rfl rfl)
theorem dX4_undo_31 : decode cX4_undo 31 = .ok (.bipush 10, 2) := dk_16 10 (dk_at dksX4_undo_1 7 rfl rfl)
theorem dX4_undo_33 : decode cX4_undo 33 = .ok (.iload_n 1, 1) := dk_27 (dk_at dksX4_undo_1 9 rfl rfl)
theorem dX4_undo_34 : decode cX4_undo 34 = .ok (.iadd, 1) := dk_96 (dk_at dksX4_undo_1 10 rfl rfl)
theorem dX4_undo_35 : decode cX4_undo 35 = .ok (.aload_n 0, 1) := dk_42 (dk_at dksX4_undo_1 11 rfl rfl)
theorem dX4_undo_36 : decode cX4_undo 36 = .ok (.getfield 52, 3) := dk_180 0 52 (dk_at dksX4_undo_1 12 rfl rfl)
theorem dX4_undo_39 : decode cX4_undo 39 = .ok (.bipush 20, 2) := dk_16 20 (dk_at dksX4_undo_1 15 rfl rfl)
theorem dX4_undo_41 : decode cX4_undo 41 = .ok (.aload_n 0, 1) := dk_42 (dk_at dksX4_undo_1 17 rfl rfl)
theorem dX4_undo_42 : decode cX4_undo 42 = .ok (.getfield 289, 3) := dk_180 1 33 (dk_at dksX4_undo_1 18 rfl rfl)
theorem dX4_undo_45 : decode cX4_undo 45 = .ok (.imul, 1) := dk_104 (dk_at dksX4_undo_1 21 rfl rfl)
theorem dX4_undo_46 : decode cX4_undo 46 = .ok (.iload_n 1, 1) := dk_27 (dk_at dksX4_undo_1 22 rfl rfl)
theorem dX4_undo_47 : decode cX4_undo 47 = .ok (.iadd, 1) := dk_96 (dk_at dksX4_undo_1 23 rfl rfl)
theorem dX4_undo_48 : decode cX4_undo 48 = .ok (.iaload, 1) := dk_46 (dk_at dksX4_undo_2 0 rfl rfl)
theorem dX4_undo_49 : decode cX4_undo 49 = .ok (.iastore, 1) := dk_79 (dk_at dksX4_undo_2 1 rfl rfl)
theorem dX4_undo_50 : decode cX4_undo 50 = .ok (.iinc 1 1, 3) := dk_132 1 1 (dk_at dksX4_undo_2 2 rfl rfl)
theorem dX4_undo_53 : decode cX4_undo 53 = .ok (.goto (-32), 3) := dk_167 255 224 (dk_at dksX4_undo_2 5 rfl rfl)
theorem dX4_undo_56 : decode cX4_undo 56 = .ok (.aload_n 0, 1) := dk_42 (dk_at dksX4_undo_2 8 rfl rfl)
theorem dX4_undo_57 : decode cX4_undo 57 = .ok (.getfield 289, 3) := dk_180 1 33 (dk_at dksX4_undo_2 9 rfl rfl)
theorem dX4_undo_60 : decode cX4_undo 60 = .ok (.ireturn, 1) := dk_172 (dk_at dksX4_undo_2 12 rfl rfl)
abbrev cX4_day : ByteArray := prog_19_method_73_code
def yX4_day : MethodName := ⟨RX4, "day", "()I"⟩
def dkwX4_day_1 : List UInt8 := [182, 1, 113, 42, 182, 1, 116, 172]
abbrev dktX4_day_1 : List UInt8 := dkwX4_day_1 ++ []
def dkwX4_day_0 : List UInt8 := [42, 182, 1, 110, 153, 0, 16, 42, 180, 0, 39, 16, 10, 46, 17, 3, 231, 160, 0, 5, 2, 172, 42]
abbrev dktX4_day_0 : List UInt8 := dkwX4_day_0 ++ dktX4_day_1
theorem dksX4_day_0 : cX4_day.data.toList.drop 0 = dktX4_day_0 := by decide +kernel
theorem dksX4_day_1 : cX4_day.data.toList.drop 23 = dktX4_day_1 := dk_seg dksX4_day_0 23 rfl rfl
theorem dX4_day_0 : decode cX4_day 0 = .ok (.aload_n 0, 1) := dk_42 (dk_at dksX4_day_0 0 rfl rfl)
theorem dX4_day_1 : decode cX4_day 1 = .ok (.invokevirtual 366, 3) := dk_182 1 110 (dk_at dksX4_day_0 1 rfl rfl)
theorem dX4_day_4 : decode cX4_day 4 = .ok (.ifCond .eq 16, 3) := dk_153 0 16 (dk_at dksX4_day_0 4 rfl rfl)
theorem dX4_day_7 : decode cX4_day 7 = .ok (.aload_n 0, 1) := dk_42 (dk_at dksX4_day_0 7 rfl rfl)
theorem dX4_day_8 : decode cX4_day 8 = .ok (.getfield 39, 3) := dk_180 0 39 (dk_at dksX4_day_0 8 rfl rfl)
theorem dX4_day_11 : decode cX4_day 11 = .ok (.bipush 10, 2) := dk_16 10 (dk_at dksX4_day_0 11 rfl rfl)
theorem dX4_day_13 : decode cX4_day 13 = .ok (.iaload, 1) := dk_46 (dk_at dksX4_day_0 13 rfl rfl)
theorem dX4_day_14 : decode cX4_day 14 = .ok (.sipush 999, 3) := dk_17 3 231 (dk_at dksX4_day_0 14 rfl rfl)
theorem dX4_day_17 : decode cX4_day 17 = .ok (.if_icmp .ne 5, 3) := dk_160 0 5 (dk_at dksX4_day_0 17 rfl rfl)
theorem dX4_day_20 : decode cX4_day 20 = .ok (.iconst (-1), 1) := dk_2 (dk_at dksX4_day_0 20 rfl rfl)
theorem dX4_day_21 : decode cX4_day 21 = .ok (.ireturn, 1) := dk_172 (dk_at dksX4_day_0 21 rfl rfl)
theorem dX4_day_22 : decode cX4_day 22 = .ok (.aload_n 0, 1) := dk_42 (dk_at dksX4_day_0 22 rfl rfl)
theorem dX4_day_23 : decode cX4_day 23 = .ok (.invokevirtual 369, 3) := dk_182 1 113 (dk_at dksX4_day_1 0 rfl rfl)
theorem dX4_day_26 : decode cX4_day 26 = .ok (.aload_n 0, 1) := dk_42 (dk_at dksX4_day_1 3 rfl rfl)
theorem dX4_day_27 : decode cX4_day 27 = .ok (.invokevirtual 372, 3) := dk_182 1 116 (dk_at dksX4_day_1 4 rfl rfl)
theorem dX4_day_30 : decode cX4_day 30 = .ok (.ireturn, 1) := dk_172 (dk_at dksX4_day_1 7 rfl rfl)
abbrev cX4_isValley : ByteArray := prog_19_method_51_code
def yX4_isValley : MethodName := ⟨RX4, "isValley", "()Z"⟩
def dkwX4_isValley_0 : List UInt8 := [42, 180, 0, 39, 3, 46, 158, 0, 7, 4, 167, 0, 4, 3, 172]
abbrev dktX4_isValley_0 : List UInt8 := dkwX4_isValley_0 ++ []
theorem dksX4_isValley_0 : cX4_isValley.data.toList.drop 0 = dktX4_isValley_0 := by decide +kernel
theorem dX4_isValley_0 : decode cX4_isValley 0 = .ok (.aload_n 0, 1) := dk_42 (dk_at dksX4_isValley_0 0 rfl rfl)
theorem dX4_isValley_1 : decode cX4_isValley 1 = .ok (.getfield 39, 3) := dk_180 0 39 (dk_at dksX4_isValley_0 1 rfl rfl)
theorem dX4_isValley_4 : decode cX4_isValley 4 = .ok (.iconst 0, 1) := dk_3 (dk_at dksX4_isValley_0 4 rfl rfl)
theorem dX4_isValley_5 : decode cX4_isValley 5 = .ok (.iaload, 1) := dk_46 (dk_at dksX4_isValley_0 5 rfl rfl)
theorem dX4_isValley_6 : decode cX4_isValley 6 = .ok (.ifCond .le 7, 3) := dk_158 0 7 (dk_at dksX4_isValley_0 6 rfl rfl)
theorem dX4_isValley_9 : decode cX4_isValley 9 = .ok (.iconst 1, 1) := dk_4 (dk_at dksX4_isValley_0 9 rfl rfl)
theorem dX4_isValley_10 : decode cX4_isValley 10 = .ok (.goto 4, 3) := dk_167 0 4 (dk_at dksX4_isValley_0 10 rfl rfl)
theorem dX4_isValley_13 : decode cX4_isValley 13 = .ok (.iconst 0, 1) := dk_3 (dk_at dksX4_isValley_0 13 rfl rfl)
theorem dX4_isValley_14 : decode cX4_isValley 14 = .ok (.ireturn, 1) := dk_172 (dk_at dksX4_isValley_0 14 rfl rfl)
abbrev cX4_keepsAct : ByteArray := prog_19_method_71_code
def yX4_keepsAct : MethodName := ⟨RX4, "keepsAct", "()V"⟩
def dkwX4_keepsAct_4 : List UInt8 := [181, 1, 33, 177]
abbrev dktX4_keepsAct_4 : List UInt8 := dkwX4_keepsAct_4 ++ []
def dkwX4_keepsAct_3 : List UInt8 := [42, 180, 0, 39, 16, 10, 27, 96, 46, 79, 132, 1, 1, 167, 255, 224, 42, 89, 180, 1, 33, 4, 96]
abbrev dktX4_keepsAct_3 : List UInt8 := dkwX4_keepsAct_3 ++ dktX4_keepsAct_4
def dkwX4_keepsAct_2 : List UInt8 := [181, 1, 33, 3, 60, 27, 16, 20, 162, 0, 32, 42, 180, 0, 52, 16, 20, 42, 180, 1, 33, 104, 27, 96]
abbrev dktX4_keepsAct_2 : List UInt8 := dkwX4_keepsAct_2 ++ dktX4_keepsAct_3
def dkwX4_keepsAct_1 : List UInt8 := [16, 20, 100, 42, 180, 0, 52, 27, 46, 79, 132, 1, 1, 167, 255, 231, 42, 89, 180, 1, 33, 4, 100]
abbrev dktX4_keepsAct_1 : List UInt8 := dkwX4_keepsAct_1 ++ dktX4_keepsAct_2
def dkwX4_keepsAct_0 : List UInt8 := [42, 180, 1, 33, 16, 20, 160, 0, 44, 16, 20, 60, 27, 17, 1, 144, 162, 0, 24, 42, 180, 0, 52, 27]
abbrev dktX4_keepsAct_0 : List UInt8 := dkwX4_keepsAct_0 ++ dktX4_keepsAct_1
theorem dksX4_keepsAct_0 : cX4_keepsAct.data.toList.drop 0 = dktX4_keepsAct_0 := by decide +kernel
theorem dksX4_keepsAct_1 : cX4_keepsAct.data.toList.drop 24 = dktX4_keepsAct_1 := dk_seg dksX4_keepsAct_0 24 rfl rfl
theorem dksX4_keepsAct_2 : cX4_keepsAct.data.toList.drop 47 = dktX4_keepsAct_2 := dk_seg dksX4_keepsAct_1 23 rfl rfl
theorem dksX4_keepsAct_3 : cX4_keepsAct.data.toList.drop 71 = dktX4_keepsAct_3 := dk_seg dksX4_keepsAct_2 24 rfl rfl
theorem dksX4_keepsAct_4 : cX4_keepsAct.data.toList.drop 94 = dktX4_keepsAct_4 := dk_seg dksX4_keepsAct_3 23 rfl rfl
theorem dX4_keepsAct_0 : decode cX4_keepsAct 0 = .ok (.aload_n 0, 1) := dk_42 (dk_at dksX4_keepsAct_0 0 rfl rfl)
theorem dX4_keepsAct_1 : decode cX4_keepsAct 1 = .ok (.getfield 289, 3) := dk_180 1 33 (dk_at dksX4_keepsAct_0 1 rfl rfl)
theorem dX4_keepsAct_4 : decode cX4_keepsAct 4 = .ok (.bipush 20, 2) := dk_16 20 (dk_at dksX4_keepsAct_0 4 rfl rfl)
theorem dX4_keepsAct_6 : decode cX4_keepsAct 6 = .ok (.if_icmp .ne 44, 3) := dk_160 0 44 (dk_at dksX4_keepsAct_0 6 rfl rfl)
theorem dX4_keepsAct_9 : decode cX4_keepsAct 9 = .ok (.bipush 20, 2) := dk_16 20 (dk_at dksX4_keepsAct_0 9 rfl rfl)
theorem dX4_keepsAct_11 : decode cX4_keepsAct 11 = .ok (.istore_n 1, 1) := dk_60 (dk_at dksX4_keepsAct_0 11 rfl rfl)
theorem dX4_keepsAct_12 : decode cX4_keepsAct 12 = .ok (.iload_n 1, 1) := dk_27 (dk_at dksX4_keepsAct_0 12 rfl rfl)
theorem dX4_keepsAct_13 : decode cX4_keepsAct 13 = .ok (.sipush 400, 3) := dk_17 1 144 (dk_at dksX4_keepsAct_0 13 rfl rfl)
theorem dX4_keepsAct_16 : decode cX4_keepsAct 16 = .ok (.if_icmp .ge 24, 3) := dk_162 0 24 (dk_at dksX4_keepsAct_0 16 rfl rfl)
theorem dX4_keepsAct_19 : decode cX4_keepsAct 19 = .ok (.aload_n 0, 1) := dk_42 (dk_at dksX4_keepsAct_0 19 rfl rfl)
theorem dX4_keepsAct_20 : decode cX4_keepsAct 20 = .ok (.getfield 52, 3) := dk_180 0 52 (dk_at dksX4_keepsAct_0 20 rfl rfl)
theorem dX4_keepsAct_23 : decode cX4_keepsAct 23 = .ok (.iload_n 1, 1) := dk_27 (dk_at dksX4_keepsAct_0 23 rfl rfl)
theorem dX4_keepsAct_24 : decode cX4_keepsAct 24 = .ok (.bipush 20, 2) := dk_16 20 (dk_at dksX4_keepsAct_1 0 rfl rfl)
theorem dX4_keepsAct_26 : decode cX4_keepsAct 26 = .ok (.isub, 1) := dk_100 (dk_at dksX4_keepsAct_1 2 rfl rfl)
theorem dX4_keepsAct_27 : decode cX4_keepsAct 27 = .ok (.aload_n 0, 1) := dk_42 (dk_at dksX4_keepsAct_1 3 rfl rfl)
theorem dX4_keepsAct_28 : decode cX4_keepsAct 28 = .ok (.getfield 52, 3) := dk_180 0 52 (dk_at dksX4_keepsAct_1 4 rfl rfl)
theorem dX4_keepsAct_31 : decode cX4_keepsAct 31 = .ok (.iload_n 1, 1) := dk_27 (dk_at dksX4_keepsAct_1 7 rfl rfl)
theorem dX4_keepsAct_32 : decode cX4_keepsAct 32 = .ok (.iaload, 1) := dk_46 (dk_at dksX4_keepsAct_1 8 rfl rfl)
theorem dX4_keepsAct_33 : decode cX4_keepsAct 33 = .ok (.iastore, 1) := dk_79 (dk_at dksX4_keepsAct_1 9 rfl rfl)
theorem dX4_keepsAct_34 : decode cX4_keepsAct 34 = .ok (.iinc 1 1, 3) := dk_132 1 1 (dk_at dksX4_keepsAct_1 10 rfl rfl)
theorem dX4_keepsAct_37 : decode cX4_keepsAct 37 = .ok (.goto (-25), 3) := dk_167 255 231 (dk_at dksX4_keepsAct_1 13 rfl rfl)
theorem dX4_keepsAct_40 : decode cX4_keepsAct 40 = .ok (.aload_n 0, 1) := dk_42 (dk_at dksX4_keepsAct_1 16 rfl rfl)
theorem dX4_keepsAct_41 : decode cX4_keepsAct 41 = .ok (.dup, 1) := dk_89 (dk_at dksX4_keepsAct_1 17 rfl rfl)
theorem dX4_keepsAct_42 : decode cX4_keepsAct 42 = .ok (.getfield 289, 3) := dk_180 1 33 (dk_at dksX4_keepsAct_1 18 rfl rfl)
theorem dX4_keepsAct_45 : decode cX4_keepsAct 45 = .ok (.iconst 1, 1) := dk_4 (dk_at dksX4_keepsAct_1 21 rfl rfl)
theorem dX4_keepsAct_46 : decode cX4_keepsAct 46 = .ok (.isub, 1) := dk_100 (dk_at dksX4_keepsAct_1 22 rfl rfl)
theorem dX4_keepsAct_47 : decode cX4_keepsAct 47 = .ok (.putfield 289, 3) := dk_181 1 33 (dk_at dksX4_keepsAct_2 0 rfl rfl)
theorem dX4_keepsAct_50 : decode cX4_keepsAct 50 = .ok (.iconst 0, 1) := dk_3 (dk_at dksX4_keepsAct_2 3 rfl rfl)
theorem dX4_keepsAct_51 : decode cX4_keepsAct 51 = .ok (.istore_n 1, 1) := dk_60 (dk_at dksX4_keepsAct_2 4 rfl rfl)
theorem dX4_keepsAct_52 : decode cX4_keepsAct 52 = .ok (.iload_n 1, 1) := dk_27 (dk_at dksX4_keepsAct_2 5 rfl rfl)
theorem dX4_keepsAct_53 : decode cX4_keepsAct 53 = .ok (.bipush 20, 2) := dk_16 20 (dk_at dksX4_keepsAct_2 6 rfl rfl)
theorem dX4_keepsAct_55 : decode cX4_keepsAct 55 = .ok (.if_icmp .ge 32, 3) := dk_162 0 32 (dk_at dksX4_keepsAct_2 8 rfl rfl)
theorem dX4_keepsAct_58 : decode cX4_keepsAct 58 = .ok (.aload_n 0, 1) := dk_42 (dk_at dksX4_keepsAct_2 11 rfl rfl)
theorem dX4_keepsAct_59 : decode cX4_keepsAct 59 = .ok (.getfield 52, 3) := dk_180 0 52 (dk_at dksX4_keepsAct_2 12 rfl rfl)
theorem dX4_keepsAct_62 : decode cX4_keepsAct 62 = .ok (.bipush 20, 2) := dk_16 20 (dk_at dksX4_keepsAct_2 15 rfl rfl)
theorem dX4_keepsAct_64 : decode cX4_keepsAct 64 = .ok (.aload_n 0, 1) := dk_42 (dk_at dksX4_keepsAct_2 17 rfl rfl)
theorem dX4_keepsAct_65 : decode cX4_keepsAct 65 = .ok (.getfield 289, 3) := dk_180 1 33 (dk_at dksX4_keepsAct_2 18 rfl rfl)
theorem dX4_keepsAct_68 : decode cX4_keepsAct 68 = .ok (.imul, 1) := dk_104 (dk_at dksX4_keepsAct_2 21 rfl rfl)
theorem dX4_keepsAct_69 : decode cX4_keepsAct 69 = .ok (.iload_n 1, 1) := dk_27 (dk_at dksX4_keepsAct_2 22 rfl rfl)
theorem dX4_keepsAct_70 : decode cX4_keepsAct 70 = .ok (.iadd, 1) := dk_96 (dk_at dksX4_keepsAct_2 23 rfl rfl)
theorem dX4_keepsAct_71 : decode cX4_keepsAct 71 = .ok (.aload_n 0, 1) := dk_42 (dk_at dksX4_keepsAct_3 0 rfl rfl)
theorem dX4_keepsAct_72 : decode cX4_keepsAct 72 = .ok (.getfield 39, 3) := dk_180 0 39 (dk_at dksX4_keepsAct_3 1 rfl rfl)
theorem dX4_keepsAct_75 : decode cX4_keepsAct 75 = .ok (.bipush 10, 2) := dk_16 10 (dk_at dksX4_keepsAct_3 4 rfl rfl)
theorem dX4_keepsAct_77 : decode cX4_keepsAct 77 = .ok (.iload_n 1, 1) := dk_27 (dk_at dksX4_keepsAct_3 6 rfl rfl)
theorem dX4_keepsAct_78 : decode cX4_keepsAct 78 = .ok (.iadd, 1) := dk_96 (dk_at dksX4_keepsAct_3 7 rfl rfl)
theorem dX4_keepsAct_79 : decode cX4_keepsAct 79 = .ok (.iaload, 1) := dk_46 (dk_at dksX4_keepsAct_3 8 rfl rfl)
theorem dX4_keepsAct_80 : decode cX4_keepsAct 80 = .ok (.iastore, 1) := dk_79 (dk_at dksX4_keepsAct_3 9 rfl rfl)
theorem dX4_keepsAct_81 : decode cX4_keepsAct 81 = .ok (.iinc 1 1, 3) := dk_132 1 1 (dk_at dksX4_keepsAct_3 10 rfl rfl)
theorem dX4_keepsAct_84 : decode cX4_keepsAct 84 = .ok (.goto (-32), 3) := dk_167 255 224 (dk_at dksX4_keepsAct_3 13 rfl rfl)
theorem dX4_keepsAct_87 : decode cX4_keepsAct 87 = .ok (.aload_n 0, 1) := dk_42 (dk_at dksX4_keepsAct_3 16 rfl rfl)
theorem dX4_keepsAct_88 : decode cX4_keepsAct 88 = .ok (.dup, 1) := dk_89 (dk_at dksX4_keepsAct_3 17 rfl rfl)
theorem dX4_keepsAct_89 : decode cX4_keepsAct 89 = .ok (.getfield 289, 3) := dk_180 1 33 (dk_at dksX4_keepsAct_3 18 rfl rfl)
theorem dX4_keepsAct_92 : decode cX4_keepsAct 92 = .ok (.iconst 1, 1) := dk_4 (dk_at dksX4_keepsAct_3 21 rfl rfl)
theorem dX4_keepsAct_93 : decode cX4_keepsAct 93 = .ok (.iadd, 1) := dk_96 (dk_at dksX4_keepsAct_3 22 rfl rfl)
theorem dX4_keepsAct_94 : decode cX4_keepsAct 94 = .ok (.putfield 289, 3) := dk_181 1 33 (dk_at dksX4_keepsAct_4 0 rfl rfl)
theorem dX4_keepsAct_97 : decode cX4_keepsAct 97 = .ok (.return_, 1) := dk_177 (dk_at dksX4_keepsAct_4 3 rfl rfl)
abbrev cX4_passes : ByteArray := prog_19_method_70_code
def yX4_passes : MethodName := ⟨RX4, "passes", "()I"⟩
def dkwX4_passes_2 : List UInt8 := [132, 1, 1, 167, 255, 209, 42, 182, 1, 107, 172]
abbrev dktX4_passes_2 : List UInt8 := dkwX4_passes_2 ++ []
def dkwX4_passes_1 : List UInt8 := [153, 0, 6, 167, 0, 20, 42, 27, 182, 1, 100, 61, 28, 155, 0, 10, 42, 27, 28, 182, 1, 103, 87]
abbrev dktX4_passes_1 : List UInt8 := dkwX4_passes_1 ++ dktX4_passes_2
def dkwX4_passes_0 : List UInt8 := [3, 60, 27, 42, 180, 0, 39, 6, 46, 162, 0, 43, 42, 180, 0, 39, 16, 13, 46, 27, 184, 1, 60]
abbrev dktX4_passes_0 : List UInt8 := dkwX4_passes_0 ++ dktX4_passes_1
theorem dksX4_passes_0 : cX4_passes.data.toList.drop 0 = dktX4_passes_0 := by decide +kernel
theorem dksX4_passes_1 : cX4_passes.data.toList.drop 23 = dktX4_passes_1 := dk_seg dksX4_passes_0 23 rfl rfl
theorem dksX4_passes_2 : cX4_passes.data.toList.drop 46 = dktX4_passes_2 := dk_seg dksX4_passes_1 23 rfl rfl
theorem dX4_passes_0 : decode cX4_passes 0 = .ok (.iconst 0, 1) := dk_3 (dk_at dksX4_passes_0 0 rfl rfl)
theorem dX4_passes_1 : decode cX4_passes 1 = .ok (.istore_n 1, 1) := dk_60 (dk_at dksX4_passes_0 1 rfl rfl)
theorem dX4_passes_2 : decode cX4_passes 2 = .ok (.iload_n 1, 1) := dk_27 (dk_at dksX4_passes_0 2 rfl rfl)
theorem dX4_passes_3 : decode cX4_passes 3 = .ok (.aload_n 0, 1) := dk_42 (dk_at dksX4_passes_0 3 rfl rfl)
theorem dX4_passes_4 : decode cX4_passes 4 = .ok (.getfield 39, 3) := dk_180 0 39 (dk_at dksX4_passes_0 4 rfl rfl)
theorem dX4_passes_7 : decode cX4_passes 7 = .ok (.iconst 3, 1) := dk_6 (dk_at dksX4_passes_0 7 rfl rfl)
theorem dX4_passes_8 : decode cX4_passes 8 = .ok (.iaload, 1) := dk_46 (dk_at dksX4_passes_0 8 rfl rfl)
theorem dX4_passes_9 : decode cX4_passes 9 = .ok (.if_icmp .ge 43, 3) := dk_162 0 43 (dk_at dksX4_passes_0 9 rfl rfl)
theorem dX4_passes_12 : decode cX4_passes 12 = .ok (.aload_n 0, 1) := dk_42 (dk_at dksX4_passes_0 12 rfl rfl)
theorem dX4_passes_13 : decode cX4_passes 13 = .ok (.getfield 39, 3) := dk_180 0 39 (dk_at dksX4_passes_0 13 rfl rfl)
theorem dX4_passes_16 : decode cX4_passes 16 = .ok (.bipush 13, 2) := dk_16 13 (dk_at dksX4_passes_0 16 rfl rfl)
theorem dX4_passes_18 : decode cX4_passes 18 = .ok (.iaload, 1) := dk_46 (dk_at dksX4_passes_0 18 rfl rfl)
theorem dX4_passes_19 : decode cX4_passes 19 = .ok (.iload_n 1, 1) := dk_27 (dk_at dksX4_passes_0 19 rfl rfl)
theorem dX4_passes_20 : decode cX4_passes 20 = .ok (.invokestatic 316, 3) := dk_184 1 60 (dk_at dksX4_passes_0 20 rfl rfl)
theorem dX4_passes_23 : decode cX4_passes 23 = .ok (.ifCond .eq 6, 3) := dk_153 0 6 (dk_at dksX4_passes_1 0 rfl rfl)
theorem dX4_passes_26 : decode cX4_passes 26 = .ok (.goto 20, 3) := dk_167 0 20 (dk_at dksX4_passes_1 3 rfl rfl)
theorem dX4_passes_29 : decode cX4_passes 29 = .ok (.aload_n 0, 1) := dk_42 (dk_at dksX4_passes_1 6 rfl rfl)
theorem dX4_passes_30 : decode cX4_passes 30 = .ok (.iload_n 1, 1) := dk_27 (dk_at dksX4_passes_1 7 rfl rfl)
theorem dX4_passes_31 : decode cX4_passes 31 = .ok (.invokevirtual 356, 3) := dk_182 1 100 (dk_at dksX4_passes_1 8 rfl rfl)
theorem dX4_passes_34 : decode cX4_passes 34 = .ok (.istore_n 2, 1) := dk_61 (dk_at dksX4_passes_1 11 rfl rfl)
theorem dX4_passes_35 : decode cX4_passes 35 = .ok (.iload_n 2, 1) := dk_28 (dk_at dksX4_passes_1 12 rfl rfl)
theorem dX4_passes_36 : decode cX4_passes 36 = .ok (.ifCond .lt 10, 3) := dk_155 0 10 (dk_at dksX4_passes_1 13 rfl rfl)
theorem dX4_passes_39 : decode cX4_passes 39 = .ok (.aload_n 0, 1) := dk_42 (dk_at dksX4_passes_1 16 rfl rfl)
theorem dX4_passes_40 : decode cX4_passes 40 = .ok (.iload_n 1, 1) := dk_27 (dk_at dksX4_passes_1 17 rfl rfl)
theorem dX4_passes_41 : decode cX4_passes 41 = .ok (.iload_n 2, 1) := dk_28 (dk_at dksX4_passes_1 18 rfl rfl)
theorem dX4_passes_42 : decode cX4_passes 42 = .ok (.invokevirtual 359, 3) := dk_182 1 103 (dk_at dksX4_passes_1 19 rfl rfl)
theorem dX4_passes_45 : decode cX4_passes 45 = .ok (.pop, 1) := dk_87 (dk_at dksX4_passes_1 22 rfl rfl)
theorem dX4_passes_46 : decode cX4_passes 46 = .ok (.iinc 1 1, 3) := dk_132 1 1 (dk_at dksX4_passes_2 0 rfl rfl)
theorem dX4_passes_49 : decode cX4_passes 49 = .ok (.goto (-47), 3) := dk_167 255 209 (dk_at dksX4_passes_2 3 rfl rfl)
theorem dX4_passes_52 : decode cX4_passes 52 = .ok (.aload_n 0, 1) := dk_42 (dk_at dksX4_passes_2 6 rfl rfl)
theorem dX4_passes_53 : decode cX4_passes 53 = .ok (.invokevirtual 363, 3) := dk_182 1 107 (dk_at dksX4_passes_2 7 rfl rfl)
theorem dX4_passes_56 : decode cX4_passes 56 = .ok (.ireturn, 1) := dk_172 (dk_at dksX4_passes_2 10 rfl rfl)
abbrev cX4_choice : ByteArray := prog_19_method_68_code
def yX4_choice : MethodName := ⟨RX4, "choice", "(I)I"⟩
def dkwX4_choice_4 : List UInt8 := [132, 5, 1, 167, 255, 193, 28, 172]
abbrev dktX4_choice_4 : List UInt8 := dkwX4_choice_4 ++ []
def dkwX4_choice_3 : List UInt8 := [180, 0, 42, 182, 1, 96, 55, 6, 22, 6, 33, 148, 157, 0, 6, 167, 0, 9, 21, 5, 61, 22, 6, 66]
abbrev dktX4_choice_3 : List UInt8 := dkwX4_choice_3 ++ dktX4_choice_4
def dkwX4_choice_2 : List UInt8 := [180, 0, 39, 16, 14, 21, 5, 96, 46, 154, 0, 6, 167, 0, 36, 42, 27, 21, 5, 182, 1, 93, 42, 42]
abbrev dktX4_choice_2 : List UInt8 := dkwX4_choice_2 ++ dktX4_choice_3
def dkwX4_choice_1 : List UInt8 := [167, 0, 4, 2, 172, 2, 61, 9, 66, 3, 54, 5, 21, 5, 42, 180, 0, 39, 5, 46, 162, 0, 58, 42]
abbrev dktX4_choice_1 : List UInt8 := dkwX4_choice_1 ++ dktX4_choice_2
def dkwX4_choice_0 : List UInt8 := [42, 180, 0, 42, 156, 0, 25, 42, 42, 27, 182, 1, 71, 182, 1, 51, 153, 0, 11, 42, 27, 182, 1, 71]
abbrev dktX4_choice_0 : List UInt8 := dkwX4_choice_0 ++ dktX4_choice_1
theorem dksX4_choice_0 : cX4_choice.data.toList.drop 0 = dktX4_choice_0 := by decide +kernel
theorem dksX4_choice_1 : cX4_choice.data.toList.drop 24 = dktX4_choice_1 := dk_seg dksX4_choice_0 24 rfl rfl
theorem dksX4_choice_2 : cX4_choice.data.toList.drop 48 = dktX4_choice_2 := dk_seg dksX4_choice_1 24 rfl rfl
theorem dksX4_choice_3 : cX4_choice.data.toList.drop 72 = dktX4_choice_3 := dk_seg dksX4_choice_2 24 rfl rfl
theorem dksX4_choice_4 : cX4_choice.data.toList.drop 96 = dktX4_choice_4 := dk_seg dksX4_choice_3 24 rfl rfl
theorem dX4_choice_0 : decode cX4_choice 0 = .ok (.aload_n 0, 1) := dk_42 (dk_at dksX4_choice_0 0 rfl rfl)
theorem dX4_choice_1 : decode cX4_choice 1 = .ok (.getfield 42, 3) := dk_180 0 42 (dk_at dksX4_choice_0 1 rfl rfl)
theorem dX4_choice_4 : decode cX4_choice 4 = .ok (.ifCond .ge 25, 3) := dk_156 0 25 (dk_at dksX4_choice_0 4 rfl rfl)
theorem dX4_choice_7 : decode cX4_choice 7 = .ok (.aload_n 0, 1) := dk_42 (dk_at dksX4_choice_0 7 rfl rfl)
theorem dX4_choice_8 : decode cX4_choice 8 = .ok (.aload_n 0, 1) := dk_42 (dk_at dksX4_choice_0 8 rfl rfl)
theorem dX4_choice_9 : decode cX4_choice 9 = .ok (.iload_n 1, 1) := dk_27 (dk_at dksX4_choice_0 9 rfl rfl)
theorem dX4_choice_10 : decode cX4_choice 10 = .ok (.invokevirtual 327, 3) := dk_182 1 71 (dk_at dksX4_choice_0 10 rfl rfl)
theorem dX4_choice_13 : decode cX4_choice 13 = .ok (.invokevirtual 307, 3) := dk_182 1 51 (dk_at dksX4_choice_0 13 rfl rfl)
theorem dX4_choice_16 : decode cX4_choice 16 = .ok (.ifCond .eq 11, 3) := dk_153 0 11 (dk_at dksX4_choice_0 16 rfl rfl)
theorem dX4_choice_19 : decode cX4_choice 19 = .ok (.aload_n 0, 1) := dk_42 (dk_at dksX4_choice_0 19 rfl rfl)
theorem dX4_choice_20 : decode cX4_choice 20 = .ok (.iload_n 1, 1) := dk_27 (dk_at dksX4_choice_0 20 rfl rfl)
theorem dX4_choice_21 : decode cX4_choice 21 = .ok (.invokevirtual 327, 3) := dk_182 1 71 (dk_at dksX4_choice_0 21 rfl rfl)
theorem dX4_choice_24 : decode cX4_choice 24 = .ok (.goto 4, 3) := dk_167 0 4 (dk_at dksX4_choice_1 0 rfl rfl)
theorem dX4_choice_27 : decode cX4_choice 27 = .ok (.iconst (-1), 1) := dk_2 (dk_at dksX4_choice_1 3 rfl rfl)
theorem dX4_choice_28 : decode cX4_choice 28 = .ok (.ireturn, 1) := dk_172 (dk_at dksX4_choice_1 4 rfl rfl)
theorem dX4_choice_29 : decode cX4_choice 29 = .ok (.iconst (-1), 1) := dk_2 (dk_at dksX4_choice_1 5 rfl rfl)
theorem dX4_choice_30 : decode cX4_choice 30 = .ok (.istore_n 2, 1) := dk_61 (dk_at dksX4_choice_1 6 rfl rfl)
theorem dX4_choice_31 : decode cX4_choice 31 = .ok (.lconst 0, 1) := dk_9 (dk_at dksX4_choice_1 7 rfl rfl)
theorem dX4_choice_32 : decode cX4_choice 32 = .ok (.lstore_n 3, 1) := dk_66 (dk_at dksX4_choice_1 8 rfl rfl)
theorem dX4_choice_33 : decode cX4_choice 33 = .ok (.iconst 0, 1) := dk_3 (dk_at dksX4_choice_1 9 rfl rfl)
theorem dX4_choice_34 : decode cX4_choice 34 = .ok (.istore 5, 2) := dk_54 5 (dk_at dksX4_choice_1 10 rfl rfl)
theorem dX4_choice_36 : decode cX4_choice 36 = .ok (.iload 5, 2) := dk_21 5 (dk_at dksX4_choice_1 12 rfl rfl)
theorem dX4_choice_38 : decode cX4_choice 38 = .ok (.aload_n 0, 1) := dk_42 (dk_at dksX4_choice_1 14 rfl rfl)
theorem dX4_choice_39 : decode cX4_choice 39 = .ok (.getfield 39, 3) := dk_180 0 39 (dk_at dksX4_choice_1 15 rfl rfl)
theorem dX4_choice_42 : decode cX4_choice 42 = .ok (.iconst 2, 1) := dk_5 (dk_at dksX4_choice_1 18 rfl rfl)
theorem dX4_choice_43 : decode cX4_choice 43 = .ok (.iaload, 1) := dk_46 (dk_at dksX4_choice_1 19 rfl rfl)
theorem dX4_choice_44 : decode cX4_choice 44 = .ok (.if_icmp .ge 58, 3) := dk_162 0 58 (dk_at dksX4_choice_1 20 rfl rfl)
theorem dX4_choice_47 : decode cX4_choice 47 = .ok (.aload_n 0, 1) := dk_42 (dk_at dksX4_choice_1 23 rfl rfl)
theorem dX4_choice_48 : decode cX4_choice 48 = .ok (.getfield 39, 3) := dk_180 0 39 (dk_at dksX4_choice_2 0 rfl rfl)
theorem dX4_choice_51 : decode cX4_choice 51 = .ok (.bipush 14, 2) := dk_16 14 (dk_at dksX4_choice_2 3 rfl rfl)
theorem dX4_choice_53 : decode cX4_choice 53 = .ok (.iload 5, 2) := dk_21 5 (dk_at dksX4_choice_2 5 rfl rfl)
theorem dX4_choice_55 : decode cX4_choice 55 = .ok (.iadd, 1) := dk_96 (dk_at dksX4_choice_2 7 rfl rfl)
theorem dX4_choice_56 : decode cX4_choice 56 = .ok (.iaload, 1) := dk_46 (dk_at dksX4_choice_2 8 rfl rfl)
theorem dX4_choice_57 : decode cX4_choice 57 = .ok (.ifCond .ne 6, 3) := dk_154 0 6 (dk_at dksX4_choice_2 9 rfl rfl)
theorem dX4_choice_60 : decode cX4_choice 60 = .ok (.goto 36, 3) := dk_167 0 36 (dk_at dksX4_choice_2 12 rfl rfl)
theorem dX4_choice_63 : decode cX4_choice 63 = .ok (.aload_n 0, 1) := dk_42 (dk_at dksX4_choice_2 15 rfl rfl)
theorem dX4_choice_64 : decode cX4_choice 64 = .ok (.iload_n 1, 1) := dk_27 (dk_at dksX4_choice_2 16 rfl rfl)
theorem dX4_choice_65 : decode cX4_choice 65 = .ok (.iload 5, 2) := dk_21 5 (dk_at dksX4_choice_2 17 rfl rfl)
theorem dX4_choice_67 : decode cX4_choice 67 = .ok (.invokevirtual 349, 3) := dk_182 1 93 (dk_at dksX4_choice_2 19 rfl rfl)
theorem dX4_choice_70 : decode cX4_choice 70 = .ok (.aload_n 0, 1) := dk_42 (dk_at dksX4_choice_2 22 rfl rfl)
theorem dX4_choice_71 : decode cX4_choice 71 = .ok (.aload_n 0, 1) := dk_42 (dk_at dksX4_choice_2 23 rfl rfl)
theorem dX4_choice_72 : decode cX4_choice 72 = .ok (.getfield 42, 3) := dk_180 0 42 (dk_at dksX4_choice_3 0 rfl rfl)
theorem dX4_choice_75 : decode cX4_choice 75 = .ok (.invokevirtual 352, 3) := dk_182 1 96 (dk_at dksX4_choice_3 3 rfl rfl)
theorem dX4_choice_78 : decode cX4_choice 78 = .ok (.lstore 6, 2) := dk_55 6 (dk_at dksX4_choice_3 6 rfl rfl)
theorem dX4_choice_80 : decode cX4_choice 80 = .ok (.lload 6, 2) := dk_22 6 (dk_at dksX4_choice_3 8 rfl rfl)
theorem dX4_choice_82 : decode cX4_choice 82 = .ok (.lload_n 3, 1) := dk_33 (dk_at dksX4_choice_3 10 rfl rfl)
theorem dX4_choice_83 : decode cX4_choice 83 = .ok (.lcmp, 1) := dk_148 (dk_at dksX4_choice_3 11 rfl rfl)
theorem dX4_choice_84 : decode cX4_choice 84 = .ok (.ifCond .gt 6, 3) := dk_157 0 6 (dk_at dksX4_choice_3 12 rfl rfl)
theorem dX4_choice_87 : decode cX4_choice 87 = .ok (.goto 9, 3) := dk_167 0 9 (dk_at dksX4_choice_3 15 rfl rfl)
theorem dX4_choice_90 : decode cX4_choice 90 = .ok (.iload 5, 2) := dk_21 5 (dk_at dksX4_choice_3 18 rfl rfl)
theorem dX4_choice_92 : decode cX4_choice 92 = .ok (.istore_n 2, 1) := dk_61 (dk_at dksX4_choice_3 20 rfl rfl)
theorem dX4_choice_93 : decode cX4_choice 93 = .ok (.lload 6, 2) := dk_22 6 (dk_at dksX4_choice_3 21 rfl rfl)
theorem dX4_choice_95 : decode cX4_choice 95 = .ok (.lstore_n 3, 1) := dk_66 (dk_at dksX4_choice_3 23 rfl rfl)
theorem dX4_choice_96 : decode cX4_choice 96 = .ok (.iinc 5 1, 3) := dk_132 5 1 (dk_at dksX4_choice_4 0 rfl rfl)
theorem dX4_choice_99 : decode cX4_choice 99 = .ok (.goto (-63), 3) := dk_167 255 193 (dk_at dksX4_choice_4 3 rfl rfl)
theorem dX4_choice_102 : decode cX4_choice 102 = .ok (.iload_n 2, 1) := dk_28 (dk_at dksX4_choice_4 6 rfl rfl)
theorem dX4_choice_103 : decode cX4_choice 103 = .ok (.ireturn, 1) := dk_172 (dk_at dksX4_choice_4 7 rfl rfl)
abbrev cX4_words : ByteArray := prog_19_method_67_code
def yX4_words : MethodName := ⟨RX4, "words", "(II)V"⟩
def dkwX4_words_9 : List UInt8 := [16, 10, 46, 133, 80, 177]
abbrev dktX4_words_9 : List UInt8 := dkwX4_words_9 ++ []
def dkwX4_words_8 : List UInt8 := [28, 96, 46, 42, 182, 1, 84, 126, 184, 1, 87, 133, 80, 42, 180, 0, 36, 16, 11, 42, 180, 0, 39]
abbrev dktX4_words_8 : List UInt8 := dkwX4_words_8 ++ dktX4_words_9
def dkwX4_words_7 : List UInt8 := [180, 0, 36, 16, 9, 42, 28, 182, 1, 90, 133, 80, 42, 180, 0, 36, 16, 10, 42, 180, 0, 39, 16, 30]
abbrev dktX4_words_7 : List UInt8 := dkwX4_words_7 ++ dktX4_words_8
def dkwX4_words_6 : List UInt8 := [180, 0, 39, 16, 10, 46, 182, 1, 63, 28, 184, 1, 60, 153, 0, 7, 10, 167, 0, 4, 9, 80, 42]
abbrev dktX4_words_6 : List UInt8 := dkwX4_words_6 ++ dktX4_words_7
def dkwX4_words_5 : List UInt8 := [180, 0, 36, 16, 7, 42, 182, 1, 84, 184, 1, 87, 133, 80, 42, 180, 0, 36, 16, 8, 42, 42]
abbrev dktX4_words_5 : List UInt8 := dkwX4_words_5 ++ dktX4_words_6
def dkwX4_words_4 : List UInt8 := [16, 6, 42, 180, 0, 39, 16, 12, 46, 28, 184, 1, 60, 153, 0, 7, 10, 167, 0, 4, 9, 80, 42]
abbrev dktX4_words_4 : List UInt8 := dkwX4_words_4 ++ dktX4_words_5
def dkwX4_words_3 : List UInt8 := [180, 0, 39, 16, 11, 46, 28, 184, 1, 60, 153, 0, 7, 10, 167, 0, 4, 9, 80, 42, 180, 0, 36]
abbrev dktX4_words_3 : List UInt8 := dkwX4_words_3 ++ dktX4_words_4
def dkwX4_words_2 : List UInt8 := [28, 96, 46, 133, 80, 42, 180, 0, 36, 7, 42, 27, 182, 1, 74, 133, 80, 42, 180, 0, 36, 8, 42]
abbrev dktX4_words_2 : List UInt8 := dkwX4_words_2 ++ dktX4_words_3
def dkwX4_words_1 : List UInt8 := [182, 1, 71, 28, 160, 0, 7, 10, 167, 0, 4, 9, 80, 42, 180, 0, 36, 6, 42, 180, 0, 39, 16, 14]
abbrev dktX4_words_1 : List UInt8 := dkwX4_words_1 ++ dktX4_words_2
def dkwX4_words_0 : List UInt8 := [42, 180, 0, 36, 3, 27, 133, 80, 42, 180, 0, 36, 4, 28, 133, 80, 42, 180, 0, 36, 5, 42, 27]
abbrev dktX4_words_0 : List UInt8 := dkwX4_words_0 ++ dktX4_words_1
theorem dksX4_words_0 : cX4_words.data.toList.drop 0 = dktX4_words_0 := by decide +kernel
theorem dksX4_words_1 : cX4_words.data.toList.drop 23 = dktX4_words_1 := dk_seg dksX4_words_0 23 rfl rfl
theorem dksX4_words_2 : cX4_words.data.toList.drop 47 = dktX4_words_2 := dk_seg dksX4_words_1 24 rfl rfl
theorem dksX4_words_3 : cX4_words.data.toList.drop 70 = dktX4_words_3 := dk_seg dksX4_words_2 23 rfl rfl
theorem dksX4_words_4 : cX4_words.data.toList.drop 93 = dktX4_words_4 := dk_seg dksX4_words_3 23 rfl rfl
theorem dksX4_words_5 : cX4_words.data.toList.drop 116 = dktX4_words_5 := dk_seg dksX4_words_4 23 rfl rfl
theorem dksX4_words_6 : cX4_words.data.toList.drop 138 = dktX4_words_6 := dk_seg dksX4_words_5 22 rfl rfl
theorem dksX4_words_7 : cX4_words.data.toList.drop 161 = dktX4_words_7 := dk_seg dksX4_words_6 23 rfl rfl
theorem dksX4_words_8 : cX4_words.data.toList.drop 185 = dktX4_words_8 := dk_seg dksX4_words_7 24 rfl rfl
theorem dksX4_words_9 : cX4_words.data.toList.drop 208 = dktX4_words_9 := dk_seg dksX4_words_8 23 rfl rfl
theorem dX4_words_0 : decode cX4_words 0 = .ok (.aload_n 0, 1) := dk_42 (dk_at dksX4_words_0 0 rfl rfl)
theorem dX4_words_1 : decode cX4_words 1 = .ok (.getfield 36, 3) := dk_180 0 36 (dk_at dksX4_words_0 1 rfl rfl)
theorem dX4_words_4 : decode cX4_words 4 = .ok (.iconst 0, 1) := dk_3 (dk_at dksX4_words_0 4 rfl rfl)
theorem dX4_words_5 : decode cX4_words 5 = .ok (.iload_n 1, 1) := dk_27 (dk_at dksX4_words_0 5 rfl rfl)
theorem dX4_words_6 : decode cX4_words 6 = .ok (.i2l, 1) := dk_133 (dk_at dksX4_words_0 6 rfl rfl)
theorem dX4_words_7 : decode cX4_words 7 = .ok (.lastore, 1) := dk_80 (dk_at dksX4_words_0 7 rfl rfl)
theorem dX4_words_8 : decode cX4_words 8 = .ok (.aload_n 0, 1) := dk_42 (dk_at dksX4_words_0 8 rfl rfl)
theorem dX4_words_9 : decode cX4_words 9 = .ok (.getfield 36, 3) := dk_180 0 36 (dk_at dksX4_words_0 9 rfl rfl)
theorem dX4_words_12 : decode cX4_words 12 = .ok (.iconst 1, 1) := dk_4 (dk_at dksX4_words_0 12 rfl rfl)
theorem dX4_words_13 : decode cX4_words 13 = .ok (.iload_n 2, 1) := dk_28 (dk_at dksX4_words_0 13 rfl rfl)
theorem dX4_words_14 : decode cX4_words 14 = .ok (.i2l, 1) := dk_133 (dk_at dksX4_words_0 14 rfl rfl)
theorem dX4_words_15 : decode cX4_words 15 = .ok (.lastore, 1) := dk_80 (dk_at dksX4_words_0 15 rfl rfl)
theorem dX4_words_16 : decode cX4_words 16 = .ok (.aload_n 0, 1) := dk_42 (dk_at dksX4_words_0 16 rfl rfl)
theorem dX4_words_17 : decode cX4_words 17 = .ok (.getfield 36, 3) := dk_180 0 36 (dk_at dksX4_words_0 17 rfl rfl)
theorem dX4_words_20 : decode cX4_words 20 = .ok (.iconst 2, 1) := dk_5 (dk_at dksX4_words_0 20 rfl rfl)
theorem dX4_words_21 : decode cX4_words 21 = .ok (.aload_n 0, 1) := dk_42 (dk_at dksX4_words_0 21 rfl rfl)
theorem dX4_words_22 : decode cX4_words 22 = .ok (.iload_n 1, 1) := dk_27 (dk_at dksX4_words_0 22 rfl rfl)
theorem dX4_words_23 : decode cX4_words 23 = .ok (.invokevirtual 327, 3) := dk_182 1 71 (dk_at dksX4_words_1 0 rfl rfl)
theorem dX4_words_26 : decode cX4_words 26 = .ok (.iload_n 2, 1) := dk_28 (dk_at dksX4_words_1 3 rfl rfl)
theorem dX4_words_27 : decode cX4_words 27 = .ok (.if_icmp .ne 7, 3) := dk_160 0 7 (dk_at dksX4_words_1 4 rfl rfl)
theorem dX4_words_30 : decode cX4_words 30 = .ok (.lconst 1, 1) := dk_10 (dk_at dksX4_words_1 7 rfl rfl)
theorem dX4_words_31 : decode cX4_words 31 = .ok (.goto 4, 3) := dk_167 0 4 (dk_at dksX4_words_1 8 rfl rfl)
theorem dX4_words_34 : decode cX4_words 34 = .ok (.lconst 0, 1) := dk_9 (dk_at dksX4_words_1 11 rfl rfl)
theorem dX4_words_35 : decode cX4_words 35 = .ok (.lastore, 1) := dk_80 (dk_at dksX4_words_1 12 rfl rfl)
theorem dX4_words_36 : decode cX4_words 36 = .ok (.aload_n 0, 1) := dk_42 (dk_at dksX4_words_1 13 rfl rfl)
theorem dX4_words_37 : decode cX4_words 37 = .ok (.getfield 36, 3) := dk_180 0 36 (dk_at dksX4_words_1 14 rfl rfl)
theorem dX4_words_40 : decode cX4_words 40 = .ok (.iconst 3, 1) := dk_6 (dk_at dksX4_words_1 17 rfl rfl)
theorem dX4_words_41 : decode cX4_words 41 = .ok (.aload_n 0, 1) := dk_42 (dk_at dksX4_words_1 18 rfl rfl)
theorem dX4_words_42 : decode cX4_words 42 = .ok (.getfield 39, 3) := dk_180 0 39 (dk_at dksX4_words_1 19 rfl rfl)
theorem dX4_words_45 : decode cX4_words 45 = .ok (.bipush 14, 2) := dk_16 14 (dk_at dksX4_words_1 22 rfl rfl)
theorem dX4_words_47 : decode cX4_words 47 = .ok (.iload_n 2, 1) := dk_28 (dk_at dksX4_words_2 0 rfl rfl)
theorem dX4_words_48 : decode cX4_words 48 = .ok (.iadd, 1) := dk_96 (dk_at dksX4_words_2 1 rfl rfl)
theorem dX4_words_49 : decode cX4_words 49 = .ok (.iaload, 1) := dk_46 (dk_at dksX4_words_2 2 rfl rfl)
theorem dX4_words_50 : decode cX4_words 50 = .ok (.i2l, 1) := dk_133 (dk_at dksX4_words_2 3 rfl rfl)
theorem dX4_words_51 : decode cX4_words 51 = .ok (.lastore, 1) := dk_80 (dk_at dksX4_words_2 4 rfl rfl)
theorem dX4_words_52 : decode cX4_words 52 = .ok (.aload_n 0, 1) := dk_42 (dk_at dksX4_words_2 5 rfl rfl)
theorem dX4_words_53 : decode cX4_words 53 = .ok (.getfield 36, 3) := dk_180 0 36 (dk_at dksX4_words_2 6 rfl rfl)
theorem dX4_words_56 : decode cX4_words 56 = .ok (.iconst 4, 1) := dk_7 (dk_at dksX4_words_2 9 rfl rfl)
theorem dX4_words_57 : decode cX4_words 57 = .ok (.aload_n 0, 1) := dk_42 (dk_at dksX4_words_2 10 rfl rfl)
theorem dX4_words_58 : decode cX4_words 58 = .ok (.iload_n 1, 1) := dk_27 (dk_at dksX4_words_2 11 rfl rfl)
theorem dX4_words_59 : decode cX4_words 59 = .ok (.invokevirtual 330, 3) := dk_182 1 74 (dk_at dksX4_words_2 12 rfl rfl)
theorem dX4_words_62 : decode cX4_words 62 = .ok (.i2l, 1) := dk_133 (dk_at dksX4_words_2 15 rfl rfl)
theorem dX4_words_63 : decode cX4_words 63 = .ok (.lastore, 1) := dk_80 (dk_at dksX4_words_2 16 rfl rfl)
theorem dX4_words_64 : decode cX4_words 64 = .ok (.aload_n 0, 1) := dk_42 (dk_at dksX4_words_2 17 rfl rfl)
theorem dX4_words_65 : decode cX4_words 65 = .ok (.getfield 36, 3) := dk_180 0 36 (dk_at dksX4_words_2 18 rfl rfl)
theorem dX4_words_68 : decode cX4_words 68 = .ok (.iconst 5, 1) := dk_8 (dk_at dksX4_words_2 21 rfl rfl)
theorem dX4_words_69 : decode cX4_words 69 = .ok (.aload_n 0, 1) := dk_42 (dk_at dksX4_words_2 22 rfl rfl)
theorem dX4_words_70 : decode cX4_words 70 = .ok (.getfield 39, 3) := dk_180 0 39 (dk_at dksX4_words_3 0 rfl rfl)
theorem dX4_words_73 : decode cX4_words 73 = .ok (.bipush 11, 2) := dk_16 11 (dk_at dksX4_words_3 3 rfl rfl)
theorem dX4_words_75 : decode cX4_words 75 = .ok (.iaload, 1) := dk_46 (dk_at dksX4_words_3 5 rfl rfl)
theorem dX4_words_76 : decode cX4_words 76 = .ok (.iload_n 2, 1) := dk_28 (dk_at dksX4_words_3 6 rfl rfl)
theorem dX4_words_77 : decode cX4_words 77 = .ok (.invokestatic 316, 3) := dk_184 1 60 (dk_at dksX4_words_3 7 rfl rfl)
theorem dX4_words_80 : decode cX4_words 80 = .ok (.ifCond .eq 7, 3) := dk_153 0 7 (dk_at dksX4_words_3 10 rfl rfl)
theorem dX4_words_83 : decode cX4_words 83 = .ok (.lconst 1, 1) := dk_10 (dk_at dksX4_words_3 13 rfl rfl)
theorem dX4_words_84 : decode cX4_words 84 = .ok (.goto 4, 3) := dk_167 0 4 (dk_at dksX4_words_3 14 rfl rfl)
theorem dX4_words_87 : decode cX4_words 87 = .ok (.lconst 0, 1) := dk_9 (dk_at dksX4_words_3 17 rfl rfl)
theorem dX4_words_88 : decode cX4_words 88 = .ok (.lastore, 1) := dk_80 (dk_at dksX4_words_3 18 rfl rfl)
theorem dX4_words_89 : decode cX4_words 89 = .ok (.aload_n 0, 1) := dk_42 (dk_at dksX4_words_3 19 rfl rfl)
theorem dX4_words_90 : decode cX4_words 90 = .ok (.getfield 36, 3) := dk_180 0 36 (dk_at dksX4_words_3 20 rfl rfl)
theorem dX4_words_93 : decode cX4_words 93 = .ok (.bipush 6, 2) := dk_16 6 (dk_at dksX4_words_4 0 rfl rfl)
theorem dX4_words_95 : decode cX4_words 95 = .ok (.aload_n 0, 1) := dk_42 (dk_at dksX4_words_4 2 rfl rfl)
theorem dX4_words_96 : decode cX4_words 96 = .ok (.getfield 39, 3) := dk_180 0 39 (dk_at dksX4_words_4 3 rfl rfl)
theorem dX4_words_99 : decode cX4_words 99 = .ok (.bipush 12, 2) := dk_16 12 (dk_at dksX4_words_4 6 rfl rfl)
theorem dX4_words_101 : decode cX4_words 101 = .ok (.iaload, 1) := dk_46 (dk_at dksX4_words_4 8 rfl rfl)
theorem dX4_words_102 : decode cX4_words 102 = .ok (.iload_n 2, 1) := dk_28 (dk_at dksX4_words_4 9 rfl rfl)
theorem dX4_words_103 : decode cX4_words 103 = .ok (.invokestatic 316, 3) := dk_184 1 60 (dk_at dksX4_words_4 10 rfl rfl)
theorem dX4_words_106 : decode cX4_words 106 = .ok (.ifCond .eq 7, 3) := dk_153 0 7 (dk_at dksX4_words_4 13 rfl rfl)
theorem dX4_words_109 : decode cX4_words 109 = .ok (.lconst 1, 1) := dk_10 (dk_at dksX4_words_4 16 rfl rfl)
theorem dX4_words_110 : decode cX4_words 110 = .ok (.goto 4, 3) := dk_167 0 4 (dk_at dksX4_words_4 17 rfl rfl)
theorem dX4_words_113 : decode cX4_words 113 = .ok (.lconst 0, 1) := dk_9 (dk_at dksX4_words_4 20 rfl rfl)
theorem dX4_words_114 : decode cX4_words 114 = .ok (.lastore, 1) := dk_80 (dk_at dksX4_words_4 21 rfl rfl)
theorem dX4_words_115 : decode cX4_words 115 = .ok (.aload_n 0, 1) := dk_42 (dk_at dksX4_words_4 22 rfl rfl)
theorem dX4_words_116 : decode cX4_words 116 = .ok (.getfield 36, 3) := dk_180 0 36 (dk_at dksX4_words_5 0 rfl rfl)
theorem dX4_words_119 : decode cX4_words 119 = .ok (.bipush 7, 2) := dk_16 7 (dk_at dksX4_words_5 3 rfl rfl)
theorem dX4_words_121 : decode cX4_words 121 = .ok (.aload_n 0, 1) := dk_42 (dk_at dksX4_words_5 5 rfl rfl)
theorem dX4_words_122 : decode cX4_words 122 = .ok (.invokevirtual 340, 3) := dk_182 1 84 (dk_at dksX4_words_5 6 rfl rfl)
theorem dX4_words_125 : decode cX4_words 125 = .ok (.invokestatic 343, 3) := dk_184 1 87 (dk_at dksX4_words_5 9 rfl rfl)
theorem dX4_words_128 : decode cX4_words 128 = .ok (.i2l, 1) := dk_133 (dk_at dksX4_words_5 12 rfl rfl)
theorem dX4_words_129 : decode cX4_words 129 = .ok (.lastore, 1) := dk_80 (dk_at dksX4_words_5 13 rfl rfl)
theorem dX4_words_130 : decode cX4_words 130 = .ok (.aload_n 0, 1) := dk_42 (dk_at dksX4_words_5 14 rfl rfl)
theorem dX4_words_131 : decode cX4_words 131 = .ok (.getfield 36, 3) := dk_180 0 36 (dk_at dksX4_words_5 15 rfl rfl)
theorem dX4_words_134 : decode cX4_words 134 = .ok (.bipush 8, 2) := dk_16 8 (dk_at dksX4_words_5 18 rfl rfl)
theorem dX4_words_136 : decode cX4_words 136 = .ok (.aload_n 0, 1) := dk_42 (dk_at dksX4_words_5 20 rfl rfl)
theorem dX4_words_137 : decode cX4_words 137 = .ok (.aload_n 0, 1) := dk_42 (dk_at dksX4_words_5 21 rfl rfl)
theorem dX4_words_138 : decode cX4_words 138 = .ok (.getfield 39, 3) := dk_180 0 39 (dk_at dksX4_words_6 0 rfl rfl)
theorem dX4_words_141 : decode cX4_words 141 = .ok (.bipush 10, 2) := dk_16 10 (dk_at dksX4_words_6 3 rfl rfl)
theorem dX4_words_143 : decode cX4_words 143 = .ok (.iaload, 1) := dk_46 (dk_at dksX4_words_6 5 rfl rfl)
theorem dX4_words_144 : decode cX4_words 144 = .ok (.invokevirtual 319, 3) := dk_182 1 63 (dk_at dksX4_words_6 6 rfl rfl)
theorem dX4_words_147 : decode cX4_words 147 = .ok (.iload_n 2, 1) := dk_28 (dk_at dksX4_words_6 9 rfl rfl)
theorem dX4_words_148 : decode cX4_words 148 = .ok (.invokestatic 316, 3) := dk_184 1 60 (dk_at dksX4_words_6 10 rfl rfl)
theorem dX4_words_151 : decode cX4_words 151 = .ok (.ifCond .eq 7, 3) := dk_153 0 7 (dk_at dksX4_words_6 13 rfl rfl)
theorem dX4_words_154 : decode cX4_words 154 = .ok (.lconst 1, 1) := dk_10 (dk_at dksX4_words_6 16 rfl rfl)
theorem dX4_words_155 : decode cX4_words 155 = .ok (.goto 4, 3) := dk_167 0 4 (dk_at dksX4_words_6 17 rfl rfl)
theorem dX4_words_158 : decode cX4_words 158 = .ok (.lconst 0, 1) := dk_9 (dk_at dksX4_words_6 20 rfl rfl)
theorem dX4_words_159 : decode cX4_words 159 = .ok (.lastore, 1) := dk_80 (dk_at dksX4_words_6 21 rfl rfl)
theorem dX4_words_160 : decode cX4_words 160 = .ok (.aload_n 0, 1) := dk_42 (dk_at dksX4_words_6 22 rfl rfl)
theorem dX4_words_161 : decode cX4_words 161 = .ok (.getfield 36, 3) := dk_180 0 36 (dk_at dksX4_words_7 0 rfl rfl)
theorem dX4_words_164 : decode cX4_words 164 = .ok (.bipush 9, 2) := dk_16 9 (dk_at dksX4_words_7 3 rfl rfl)
theorem dX4_words_166 : decode cX4_words 166 = .ok (.aload_n 0, 1) := dk_42 (dk_at dksX4_words_7 5 rfl rfl)
theorem dX4_words_167 : decode cX4_words 167 = .ok (.iload_n 2, 1) := dk_28 (dk_at dksX4_words_7 6 rfl rfl)
theorem dX4_words_168 : decode cX4_words 168 = .ok (.invokevirtual 346, 3) := dk_182 1 90 (dk_at dksX4_words_7 7 rfl rfl)
theorem dX4_words_171 : decode cX4_words 171 = .ok (.i2l, 1) := dk_133 (dk_at dksX4_words_7 10 rfl rfl)
theorem dX4_words_172 : decode cX4_words 172 = .ok (.lastore, 1) := dk_80 (dk_at dksX4_words_7 11 rfl rfl)
theorem dX4_words_173 : decode cX4_words 173 = .ok (.aload_n 0, 1) := dk_42 (dk_at dksX4_words_7 12 rfl rfl)
theorem dX4_words_174 : decode cX4_words 174 = .ok (.getfield 36, 3) := dk_180 0 36 (dk_at dksX4_words_7 13 rfl rfl)
theorem dX4_words_177 : decode cX4_words 177 = .ok (.bipush 10, 2) := dk_16 10 (dk_at dksX4_words_7 16 rfl rfl)
theorem dX4_words_179 : decode cX4_words 179 = .ok (.aload_n 0, 1) := dk_42 (dk_at dksX4_words_7 18 rfl rfl)
theorem dX4_words_180 : decode cX4_words 180 = .ok (.getfield 39, 3) := dk_180 0 39 (dk_at dksX4_words_7 19 rfl rfl)
theorem dX4_words_183 : decode cX4_words 183 = .ok (.bipush 30, 2) := dk_16 30 (dk_at dksX4_words_7 22 rfl rfl)
theorem dX4_words_185 : decode cX4_words 185 = .ok (.iload_n 2, 1) := dk_28 (dk_at dksX4_words_8 0 rfl rfl)
theorem dX4_words_186 : decode cX4_words 186 = .ok (.iadd, 1) := dk_96 (dk_at dksX4_words_8 1 rfl rfl)
theorem dX4_words_187 : decode cX4_words 187 = .ok (.iaload, 1) := dk_46 (dk_at dksX4_words_8 2 rfl rfl)
theorem dX4_words_188 : decode cX4_words 188 = .ok (.aload_n 0, 1) := dk_42 (dk_at dksX4_words_8 3 rfl rfl)
theorem dX4_words_189 : decode cX4_words 189 = .ok (.invokevirtual 340, 3) := dk_182 1 84 (dk_at dksX4_words_8 4 rfl rfl)
theorem dX4_words_192 : decode cX4_words 192 = .ok (.iand, 1) := dk_126 (dk_at dksX4_words_8 7 rfl rfl)
theorem dX4_words_193 : decode cX4_words 193 = .ok (.invokestatic 343, 3) := dk_184 1 87 (dk_at dksX4_words_8 8 rfl rfl)
theorem dX4_words_196 : decode cX4_words 196 = .ok (.i2l, 1) := dk_133 (dk_at dksX4_words_8 11 rfl rfl)
theorem dX4_words_197 : decode cX4_words 197 = .ok (.lastore, 1) := dk_80 (dk_at dksX4_words_8 12 rfl rfl)
theorem dX4_words_198 : decode cX4_words 198 = .ok (.aload_n 0, 1) := dk_42 (dk_at dksX4_words_8 13 rfl rfl)
theorem dX4_words_199 : decode cX4_words 199 = .ok (.getfield 36, 3) := dk_180 0 36 (dk_at dksX4_words_8 14 rfl rfl)
theorem dX4_words_202 : decode cX4_words 202 = .ok (.bipush 11, 2) := dk_16 11 (dk_at dksX4_words_8 17 rfl rfl)
theorem dX4_words_204 : decode cX4_words 204 = .ok (.aload_n 0, 1) := dk_42 (dk_at dksX4_words_8 19 rfl rfl)
theorem dX4_words_205 : decode cX4_words 205 = .ok (.getfield 39, 3) := dk_180 0 39 (dk_at dksX4_words_8 20 rfl rfl)
theorem dX4_words_208 : decode cX4_words 208 = .ok (.bipush 10, 2) := dk_16 10 (dk_at dksX4_words_9 0 rfl rfl)
theorem dX4_words_210 : decode cX4_words 210 = .ok (.iaload, 1) := dk_46 (dk_at dksX4_words_9 2 rfl rfl)
theorem dX4_words_211 : decode cX4_words 211 = .ok (.i2l, 1) := dk_133 (dk_at dksX4_words_9 3 rfl rfl)
theorem dX4_words_212 : decode cX4_words 212 = .ok (.lastore, 1) := dk_80 (dk_at dksX4_words_9 4 rfl rfl)
theorem dX4_words_213 : decode cX4_words 213 = .ok (.return_, 1) := dk_177 (dk_at dksX4_words_9 5 rfl rfl)
abbrev cX4_closed : ByteArray := prog_19_method_55_code
def yX4_closed : MethodName := ⟨RX4, "closed", "()I"⟩
def dkwX4_closed_1 : List UInt8 := [28, 120, 167, 0, 4, 3, 128, 60, 132, 2, 1, 167, 255, 225, 27, 172]
abbrev dktX4_closed_1 : List UInt8 := dkwX4_closed_1 ++ []
def dkwX4_closed_0 : List UInt8 := [3, 60, 3, 61, 28, 42, 180, 0, 39, 5, 46, 162, 0, 27, 27, 42, 28, 182, 1, 51, 153, 0, 9, 4]
abbrev dktX4_closed_0 : List UInt8 := dkwX4_closed_0 ++ dktX4_closed_1
theorem dksX4_closed_0 : cX4_closed.data.toList.drop 0 = dktX4_closed_0 := by decide +kernel
theorem dksX4_closed_1 : cX4_closed.data.toList.drop 24 = dktX4_closed_1 := dk_seg dksX4_closed_0 24 rfl rfl
theorem dX4_closed_0 : decode cX4_closed 0 = .ok (.iconst 0, 1) := dk_3 (dk_at dksX4_closed_0 0 rfl rfl)
theorem dX4_closed_1 : decode cX4_closed 1 = .ok (.istore_n 1, 1) := dk_60 (dk_at dksX4_closed_0 1 rfl rfl)
theorem dX4_closed_2 : decode cX4_closed 2 = .ok (.iconst 0, 1) := dk_3 (dk_at dksX4_closed_0 2 rfl rfl)
theorem dX4_closed_3 : decode cX4_closed 3 = .ok (.istore_n 2, 1) := dk_61 (dk_at dksX4_closed_0 3 rfl rfl)
theorem dX4_closed_4 : decode cX4_closed 4 = .ok (.iload_n 2, 1) := dk_28 (dk_at dksX4_closed_0 4 rfl rfl)
theorem dX4_closed_5 : decode cX4_closed 5 = .ok (.aload_n 0, 1) := dk_42 (dk_at dksX4_closed_0 5 rfl rfl)
theorem dX4_closed_6 : decode cX4_closed 6 = .ok (.getfield 39, 3) := dk_180 0 39 (dk_at dksX4_closed_0 6 rfl rfl)
theorem dX4_closed_9 : decode cX4_closed 9 = .ok (.iconst 2, 1) := dk_5 (dk_at dksX4_closed_0 9 rfl rfl)
theorem dX4_closed_10 : decode cX4_closed 10 = .ok (.iaload, 1) := dk_46 (dk_at dksX4_closed_0 10 rfl rfl)
theorem dX4_closed_11 : decode cX4_closed 11 = .ok (.if_icmp .ge 27, 3) := dk_162 0 27 (dk_at dksX4_closed_0 11 rfl rfl)
theorem dX4_closed_14 : decode cX4_closed 14 = .ok (.iload_n 1, 1) := dk_27 (dk_at dksX4_closed_0 14 rfl rfl)
theorem dX4_closed_15 : decode cX4_closed 15 = .ok (.aload_n 0, 1) := dk_42 (dk_at dksX4_closed_0 15 rfl rfl)
theorem dX4_closed_16 : decode cX4_closed 16 = .ok (.iload_n 2, 1) := dk_28 (dk_at dksX4_closed_0 16 rfl rfl)
theorem dX4_closed_17 : decode cX4_closed 17 = .ok (.invokevirtual 307, 3) := dk_182 1 51 (dk_at dksX4_closed_0 17 rfl rfl)
theorem dX4_closed_20 : decode cX4_closed 20 = .ok (.ifCond .eq 9, 3) := dk_153 0 9 (dk_at dksX4_closed_0 20 rfl rfl)
theorem dX4_closed_23 : decode cX4_closed 23 = .ok (.iconst 1, 1) := dk_4 (dk_at dksX4_closed_0 23 rfl rfl)
theorem dX4_closed_24 : decode cX4_closed 24 = .ok (.iload_n 2, 1) := dk_28 (dk_at dksX4_closed_1 0 rfl rfl)
theorem dX4_closed_25 : decode cX4_closed 25 = .ok (.ishl, 1) := dk_120 (dk_at dksX4_closed_1 1 rfl rfl)
theorem dX4_closed_26 : decode cX4_closed 26 = .ok (.goto 4, 3) := dk_167 0 4 (dk_at dksX4_closed_1 2 rfl rfl)
theorem dX4_closed_29 : decode cX4_closed 29 = .ok (.iconst 0, 1) := dk_3 (dk_at dksX4_closed_1 5 rfl rfl)
theorem dX4_closed_30 : decode cX4_closed 30 = .ok (.ior, 1) := dk_128 (dk_at dksX4_closed_1 6 rfl rfl)
theorem dX4_closed_31 : decode cX4_closed 31 = .ok (.istore_n 1, 1) := dk_60 (dk_at dksX4_closed_1 7 rfl rfl)
theorem dX4_closed_32 : decode cX4_closed 32 = .ok (.iinc 2 1, 3) := dk_132 2 1 (dk_at dksX4_closed_1 8 rfl rfl)
theorem dX4_closed_35 : decode cX4_closed 35 = .ok (.goto (-31), 3) := dk_167 255 225 (dk_at dksX4_closed_1 11 rfl rfl)
theorem dX4_closed_38 : decode cX4_closed 38 = .ok (.iload_n 1, 1) := dk_27 (dk_at dksX4_closed_1 14 rfl rfl)
theorem dX4_closed_39 : decode cX4_closed 39 = .ok (.ireturn, 1) := dk_172 (dk_at dksX4_closed_1 15 rfl rfl)
abbrev cX4_bits : ByteArray := prog_19_method_4_code
def yX4_bits : MethodName := ⟨RX4, "bits", "(I)I"⟩
def dkwX4_bits_0 : List UInt8 := [3, 60, 26, 61, 28, 153, 0, 15, 132, 1, 1, 28, 28, 4, 100, 126, 61, 167, 255, 243, 27, 172]
abbrev dktX4_bits_0 : List UInt8 := dkwX4_bits_0 ++ []
theorem dksX4_bits_0 : cX4_bits.data.toList.drop 0 = dktX4_bits_0 := by decide +kernel
theorem dX4_bits_0 : decode cX4_bits 0 = .ok (.iconst 0, 1) := dk_3 (dk_at dksX4_bits_0 0 rfl rfl)
theorem dX4_bits_1 : decode cX4_bits 1 = .ok (.istore_n 1, 1) := dk_60 (dk_at dksX4_bits_0 1 rfl rfl)
theorem dX4_bits_2 : decode cX4_bits 2 = .ok (.iload_n 0, 1) := dk_26 (dk_at dksX4_bits_0 2 rfl rfl)
theorem dX4_bits_3 : decode cX4_bits 3 = .ok (.istore_n 2, 1) := dk_61 (dk_at dksX4_bits_0 3 rfl rfl)
theorem dX4_bits_4 : decode cX4_bits 4 = .ok (.iload_n 2, 1) := dk_28 (dk_at dksX4_bits_0 4 rfl rfl)
theorem dX4_bits_5 : decode cX4_bits 5 = .ok (.ifCond .eq 15, 3) := dk_153 0 15 (dk_at dksX4_bits_0 5 rfl rfl)
theorem dX4_bits_8 : decode cX4_bits 8 = .ok (.iinc 1 1, 3) := dk_132 1 1 (dk_at dksX4_bits_0 8 rfl rfl)
theorem dX4_bits_11 : decode cX4_bits 11 = .ok (.iload_n 2, 1) := dk_28 (dk_at dksX4_bits_0 11 rfl rfl)
theorem dX4_bits_12 : decode cX4_bits 12 = .ok (.iload_n 2, 1) := dk_28 (dk_at dksX4_bits_0 12 rfl rfl)
theorem dX4_bits_13 : decode cX4_bits 13 = .ok (.iconst 1, 1) := dk_4 (dk_at dksX4_bits_0 13 rfl rfl)
theorem dX4_bits_14 : decode cX4_bits 14 = .ok (.isub, 1) := dk_100 (dk_at dksX4_bits_0 14 rfl rfl)
theorem dX4_bits_15 : decode cX4_bits 15 = .ok (.iand, 1) := dk_126 (dk_at dksX4_bits_0 15 rfl rfl)
theorem dX4_bits_16 : decode cX4_bits 16 = .ok (.istore_n 2, 1) := dk_61 (dk_at dksX4_bits_0 16 rfl rfl)
theorem dX4_bits_17 : decode cX4_bits 17 = .ok (.goto (-13), 3) := dk_167 255 243 (dk_at dksX4_bits_0 17 rfl rfl)
theorem dX4_bits_20 : decode cX4_bits 20 = .ok (.iload_n 1, 1) := dk_27 (dk_at dksX4_bits_0 20 rfl rfl)
theorem dX4_bits_21 : decode cX4_bits 21 = .ok (.ireturn, 1) := dk_172 (dk_at dksX4_bits_0 21 rfl rfl)
abbrev cX4_nextNeed : ByteArray := prog_19_method_66_code
def yX4_nextNeed : MethodName := ⟨RX4, "nextNeed", "(I)I"⟩
def dkwX4_nextNeed_2 : List UInt8 := [172]
abbrev dktX4_nextNeed_2 : List UInt8 := dkwX4_nextNeed_2 ++ []
def dkwX4_nextNeed_1 : List UInt8 := [184, 1, 60, 153, 0, 13, 28, 42, 180, 0, 39, 16, 10, 46, 100, 172, 132, 2, 1, 167, 255, 221, 16, 99]
abbrev dktX4_nextNeed_1 : List UInt8 := dkwX4_nextNeed_1 ++ dktX4_nextNeed_2
def dkwX4_nextNeed_0 : List UInt8 := [42, 180, 0, 39, 16, 10, 46, 61, 28, 16, 30, 163, 0, 35, 42, 180, 0, 39, 16, 62, 28, 96, 46, 27]
abbrev dktX4_nextNeed_0 : List UInt8 := dkwX4_nextNeed_0 ++ dktX4_nextNeed_1
theorem dksX4_nextNeed_0 : cX4_nextNeed.data.toList.drop 0 = dktX4_nextNeed_0 := by decide +kernel
theorem dksX4_nextNeed_1 : cX4_nextNeed.data.toList.drop 24 = dktX4_nextNeed_1 := dk_seg dksX4_nextNeed_0 24 rfl rfl
theorem dksX4_nextNeed_2 : cX4_nextNeed.data.toList.drop 48 = dktX4_nextNeed_2 := dk_seg dksX4_nextNeed_1 24 rfl rfl
theorem dX4_nextNeed_0 : decode cX4_nextNeed 0 = .ok (.aload_n 0, 1) := dk_42 (dk_at dksX4_nextNeed_0 0 rfl rfl)
theorem dX4_nextNeed_1 : decode cX4_nextNeed 1 = .ok (.getfield 39, 3) := dk_180 0 39 (dk_at dksX4_nextNeed_0 1 rfl rfl)
theorem dX4_nextNeed_4 : decode cX4_nextNeed 4 = .ok (.bipush 10, 2) := dk_16 10 (dk_at dksX4_nextNeed_0 4 rfl rfl)
theorem dX4_nextNeed_6 : decode cX4_nextNeed 6 = .ok (.iaload, 1) := dk_46 (dk_at dksX4_nextNeed_0 6 rfl rfl)
theorem dX4_nextNeed_7 : decode cX4_nextNeed 7 = .ok (.istore_n 2, 1) := dk_61 (dk_at dksX4_nextNeed_0 7 rfl rfl)
theorem dX4_nextNeed_8 : decode cX4_nextNeed 8 = .ok (.iload_n 2, 1) := dk_28 (dk_at dksX4_nextNeed_0 8 rfl rfl)
theorem dX4_nextNeed_9 : decode cX4_nextNeed 9 = .ok (.bipush 30, 2) := dk_16 30 (dk_at dksX4_nextNeed_0 9 rfl rfl)
theorem dX4_nextNeed_11 : decode cX4_nextNeed 11 = .ok (.if_icmp .gt 35, 3) := dk_163 0 35 (dk_at dksX4_nextNeed_0 11 rfl rfl)
theorem dX4_nextNeed_14 : decode cX4_nextNeed 14 = .ok (.aload_n 0, 1) := dk_42 (dk_at dksX4_nextNeed_0 14 rfl rfl)
theorem dX4_nextNeed_15 : decode cX4_nextNeed 15 = .ok (.getfield 39, 3) := dk_180 0 39 (dk_at dksX4_nextNeed_0 15 rfl rfl)
theorem dX4_nextNeed_18 : decode cX4_nextNeed 18 = .ok (.bipush 62, 2) := dk_16 62 (dk_at dksX4_nextNeed_0 18 rfl rfl)
theorem dX4_nextNeed_20 : decode cX4_nextNeed 20 = .ok (.iload_n 2, 1) := dk_28 (dk_at dksX4_nextNeed_0 20 rfl rfl)
theorem dX4_nextNeed_21 : decode cX4_nextNeed 21 = .ok (.iadd, 1) := dk_96 (dk_at dksX4_nextNeed_0 21 rfl rfl)
theorem dX4_nextNeed_22 : decode cX4_nextNeed 22 = .ok (.iaload, 1) := dk_46 (dk_at dksX4_nextNeed_0 22 rfl rfl)
theorem dX4_nextNeed_23 : decode cX4_nextNeed 23 = .ok (.iload_n 1, 1) := dk_27 (dk_at dksX4_nextNeed_0 23 rfl rfl)
theorem dX4_nextNeed_24 : decode cX4_nextNeed 24 = .ok (.invokestatic 316, 3) := dk_184 1 60 (dk_at dksX4_nextNeed_1 0 rfl rfl)
theorem dX4_nextNeed_27 : decode cX4_nextNeed 27 = .ok (.ifCond .eq 13, 3) := dk_153 0 13 (dk_at dksX4_nextNeed_1 3 rfl rfl)
theorem dX4_nextNeed_30 : decode cX4_nextNeed 30 = .ok (.iload_n 2, 1) := dk_28 (dk_at dksX4_nextNeed_1 6 rfl rfl)
theorem dX4_nextNeed_31 : decode cX4_nextNeed 31 = .ok (.aload_n 0, 1) := dk_42 (dk_at dksX4_nextNeed_1 7 rfl rfl)
theorem dX4_nextNeed_32 : decode cX4_nextNeed 32 = .ok (.getfield 39, 3) := dk_180 0 39 (dk_at dksX4_nextNeed_1 8 rfl rfl)
theorem dX4_nextNeed_35 : decode cX4_nextNeed 35 = .ok (.bipush 10, 2) := dk_16 10 (dk_at dksX4_nextNeed_1 11 rfl rfl)
theorem dX4_nextNeed_37 : decode cX4_nextNeed 37 = .ok (.iaload, 1) := dk_46 (dk_at dksX4_nextNeed_1 13 rfl rfl)
theorem dX4_nextNeed_38 : decode cX4_nextNeed 38 = .ok (.isub, 1) := dk_100 (dk_at dksX4_nextNeed_1 14 rfl rfl)
theorem dX4_nextNeed_39 : decode cX4_nextNeed 39 = .ok (.ireturn, 1) := dk_172 (dk_at dksX4_nextNeed_1 15 rfl rfl)
theorem dX4_nextNeed_40 : decode cX4_nextNeed 40 = .ok (.iinc 2 1, 3) := dk_132 2 1 (dk_at dksX4_nextNeed_1 16 rfl rfl)
theorem dX4_nextNeed_43 : decode cX4_nextNeed 43 = .ok (.goto (-35), 3) := dk_167 255 221 (dk_at dksX4_nextNeed_1 19 rfl rfl)
theorem dX4_nextNeed_46 : decode cX4_nextNeed 46 = .ok (.bipush 99, 2) := dk_16 99 (dk_at dksX4_nextNeed_1 22 rfl rfl)
theorem dX4_nextNeed_48 : decode cX4_nextNeed 48 = .ok (.ireturn, 1) := dk_172 (dk_at dksX4_nextNeed_2 0 rfl rfl)
abbrev cX4_summedBy : ByteArray := prog_19_method_65_code
def yX4_summedBy : MethodName := ⟨RX4, "summedBy", "(I)J"⟩
def dkwX4_summedBy_3 : List UInt8 := [29, 4, 96, 46, 182, 1, 80, 173, 132, 2, 1, 167, 255, 177, 9, 173]
abbrev dktX4_summedBy_3 : List UInt8 := dkwX4_summedBy_3 ++ []
def dkwX4_summedBy_2 : List UInt8 := [29, 6, 96, 46, 182, 1, 80, 10, 148, 154, 0, 23, 42, 27, 42, 180, 0, 20, 29, 46, 42, 180, 0, 20]
abbrev dktX4_summedBy_2 : List UInt8 := dkwX4_summedBy_2 ++ dktX4_summedBy_3
def dkwX4_summedBy_1 : List UInt8 := [180, 0, 20, 29, 5, 96, 46, 155, 0, 29, 42, 27, 42, 180, 0, 20, 29, 5, 96, 46, 42, 180, 0, 20]
abbrev dktX4_summedBy_1 : List UInt8 := dkwX4_summedBy_1 ++ dktX4_summedBy_2
def dkwX4_summedBy_0 : List UInt8 := [3, 61, 28, 42, 180, 0, 23, 27, 46, 162, 0, 75, 16, 48, 27, 104, 7, 28, 104, 96, 62, 42]
abbrev dktX4_summedBy_0 : List UInt8 := dkwX4_summedBy_0 ++ dktX4_summedBy_1
theorem dksX4_summedBy_0 : cX4_summedBy.data.toList.drop 0 = dktX4_summedBy_0 := by decide +kernel
theorem dksX4_summedBy_1 : cX4_summedBy.data.toList.drop 22 = dktX4_summedBy_1 := dk_seg dksX4_summedBy_0 22 rfl rfl
theorem dksX4_summedBy_2 : cX4_summedBy.data.toList.drop 46 = dktX4_summedBy_2 := dk_seg dksX4_summedBy_1 24 rfl rfl
theorem dksX4_summedBy_3 : cX4_summedBy.data.toList.drop 70 = dktX4_summedBy_3 := dk_seg dksX4_summedBy_2 24 rfl rfl
theorem dX4_summedBy_0 : decode cX4_summedBy 0 = .ok (.iconst 0, 1) := dk_3 (dk_at dksX4_summedBy_0 0 rfl rfl)
theorem dX4_summedBy_1 : decode cX4_summedBy 1 = .ok (.istore_n 2, 1) := dk_61 (dk_at dksX4_summedBy_0 1 rfl rfl)
theorem dX4_summedBy_2 : decode cX4_summedBy 2 = .ok (.iload_n 2, 1) := dk_28 (dk_at dksX4_summedBy_0 2 rfl rfl)
theorem dX4_summedBy_3 : decode cX4_summedBy 3 = .ok (.aload_n 0, 1) := dk_42 (dk_at dksX4_summedBy_0 3 rfl rfl)
theorem dX4_summedBy_4 : decode cX4_summedBy 4 = .ok (.getfield 23, 3) := dk_180 0 23 (dk_at dksX4_summedBy_0 4 rfl rfl)
theorem dX4_summedBy_7 : decode cX4_summedBy 7 = .ok (.iload_n 1, 1) := dk_27 (dk_at dksX4_summedBy_0 7 rfl rfl)
theorem dX4_summedBy_8 : decode cX4_summedBy 8 = .ok (.iaload, 1) := dk_46 (dk_at dksX4_summedBy_0 8 rfl rfl)
theorem dX4_summedBy_9 : decode cX4_summedBy 9 = .ok (.if_icmp .ge 75, 3) := dk_162 0 75 (dk_at dksX4_summedBy_0 9 rfl rfl)
theorem dX4_summedBy_12 : decode cX4_summedBy 12 = .ok (.bipush 48, 2) := dk_16 48 (dk_at dksX4_summedBy_0 12 rfl rfl)
theorem dX4_summedBy_14 : decode cX4_summedBy 14 = .ok (.iload_n 1, 1) := dk_27 (dk_at dksX4_summedBy_0 14 rfl rfl)
theorem dX4_summedBy_15 : decode cX4_summedBy 15 = .ok (.imul, 1) := dk_104 (dk_at dksX4_summedBy_0 15 rfl rfl)
theorem dX4_summedBy_16 : decode cX4_summedBy 16 = .ok (.iconst 4, 1) := dk_7 (dk_at dksX4_summedBy_0 16 rfl rfl)
theorem dX4_summedBy_17 : decode cX4_summedBy 17 = .ok (.iload_n 2, 1) := dk_28 (dk_at dksX4_summedBy_0 17 rfl rfl)
theorem dX4_summedBy_18 : decode cX4_summedBy 18 = .ok (.imul, 1) := dk_104 (dk_at dksX4_summedBy_0 18 rfl rfl)
theorem dX4_summedBy_19 : decode cX4_summedBy 19 = .ok (.iadd, 1) := dk_96 (dk_at dksX4_summedBy_0 19 rfl rfl)
theorem dX4_summedBy_20 : decode cX4_summedBy 20 = .ok (.istore_n 3, 1) := dk_62 (dk_at dksX4_summedBy_0 20 rfl rfl)
theorem dX4_summedBy_21 : decode cX4_summedBy 21 = .ok (.aload_n 0, 1) := dk_42 (dk_at dksX4_summedBy_0 21 rfl rfl)
theorem dX4_summedBy_22 : decode cX4_summedBy 22 = .ok (.getfield 20, 3) := dk_180 0 20 (dk_at dksX4_summedBy_1 0 rfl rfl)
theorem dX4_summedBy_25 : decode cX4_summedBy 25 = .ok (.iload_n 3, 1) := dk_29 (dk_at dksX4_summedBy_1 3 rfl rfl)
theorem dX4_summedBy_26 : decode cX4_summedBy 26 = .ok (.iconst 2, 1) := dk_5 (dk_at dksX4_summedBy_1 4 rfl rfl)
theorem dX4_summedBy_27 : decode cX4_summedBy 27 = .ok (.iadd, 1) := dk_96 (dk_at dksX4_summedBy_1 5 rfl rfl)
theorem dX4_summedBy_28 : decode cX4_summedBy 28 = .ok (.iaload, 1) := dk_46 (dk_at dksX4_summedBy_1 6 rfl rfl)
theorem dX4_summedBy_29 : decode cX4_summedBy 29 = .ok (.ifCond .lt 29, 3) := dk_155 0 29 (dk_at dksX4_summedBy_1 7 rfl rfl)
theorem dX4_summedBy_32 : decode cX4_summedBy 32 = .ok (.aload_n 0, 1) := dk_42 (dk_at dksX4_summedBy_1 10 rfl rfl)
theorem dX4_summedBy_33 : decode cX4_summedBy 33 = .ok (.iload_n 1, 1) := dk_27 (dk_at dksX4_summedBy_1 11 rfl rfl)
theorem dX4_summedBy_34 : decode cX4_summedBy 34 = .ok (.aload_n 0, 1) := dk_42 (dk_at dksX4_summedBy_1 12 rfl rfl)
theorem dX4_summedBy_35 : decode cX4_summedBy 35 = .ok (.getfield 20, 3) := dk_180 0 20 (dk_at dksX4_summedBy_1 13 rfl rfl)
theorem dX4_summedBy_38 : decode cX4_summedBy 38 = .ok (.iload_n 3, 1) := dk_29 (dk_at dksX4_summedBy_1 16 rfl rfl)
theorem dX4_summedBy_39 : decode cX4_summedBy 39 = .ok (.iconst 2, 1) := dk_5 (dk_at dksX4_summedBy_1 17 rfl rfl)
theorem dX4_summedBy_40 : decode cX4_summedBy 40 = .ok (.iadd, 1) := dk_96 (dk_at dksX4_summedBy_1 18 rfl rfl)
theorem dX4_summedBy_41 : decode cX4_summedBy 41 = .ok (.iaload, 1) := dk_46 (dk_at dksX4_summedBy_1 19 rfl rfl)
theorem dX4_summedBy_42 : decode cX4_summedBy 42 = .ok (.aload_n 0, 1) := dk_42 (dk_at dksX4_summedBy_1 20 rfl rfl)
theorem dX4_summedBy_43 : decode cX4_summedBy 43 = .ok (.getfield 20, 3) := dk_180 0 20 (dk_at dksX4_summedBy_1 21 rfl rfl)
theorem dX4_summedBy_46 : decode cX4_summedBy 46 = .ok (.iload_n 3, 1) := dk_29 (dk_at dksX4_summedBy_2 0 rfl rfl)
theorem dX4_summedBy_47 : decode cX4_summedBy 47 = .ok (.iconst 3, 1) := dk_6 (dk_at dksX4_summedBy_2 1 rfl rfl)
theorem dX4_summedBy_48 : decode cX4_summedBy 48 = .ok (.iadd, 1) := dk_96 (dk_at dksX4_summedBy_2 2 rfl rfl)
theorem dX4_summedBy_49 : decode cX4_summedBy 49 = .ok (.iaload, 1) := dk_46 (dk_at dksX4_summedBy_2 3 rfl rfl)
theorem dX4_summedBy_50 : decode cX4_summedBy 50 = .ok (.invokevirtual 336, 3) := dk_182 1 80 (dk_at dksX4_summedBy_2 4 rfl rfl)
theorem dX4_summedBy_53 : decode cX4_summedBy 53 = .ok (.lconst 1, 1) := dk_10 (dk_at dksX4_summedBy_2 7 rfl rfl)
theorem dX4_summedBy_54 : decode cX4_summedBy 54 = .ok (.lcmp, 1) := dk_148 (dk_at dksX4_summedBy_2 8 rfl rfl)
theorem dX4_summedBy_55 : decode cX4_summedBy 55 = .ok (.ifCond .ne 23, 3) := dk_154 0 23 (dk_at dksX4_summedBy_2 9 rfl rfl)
theorem dX4_summedBy_58 : decode cX4_summedBy 58 = .ok (.aload_n 0, 1) := dk_42 (dk_at dksX4_summedBy_2 12 rfl rfl)
theorem dX4_summedBy_59 : decode cX4_summedBy 59 = .ok (.iload_n 1, 1) := dk_27 (dk_at dksX4_summedBy_2 13 rfl rfl)
theorem dX4_summedBy_60 : decode cX4_summedBy 60 = .ok (.aload_n 0, 1) := dk_42 (dk_at dksX4_summedBy_2 14 rfl rfl)
theorem dX4_summedBy_61 : decode cX4_summedBy 61 = .ok (.getfield 20, 3) := dk_180 0 20 (dk_at dksX4_summedBy_2 15 rfl rfl)
theorem dX4_summedBy_64 : decode cX4_summedBy 64 = .ok (.iload_n 3, 1) := dk_29 (dk_at dksX4_summedBy_2 18 rfl rfl)
theorem dX4_summedBy_65 : decode cX4_summedBy 65 = .ok (.iaload, 1) := dk_46 (dk_at dksX4_summedBy_2 19 rfl rfl)
theorem dX4_summedBy_66 : decode cX4_summedBy 66 = .ok (.aload_n 0, 1) := dk_42 (dk_at dksX4_summedBy_2 20 rfl rfl)
theorem dX4_summedBy_67 : decode cX4_summedBy 67 = .ok (.getfield 20, 3) := dk_180 0 20 (dk_at dksX4_summedBy_2 21 rfl rfl)
theorem dX4_summedBy_70 : decode cX4_summedBy 70 = .ok (.iload_n 3, 1) := dk_29 (dk_at dksX4_summedBy_3 0 rfl rfl)
theorem dX4_summedBy_71 : decode cX4_summedBy 71 = .ok (.iconst 1, 1) := dk_4 (dk_at dksX4_summedBy_3 1 rfl rfl)
theorem dX4_summedBy_72 : decode cX4_summedBy 72 = .ok (.iadd, 1) := dk_96 (dk_at dksX4_summedBy_3 2 rfl rfl)
theorem dX4_summedBy_73 : decode cX4_summedBy 73 = .ok (.iaload, 1) := dk_46 (dk_at dksX4_summedBy_3 3 rfl rfl)
theorem dX4_summedBy_74 : decode cX4_summedBy 74 = .ok (.invokevirtual 336, 3) := dk_182 1 80 (dk_at dksX4_summedBy_3 4 rfl rfl)
theorem dX4_summedBy_77 : decode cX4_summedBy 77 = .ok (.lreturn, 1) := dk_173 (dk_at dksX4_summedBy_3 7 rfl rfl)
theorem dX4_summedBy_78 : decode cX4_summedBy 78 = .ok (.iinc 2 1, 3) := dk_132 2 1 (dk_at dksX4_summedBy_3 8 rfl rfl)
theorem dX4_summedBy_81 : decode cX4_summedBy 81 = .ok (.goto (-79), 3) := dk_167 255 177 (dk_at dksX4_summedBy_3 11 rfl rfl)
theorem dX4_summedBy_84 : decode cX4_summedBy 84 = .ok (.lconst 0, 1) := dk_9 (dk_at dksX4_summedBy_3 14 rfl rfl)
theorem dX4_summedBy_85 : decode cX4_summedBy 85 = .ok (.lreturn, 1) := dk_173 (dk_at dksX4_summedBy_3 15 rfl rfl)
abbrev cX4_reckons : ByteArray := prog_19_method_50_code
def yX4_reckons : MethodName := ⟨RX4, "reckons", "(III)J"⟩
def dkwX4_reckons_5 : List UInt8 := [21, 5, 22, 9, 22, 7, 184, 1, 47, 182, 1, 39, 132, 4, 1, 167, 255, 132, 42, 182, 1, 43, 173]
abbrev dktX4_reckons_5 : List UInt8 := dkwX4_reckons_5 ++ []
def dkwX4_reckons_4 : List UInt8 := [182, 1, 43, 101, 182, 1, 39, 167, 0, 28, 42, 182, 1, 43, 55, 7, 42, 182, 1, 43, 55, 9, 42]
abbrev dktX4_reckons_4 : List UInt8 := dkwX4_reckons_4 ++ dktX4_reckons_5
def dkwX4_reckons_3 : List UInt8 := [42, 180, 0, 36, 21, 6, 47, 182, 1, 39, 167, 0, 48, 21, 5, 16, 11, 160, 0, 16, 42, 10, 42]
abbrev dktX4_reckons_3 : List UInt8 := dkwX4_reckons_3 ++ dktX4_reckons_4
def dkwX4_reckons_2 : List UInt8 := [54, 6, 21, 5, 154, 0, 13, 42, 21, 6, 133, 182, 1, 39, 167, 0, 68, 21, 5, 4, 160, 0, 17, 42]
abbrev dktX4_reckons_2 : List UInt8 := dkwX4_reckons_2 ++ dktX4_reckons_3
def dkwX4_reckons_1 : List UInt8 := [21, 4, 96, 46, 16, 15, 126, 54, 5, 42, 180, 0, 13, 17, 1, 144, 27, 104, 21, 4, 96, 46, 7, 122]
abbrev dktX4_reckons_1 : List UInt8 := dkwX4_reckons_1 ++ dktX4_reckons_2
def dkwX4_reckons_0 : List UInt8 := [42, 3, 181, 1, 36, 28, 54, 4, 21, 4, 29, 162, 0, 124, 42, 180, 0, 13, 17, 1, 144, 27, 104]
abbrev dktX4_reckons_0 : List UInt8 := dkwX4_reckons_0 ++ dktX4_reckons_1
theorem dksX4_reckons_0 : cX4_reckons.data.toList.drop 0 = dktX4_reckons_0 := by decide +kernel
theorem dksX4_reckons_1 : cX4_reckons.data.toList.drop 23 = dktX4_reckons_1 := dk_seg dksX4_reckons_0 23 rfl rfl
theorem dksX4_reckons_2 : cX4_reckons.data.toList.drop 47 = dktX4_reckons_2 := dk_seg dksX4_reckons_1 24 rfl rfl
theorem dksX4_reckons_3 : cX4_reckons.data.toList.drop 71 = dktX4_reckons_3 := dk_seg dksX4_reckons_2 24 rfl rfl
theorem dksX4_reckons_4 : cX4_reckons.data.toList.drop 94 = dktX4_reckons_4 := dk_seg dksX4_reckons_3 23 rfl rfl
theorem dksX4_reckons_5 : cX4_reckons.data.toList.drop 117 = dktX4_reckons_5 := dk_seg dksX4_reckons_4 23 rfl rfl
theorem dX4_reckons_0 : decode cX4_reckons 0 = .ok (.aload_n 0, 1) := dk_42 (dk_at dksX4_reckons_0 0 rfl rfl)
theorem dX4_reckons_1 : decode cX4_reckons 1 = .ok (.iconst 0, 1) := dk_3 (dk_at dksX4_reckons_0 1 rfl rfl)
theorem dX4_reckons_2 : decode cX4_reckons 2 = .ok (.putfield 292, 3) := dk_181 1 36 (dk_at dksX4_reckons_0 2 rfl rfl)
theorem dX4_reckons_5 : decode cX4_reckons 5 = .ok (.iload_n 2, 1) := dk_28 (dk_at dksX4_reckons_0 5 rfl rfl)
theorem dX4_reckons_6 : decode cX4_reckons 6 = .ok (.istore 4, 2) := dk_54 4 (dk_at dksX4_reckons_0 6 rfl rfl)
theorem dX4_reckons_8 : decode cX4_reckons 8 = .ok (.iload 4, 2) := dk_21 4 (dk_at dksX4_reckons_0 8 rfl rfl)
theorem dX4_reckons_10 : decode cX4_reckons 10 = .ok (.iload_n 3, 1) := dk_29 (dk_at dksX4_reckons_0 10 rfl rfl)
theorem dX4_reckons_11 : decode cX4_reckons 11 = .ok (.if_icmp .ge 124, 3) := dk_162 0 124 (dk_at dksX4_reckons_0 11 rfl rfl)
theorem dX4_reckons_14 : decode cX4_reckons 14 = .ok (.aload_n 0, 1) := dk_42 (dk_at dksX4_reckons_0 14 rfl rfl)
theorem dX4_reckons_15 : decode cX4_reckons 15 = .ok (.getfield 13, 3) := dk_180 0 13 (dk_at dksX4_reckons_0 15 rfl rfl)
theorem dX4_reckons_18 : decode cX4_reckons 18 = .ok (.sipush 400, 3) := dk_17 1 144 (dk_at dksX4_reckons_0 18 rfl rfl)
theorem dX4_reckons_21 : decode cX4_reckons 21 = .ok (.iload_n 1, 1) := dk_27 (dk_at dksX4_reckons_0 21 rfl rfl)
theorem dX4_reckons_22 : decode cX4_reckons 22 = .ok (.imul, 1) := dk_104 (dk_at dksX4_reckons_0 22 rfl rfl)
theorem dX4_reckons_23 : decode cX4_reckons 23 = .ok (.iload 4, 2) := dk_21 4 (dk_at dksX4_reckons_1 0 rfl rfl)
theorem dX4_reckons_25 : decode cX4_reckons 25 = .ok (.iadd, 1) := dk_96 (dk_at dksX4_reckons_1 2 rfl rfl)
theorem dX4_reckons_26 : decode cX4_reckons 26 = .ok (.iaload, 1) := dk_46 (dk_at dksX4_reckons_1 3 rfl rfl)
theorem dX4_reckons_27 : decode cX4_reckons 27 = .ok (.bipush 15, 2) := dk_16 15 (dk_at dksX4_reckons_1 4 rfl rfl)
theorem dX4_reckons_29 : decode cX4_reckons 29 = .ok (.iand, 1) := dk_126 (dk_at dksX4_reckons_1 6 rfl rfl)
theorem dX4_reckons_30 : decode cX4_reckons 30 = .ok (.istore 5, 2) := dk_54 5 (dk_at dksX4_reckons_1 7 rfl rfl)
theorem dX4_reckons_32 : decode cX4_reckons 32 = .ok (.aload_n 0, 1) := dk_42 (dk_at dksX4_reckons_1 9 rfl rfl)
theorem dX4_reckons_33 : decode cX4_reckons 33 = .ok (.getfield 13, 3) := dk_180 0 13 (dk_at dksX4_reckons_1 10 rfl rfl)
theorem dX4_reckons_36 : decode cX4_reckons 36 = .ok (.sipush 400, 3) := dk_17 1 144 (dk_at dksX4_reckons_1 13 rfl rfl)
theorem dX4_reckons_39 : decode cX4_reckons 39 = .ok (.iload_n 1, 1) := dk_27 (dk_at dksX4_reckons_1 16 rfl rfl)
theorem dX4_reckons_40 : decode cX4_reckons 40 = .ok (.imul, 1) := dk_104 (dk_at dksX4_reckons_1 17 rfl rfl)
theorem dX4_reckons_41 : decode cX4_reckons 41 = .ok (.iload 4, 2) := dk_21 4 (dk_at dksX4_reckons_1 18 rfl rfl)
theorem dX4_reckons_43 : decode cX4_reckons 43 = .ok (.iadd, 1) := dk_96 (dk_at dksX4_reckons_1 20 rfl rfl)
theorem dX4_reckons_44 : decode cX4_reckons 44 = .ok (.iaload, 1) := dk_46 (dk_at dksX4_reckons_1 21 rfl rfl)
theorem dX4_reckons_45 : decode cX4_reckons 45 = .ok (.iconst 4, 1) := dk_7 (dk_at dksX4_reckons_1 22 rfl rfl)
theorem dX4_reckons_46 : decode cX4_reckons 46 = .ok (.ishr, 1) := dk_122 (dk_at dksX4_reckons_1 23 rfl rfl)
theorem dX4_reckons_47 : decode cX4_reckons 47 = .ok (.istore 6, 2) := dk_54 6 (dk_at dksX4_reckons_2 0 rfl rfl)
theorem dX4_reckons_49 : decode cX4_reckons 49 = .ok (.iload 5, 2) := dk_21 5 (dk_at dksX4_reckons_2 2 rfl rfl)
theorem dX4_reckons_51 : decode cX4_reckons 51 = .ok (.ifCond .ne 13, 3) := dk_154 0 13 (dk_at dksX4_reckons_2 4 rfl rfl)
theorem dX4_reckons_54 : decode cX4_reckons 54 = .ok (.aload_n 0, 1) := dk_42 (dk_at dksX4_reckons_2 7 rfl rfl)
theorem dX4_reckons_55 : decode cX4_reckons 55 = .ok (.iload 6, 2) := dk_21 6 (dk_at dksX4_reckons_2 8 rfl rfl)
theorem dX4_reckons_57 : decode cX4_reckons 57 = .ok (.i2l, 1) := dk_133 (dk_at dksX4_reckons_2 10 rfl rfl)
theorem dX4_reckons_58 : decode cX4_reckons 58 = .ok (.invokevirtual 295, 3) := dk_182 1 39 (dk_at dksX4_reckons_2 11 rfl rfl)
theorem dX4_reckons_61 : decode cX4_reckons 61 = .ok (.goto 68, 3) := dk_167 0 68 (dk_at dksX4_reckons_2 14 rfl rfl)
theorem dX4_reckons_64 : decode cX4_reckons 64 = .ok (.iload 5, 2) := dk_21 5 (dk_at dksX4_reckons_2 17 rfl rfl)
theorem dX4_reckons_66 : decode cX4_reckons 66 = .ok (.iconst 1, 1) := dk_4 (dk_at dksX4_reckons_2 19 rfl rfl)
theorem dX4_reckons_67 : decode cX4_reckons 67 = .ok (.if_icmp .ne 17, 3) := dk_160 0 17 (dk_at dksX4_reckons_2 20 rfl rfl)
theorem dX4_reckons_70 : decode cX4_reckons 70 = .ok (.aload_n 0, 1) := dk_42 (dk_at dksX4_reckons_2 23 rfl rfl)
theorem dX4_reckons_71 : decode cX4_reckons 71 = .ok (.aload_n 0, 1) := dk_42 (dk_at dksX4_reckons_3 0 rfl rfl)
theorem dX4_reckons_72 : decode cX4_reckons 72 = .ok (.getfield 36, 3) := dk_180 0 36 (dk_at dksX4_reckons_3 1 rfl rfl)
theorem dX4_reckons_75 : decode cX4_reckons 75 = .ok (.iload 6, 2) := dk_21 6 (dk_at dksX4_reckons_3 4 rfl rfl)
theorem dX4_reckons_77 : decode cX4_reckons 77 = .ok (.laload, 1) := dk_47 (dk_at dksX4_reckons_3 6 rfl rfl)
theorem dX4_reckons_78 : decode cX4_reckons 78 = .ok (.invokevirtual 295, 3) := dk_182 1 39 (dk_at dksX4_reckons_3 7 rfl rfl)
theorem dX4_reckons_81 : decode cX4_reckons 81 = .ok (.goto 48, 3) := dk_167 0 48 (dk_at dksX4_reckons_3 10 rfl rfl)
theorem dX4_reckons_84 : decode cX4_reckons 84 = .ok (.iload 5, 2) := dk_21 5 (dk_at dksX4_reckons_3 13 rfl rfl)
theorem dX4_reckons_86 : decode cX4_reckons 86 = .ok (.bipush 11, 2) := dk_16 11 (dk_at dksX4_reckons_3 15 rfl rfl)
theorem dX4_reckons_88 : decode cX4_reckons 88 = .ok (.if_icmp .ne 16, 3) := dk_160 0 16 (dk_at dksX4_reckons_3 17 rfl rfl)
theorem dX4_reckons_91 : decode cX4_reckons 91 = .ok (.aload_n 0, 1) := dk_42 (dk_at dksX4_reckons_3 20 rfl rfl)
theorem dX4_reckons_92 : decode cX4_reckons 92 = .ok (.lconst 1, 1) := dk_10 (dk_at dksX4_reckons_3 21 rfl rfl)
theorem dX4_reckons_93 : decode cX4_reckons 93 = .ok (.aload_n 0, 1) := dk_42 (dk_at dksX4_reckons_3 22 rfl rfl)
theorem dX4_reckons_94 : decode cX4_reckons 94 = .ok (.invokevirtual 299, 3) := dk_182 1 43 (dk_at dksX4_reckons_4 0 rfl rfl)
theorem dX4_reckons_97 : decode cX4_reckons 97 = .ok (.lsub, 1) := dk_101 (dk_at dksX4_reckons_4 3 rfl rfl)
theorem dX4_reckons_98 : decode cX4_reckons 98 = .ok (.invokevirtual 295, 3) := dk_182 1 39 (dk_at dksX4_reckons_4 4 rfl rfl)
theorem dX4_reckons_101 : decode cX4_reckons 101 = .ok (.goto 28, 3) := dk_167 0 28 (dk_at dksX4_reckons_4 7 rfl rfl)
theorem dX4_reckons_104 : decode cX4_reckons 104 = .ok (.aload_n 0, 1) := dk_42 (dk_at dksX4_reckons_4 10 rfl rfl)
theorem dX4_reckons_105 : decode cX4_reckons 105 = .ok (.invokevirtual 299, 3) := dk_182 1 43 (dk_at dksX4_reckons_4 11 rfl rfl)
theorem dX4_reckons_108 : decode cX4_reckons 108 = .ok (.lstore 7, 2) := dk_55 7 (dk_at dksX4_reckons_4 14 rfl rfl)
theorem dX4_reckons_110 : decode cX4_reckons 110 = .ok (.aload_n 0, 1) := dk_42 (dk_at dksX4_reckons_4 16 rfl rfl)
theorem dX4_reckons_111 : decode cX4_reckons 111 = .ok (.invokevirtual 299, 3) := dk_182 1 43 (dk_at dksX4_reckons_4 17 rfl rfl)
theorem dX4_reckons_114 : decode cX4_reckons 114 = .ok (.lstore 9, 2) := dk_55 9 (dk_at dksX4_reckons_4 20 rfl rfl)
theorem dX4_reckons_116 : decode cX4_reckons 116 = .ok (.aload_n 0, 1) := dk_42 (dk_at dksX4_reckons_4 22 rfl rfl)
theorem dX4_reckons_117 : decode cX4_reckons 117 = .ok (.iload 5, 2) := dk_21 5 (dk_at dksX4_reckons_5 0 rfl rfl)
theorem dX4_reckons_119 : decode cX4_reckons 119 = .ok (.lload 9, 2) := dk_22 9 (dk_at dksX4_reckons_5 2 rfl rfl)
theorem dX4_reckons_121 : decode cX4_reckons 121 = .ok (.lload 7, 2) := dk_22 7 (dk_at dksX4_reckons_5 4 rfl rfl)
theorem dX4_reckons_123 : decode cX4_reckons 123 = .ok (.invokestatic 303, 3) := dk_184 1 47 (dk_at dksX4_reckons_5 6 rfl rfl)
theorem dX4_reckons_126 : decode cX4_reckons 126 = .ok (.invokevirtual 295, 3) := dk_182 1 39 (dk_at dksX4_reckons_5 9 rfl rfl)
theorem dX4_reckons_129 : decode cX4_reckons 129 = .ok (.iinc 4 1, 3) := dk_132 4 1 (dk_at dksX4_reckons_5 12 rfl rfl)
theorem dX4_reckons_132 : decode cX4_reckons 132 = .ok (.goto (-124), 3) := dk_167 255 132 (dk_at dksX4_reckons_5 15 rfl rfl)
theorem dX4_reckons_135 : decode cX4_reckons 135 = .ok (.aload_n 0, 1) := dk_42 (dk_at dksX4_reckons_5 18 rfl rfl)
theorem dX4_reckons_136 : decode cX4_reckons 136 = .ok (.invokevirtual 299, 3) := dk_182 1 43 (dk_at dksX4_reckons_5 19 rfl rfl)
theorem dX4_reckons_139 : decode cX4_reckons 139 = .ok (.lreturn, 1) := dk_173 (dk_at dksX4_reckons_5 22 rfl rfl)
abbrev cX4_push : ByteArray := prog_19_method_47_code
def yX4_push : MethodName := ⟨RX4, "push", "(J)V"⟩
def dkwX4_push_0 : List UInt8 := [42, 180, 0, 32, 42, 180, 1, 36, 31, 80, 42, 89, 180, 1, 36, 4, 96, 181, 1, 36, 177]
abbrev dktX4_push_0 : List UInt8 := dkwX4_push_0 ++ []
theorem dksX4_push_0 : cX4_push.data.toList.drop 0 = dktX4_push_0 := by decide +kernel
theorem dX4_push_0 : decode cX4_push 0 = .ok (.aload_n 0, 1) := dk_42 (dk_at dksX4_push_0 0 rfl rfl)
theorem dX4_push_1 : decode cX4_push 1 = .ok (.getfield 32, 3) := dk_180 0 32 (dk_at dksX4_push_0 1 rfl rfl)
theorem dX4_push_4 : decode cX4_push 4 = .ok (.aload_n 0, 1) := dk_42 (dk_at dksX4_push_0 4 rfl rfl)
theorem dX4_push_5 : decode cX4_push 5 = .ok (.getfield 292, 3) := dk_180 1 36 (dk_at dksX4_push_0 5 rfl rfl)
theorem dX4_push_8 : decode cX4_push 8 = .ok (.lload_n 1, 1) := dk_31 (dk_at dksX4_push_0 8 rfl rfl)
theorem dX4_push_9 : decode cX4_push 9 = .ok (.lastore, 1) := dk_80 (dk_at dksX4_push_0 9 rfl rfl)
theorem dX4_push_10 : decode cX4_push 10 = .ok (.aload_n 0, 1) := dk_42 (dk_at dksX4_push_0 10 rfl rfl)
theorem dX4_push_11 : decode cX4_push 11 = .ok (.dup, 1) := dk_89 (dk_at dksX4_push_0 11 rfl rfl)
theorem dX4_push_12 : decode cX4_push 12 = .ok (.getfield 292, 3) := dk_180 1 36 (dk_at dksX4_push_0 12 rfl rfl)
theorem dX4_push_15 : decode cX4_push 15 = .ok (.iconst 1, 1) := dk_4 (dk_at dksX4_push_0 15 rfl rfl)
theorem dX4_push_16 : decode cX4_push 16 = .ok (.iadd, 1) := dk_96 (dk_at dksX4_push_0 16 rfl rfl)
theorem dX4_push_17 : decode cX4_push 17 = .ok (.putfield 292, 3) := dk_181 1 36 (dk_at dksX4_push_0 17 rfl rfl)
theorem dX4_push_20 : decode cX4_push 20 = .ok (.return_, 1) := dk_177 (dk_at dksX4_push_0 20 rfl rfl)
abbrev cX4_pop : ByteArray := prog_19_method_48_code
def yX4_pop : MethodName := ⟨RX4, "pop", "()J"⟩
def dkwX4_pop_0 : List UInt8 := [42, 89, 180, 1, 36, 4, 100, 181, 1, 36, 42, 180, 0, 32, 42, 180, 1, 36, 47, 173]
abbrev dktX4_pop_0 : List UInt8 := dkwX4_pop_0 ++ []
theorem dksX4_pop_0 : cX4_pop.data.toList.drop 0 = dktX4_pop_0 := by decide +kernel
theorem dX4_pop_0 : decode cX4_pop 0 = .ok (.aload_n 0, 1) := dk_42 (dk_at dksX4_pop_0 0 rfl rfl)
theorem dX4_pop_1 : decode cX4_pop 1 = .ok (.dup, 1) := dk_89 (dk_at dksX4_pop_0 1 rfl rfl)
theorem dX4_pop_2 : decode cX4_pop 2 = .ok (.getfield 292, 3) := dk_180 1 36 (dk_at dksX4_pop_0 2 rfl rfl)
theorem dX4_pop_5 : decode cX4_pop 5 = .ok (.iconst 1, 1) := dk_4 (dk_at dksX4_pop_0 5 rfl rfl)
theorem dX4_pop_6 : decode cX4_pop 6 = .ok (.isub, 1) := dk_100 (dk_at dksX4_pop_0 6 rfl rfl)
theorem dX4_pop_7 : decode cX4_pop 7 = .ok (.putfield 292, 3) := dk_181 1 36 (dk_at dksX4_pop_0 7 rfl rfl)
theorem dX4_pop_10 : decode cX4_pop 10 = .ok (.aload_n 0, 1) := dk_42 (dk_at dksX4_pop_0 10 rfl rfl)
theorem dX4_pop_11 : decode cX4_pop 11 = .ok (.getfield 32, 3) := dk_180 0 32 (dk_at dksX4_pop_0 11 rfl rfl)
theorem dX4_pop_14 : decode cX4_pop 14 = .ok (.aload_n 0, 1) := dk_42 (dk_at dksX4_pop_0 14 rfl rfl)
theorem dX4_pop_15 : decode cX4_pop 15 = .ok (.getfield 292, 3) := dk_180 1 36 (dk_at dksX4_pop_0 15 rfl rfl)
theorem dX4_pop_18 : decode cX4_pop 18 = .ok (.laload, 1) := dk_47 (dk_at dksX4_pop_0 18 rfl rfl)
theorem dX4_pop_19 : decode cX4_pop 19 = .ok (.lreturn, 1) := dk_173 (dk_at dksX4_pop_0 19 rfl rfl)
abbrev cX4_one : ByteArray := prog_19_method_49_code
def yX4_one : MethodName := ⟨RX4, "one", "(IJJ)J"⟩
def dkwX4_one_6 : List UInt8 := [167, 0, 4, 9, 173, 31, 33, 127, 173, 31, 33, 129, 173]
abbrev dktX4_one_6 : List UInt8 := dkwX4_one_6 ++ []
def dkwX4_one_5 : List UInt8 := [167, 0, 4, 9, 173, 31, 33, 148, 155, 0, 7, 10, 167, 0, 4, 9, 173, 31, 33, 148, 158, 0, 7, 10]
abbrev dktX4_one_5 : List UInt8 := dkwX4_one_5 ++ dktX4_one_6
def dkwX4_one_4 : List UInt8 := [167, 0, 4, 9, 173, 31, 33, 148, 157, 0, 7, 10, 167, 0, 4, 9, 173, 31, 33, 148, 154, 0, 7, 10]
abbrev dktX4_one_4 : List UInt8 := dkwX4_one_4 ++ dktX4_one_5
def dkwX4_one_3 : List UInt8 := [109, 173, 33, 9, 148, 154, 0, 7, 9, 167, 0, 6, 31, 33, 113, 173, 31, 33, 148, 156, 0, 7, 10]
abbrev dktX4_one_3 : List UInt8 := dkwX4_one_3 ++ dktX4_one_4
def dkwX4_one_2 : List UInt8 := [31, 33, 97, 173, 31, 33, 101, 173, 31, 33, 105, 173, 33, 9, 148, 154, 0, 7, 9, 167, 0, 6, 31, 33]
abbrev dktX4_one_2 : List UInt8 := dkwX4_one_2 ++ dktX4_one_3
def dkwX4_one_1 : List UInt8 := [170, 0, 0, 0, 0, 0, 171, 0, 0, 0, 2, 0, 0, 0, 14, 0, 0, 0, 67, 0, 0, 0, 71, 0, 0, 0, 75, 0, 0, 0, 79, 0, 0, 0, 107, 0, 0, 0, 119, 0, 0, 0, 131, 0, 0, 0, 143, 0, 0, 0, 155, 0, 0, 0, 171, 0, 0, 0, 167, 0, 0, 0, 171, 0, 0, 0, 93]
abbrev dktX4_one_1 : List UInt8 := dkwX4_one_1 ++ dktX4_one_2
def dkwX4_one_0 : List UInt8 := [26]
abbrev dktX4_one_0 : List UInt8 := dkwX4_one_0 ++ dktX4_one_1
theorem dksX4_one_0 : cX4_one.data.toList.drop 0 = dktX4_one_0 := by decide +kernel
theorem dksX4_one_1 : cX4_one.data.toList.drop 1 = dktX4_one_1 := dk_seg dksX4_one_0 1 rfl rfl
theorem dksX4_one_2 : cX4_one.data.toList.drop 68 = dktX4_one_2 := dk_seg dksX4_one_1 67 rfl rfl
theorem dksX4_one_3 : cX4_one.data.toList.drop 92 = dktX4_one_3 := dk_seg dksX4_one_2 24 rfl rfl
theorem dksX4_one_4 : cX4_one.data.toList.drop 115 = dktX4_one_4 := dk_seg dksX4_one_3 23 rfl rfl
theorem dksX4_one_5 : cX4_one.data.toList.drop 139 = dktX4_one_5 := dk_seg dksX4_one_4 24 rfl rfl
theorem dksX4_one_6 : cX4_one.data.toList.drop 163 = dktX4_one_6 := dk_seg dksX4_one_5 24 rfl rfl
theorem dX4_one_0 : decode cX4_one 0 = .ok (.iload_n 0, 1) := dk_26 (dk_at dksX4_one_0 0 rfl rfl)
theorem dX4_one_1 : decode cX4_one 1 = .ok (.tableswitch 171 2 14 #[67, 71, 75, 79, 107, 119, 131, 143, 155, 171, 167, 171, 93], 67) := by decide +kernel
theorem dX4_one_68 : decode cX4_one 68 = .ok (.lload_n 1, 1) := dk_31 (dk_at dksX4_one_2 0 rfl rfl)
theorem dX4_one_69 : decode cX4_one 69 = .ok (.lload_n 3, 1) := dk_33 (dk_at dksX4_one_2 1 rfl rfl)
theorem dX4_one_70 : decode cX4_one 70 = .ok (.ladd, 1) := dk_97 (dk_at dksX4_one_2 2 rfl rfl)
theorem dX4_one_71 : decode cX4_one 71 = .ok (.lreturn, 1) := dk_173 (dk_at dksX4_one_2 3 rfl rfl)
theorem dX4_one_72 : decode cX4_one 72 = .ok (.lload_n 1, 1) := dk_31 (dk_at dksX4_one_2 4 rfl rfl)
theorem dX4_one_73 : decode cX4_one 73 = .ok (.lload_n 3, 1) := dk_33 (dk_at dksX4_one_2 5 rfl rfl)
theorem dX4_one_74 : decode cX4_one 74 = .ok (.lsub, 1) := dk_101 (dk_at dksX4_one_2 6 rfl rfl)
theorem dX4_one_75 : decode cX4_one 75 = .ok (.lreturn, 1) := dk_173 (dk_at dksX4_one_2 7 rfl rfl)
theorem dX4_one_76 : decode cX4_one 76 = .ok (.lload_n 1, 1) := dk_31 (dk_at dksX4_one_2 8 rfl rfl)
theorem dX4_one_77 : decode cX4_one 77 = .ok (.lload_n 3, 1) := dk_33 (dk_at dksX4_one_2 9 rfl rfl)
theorem dX4_one_78 : decode cX4_one 78 = .ok (.lmul, 1) := dk_105 (dk_at dksX4_one_2 10 rfl rfl)
theorem dX4_one_79 : decode cX4_one 79 = .ok (.lreturn, 1) := dk_173 (dk_at dksX4_one_2 11 rfl rfl)
theorem dX4_one_80 : decode cX4_one 80 = .ok (.lload_n 3, 1) := dk_33 (dk_at dksX4_one_2 12 rfl rfl)
theorem dX4_one_81 : decode cX4_one 81 = .ok (.lconst 0, 1) := dk_9 (dk_at dksX4_one_2 13 rfl rfl)
theorem dX4_one_82 : decode cX4_one 82 = .ok (.lcmp, 1) := dk_148 (dk_at dksX4_one_2 14 rfl rfl)
theorem dX4_one_83 : decode cX4_one 83 = .ok (.ifCond .ne 7, 3) := dk_154 0 7 (dk_at dksX4_one_2 15 rfl rfl)
theorem dX4_one_86 : decode cX4_one 86 = .ok (.lconst 0, 1) := dk_9 (dk_at dksX4_one_2 18 rfl rfl)
theorem dX4_one_87 : decode cX4_one 87 = .ok (.goto 6, 3) := dk_167 0 6 (dk_at dksX4_one_2 19 rfl rfl)
theorem dX4_one_90 : decode cX4_one 90 = .ok (.lload_n 1, 1) := dk_31 (dk_at dksX4_one_2 22 rfl rfl)
theorem dX4_one_91 : decode cX4_one 91 = .ok (.lload_n 3, 1) := dk_33 (dk_at dksX4_one_2 23 rfl rfl)
theorem dX4_one_92 : decode cX4_one 92 = .ok (.ldiv, 1) := dk_109 (dk_at dksX4_one_3 0 rfl rfl)
theorem dX4_one_93 : decode cX4_one 93 = .ok (.lreturn, 1) := dk_173 (dk_at dksX4_one_3 1 rfl rfl)
theorem dX4_one_94 : decode cX4_one 94 = .ok (.lload_n 3, 1) := dk_33 (dk_at dksX4_one_3 2 rfl rfl)
theorem dX4_one_95 : decode cX4_one 95 = .ok (.lconst 0, 1) := dk_9 (dk_at dksX4_one_3 3 rfl rfl)
theorem dX4_one_96 : decode cX4_one 96 = .ok (.lcmp, 1) := dk_148 (dk_at dksX4_one_3 4 rfl rfl)
theorem dX4_one_97 : decode cX4_one 97 = .ok (.ifCond .ne 7, 3) := dk_154 0 7 (dk_at dksX4_one_3 5 rfl rfl)
theorem dX4_one_100 : decode cX4_one 100 = .ok (.lconst 0, 1) := dk_9 (dk_at dksX4_one_3 8 rfl rfl)
theorem dX4_one_101 : decode cX4_one 101 = .ok (.goto 6, 3) := dk_167 0 6 (dk_at dksX4_one_3 9 rfl rfl)
theorem dX4_one_104 : decode cX4_one 104 = .ok (.lload_n 1, 1) := dk_31 (dk_at dksX4_one_3 12 rfl rfl)
theorem dX4_one_105 : decode cX4_one 105 = .ok (.lload_n 3, 1) := dk_33 (dk_at dksX4_one_3 13 rfl rfl)
theorem dX4_one_106 : decode cX4_one 106 = .ok (.lrem, 1) := dk_113 (dk_at dksX4_one_3 14 rfl rfl)
theorem dX4_one_107 : decode cX4_one 107 = .ok (.lreturn, 1) := dk_173 (dk_at dksX4_one_3 15 rfl rfl)
theorem dX4_one_108 : decode cX4_one 108 = .ok (.lload_n 1, 1) := dk_31 (dk_at dksX4_one_3 16 rfl rfl)
theorem dX4_one_109 : decode cX4_one 109 = .ok (.lload_n 3, 1) := dk_33 (dk_at dksX4_one_3 17 rfl rfl)
theorem dX4_one_110 : decode cX4_one 110 = .ok (.lcmp, 1) := dk_148 (dk_at dksX4_one_3 18 rfl rfl)
theorem dX4_one_111 : decode cX4_one 111 = .ok (.ifCond .ge 7, 3) := dk_156 0 7 (dk_at dksX4_one_3 19 rfl rfl)
theorem dX4_one_114 : decode cX4_one 114 = .ok (.lconst 1, 1) := dk_10 (dk_at dksX4_one_3 22 rfl rfl)
theorem dX4_one_115 : decode cX4_one 115 = .ok (.goto 4, 3) := dk_167 0 4 (dk_at dksX4_one_4 0 rfl rfl)
theorem dX4_one_118 : decode cX4_one 118 = .ok (.lconst 0, 1) := dk_9 (dk_at dksX4_one_4 3 rfl rfl)
theorem dX4_one_119 : decode cX4_one 119 = .ok (.lreturn, 1) := dk_173 (dk_at dksX4_one_4 4 rfl rfl)
theorem dX4_one_120 : decode cX4_one 120 = .ok (.lload_n 1, 1) := dk_31 (dk_at dksX4_one_4 5 rfl rfl)
theorem dX4_one_121 : decode cX4_one 121 = .ok (.lload_n 3, 1) := dk_33 (dk_at dksX4_one_4 6 rfl rfl)
theorem dX4_one_122 : decode cX4_one 122 = .ok (.lcmp, 1) := dk_148 (dk_at dksX4_one_4 7 rfl rfl)
theorem dX4_one_123 : decode cX4_one 123 = .ok (.ifCond .gt 7, 3) := dk_157 0 7 (dk_at dksX4_one_4 8 rfl rfl)
theorem dX4_one_126 : decode cX4_one 126 = .ok (.lconst 1, 1) := dk_10 (dk_at dksX4_one_4 11 rfl rfl)
theorem dX4_one_127 : decode cX4_one 127 = .ok (.goto 4, 3) := dk_167 0 4 (dk_at dksX4_one_4 12 rfl rfl)
theorem dX4_one_130 : decode cX4_one 130 = .ok (.lconst 0, 1) := dk_9 (dk_at dksX4_one_4 15 rfl rfl)
theorem dX4_one_131 : decode cX4_one 131 = .ok (.lreturn, 1) := dk_173 (dk_at dksX4_one_4 16 rfl rfl)
theorem dX4_one_132 : decode cX4_one 132 = .ok (.lload_n 1, 1) := dk_31 (dk_at dksX4_one_4 17 rfl rfl)
theorem dX4_one_133 : decode cX4_one 133 = .ok (.lload_n 3, 1) := dk_33 (dk_at dksX4_one_4 18 rfl rfl)
theorem dX4_one_134 : decode cX4_one 134 = .ok (.lcmp, 1) := dk_148 (dk_at dksX4_one_4 19 rfl rfl)
theorem dX4_one_135 : decode cX4_one 135 = .ok (.ifCond .ne 7, 3) := dk_154 0 7 (dk_at dksX4_one_4 20 rfl rfl)
theorem dX4_one_138 : decode cX4_one 138 = .ok (.lconst 1, 1) := dk_10 (dk_at dksX4_one_4 23 rfl rfl)
theorem dX4_one_139 : decode cX4_one 139 = .ok (.goto 4, 3) := dk_167 0 4 (dk_at dksX4_one_5 0 rfl rfl)
theorem dX4_one_142 : decode cX4_one 142 = .ok (.lconst 0, 1) := dk_9 (dk_at dksX4_one_5 3 rfl rfl)
theorem dX4_one_143 : decode cX4_one 143 = .ok (.lreturn, 1) := dk_173 (dk_at dksX4_one_5 4 rfl rfl)
theorem dX4_one_144 : decode cX4_one 144 = .ok (.lload_n 1, 1) := dk_31 (dk_at dksX4_one_5 5 rfl rfl)
theorem dX4_one_145 : decode cX4_one 145 = .ok (.lload_n 3, 1) := dk_33 (dk_at dksX4_one_5 6 rfl rfl)
theorem dX4_one_146 : decode cX4_one 146 = .ok (.lcmp, 1) := dk_148 (dk_at dksX4_one_5 7 rfl rfl)
theorem dX4_one_147 : decode cX4_one 147 = .ok (.ifCond .lt 7, 3) := dk_155 0 7 (dk_at dksX4_one_5 8 rfl rfl)
theorem dX4_one_150 : decode cX4_one 150 = .ok (.lconst 1, 1) := dk_10 (dk_at dksX4_one_5 11 rfl rfl)
theorem dX4_one_151 : decode cX4_one 151 = .ok (.goto 4, 3) := dk_167 0 4 (dk_at dksX4_one_5 12 rfl rfl)
theorem dX4_one_154 : decode cX4_one 154 = .ok (.lconst 0, 1) := dk_9 (dk_at dksX4_one_5 15 rfl rfl)
theorem dX4_one_155 : decode cX4_one 155 = .ok (.lreturn, 1) := dk_173 (dk_at dksX4_one_5 16 rfl rfl)
theorem dX4_one_156 : decode cX4_one 156 = .ok (.lload_n 1, 1) := dk_31 (dk_at dksX4_one_5 17 rfl rfl)
theorem dX4_one_157 : decode cX4_one 157 = .ok (.lload_n 3, 1) := dk_33 (dk_at dksX4_one_5 18 rfl rfl)
theorem dX4_one_158 : decode cX4_one 158 = .ok (.lcmp, 1) := dk_148 (dk_at dksX4_one_5 19 rfl rfl)
theorem dX4_one_159 : decode cX4_one 159 = .ok (.ifCond .le 7, 3) := dk_158 0 7 (dk_at dksX4_one_5 20 rfl rfl)
theorem dX4_one_162 : decode cX4_one 162 = .ok (.lconst 1, 1) := dk_10 (dk_at dksX4_one_5 23 rfl rfl)
theorem dX4_one_163 : decode cX4_one 163 = .ok (.goto 4, 3) := dk_167 0 4 (dk_at dksX4_one_6 0 rfl rfl)
theorem dX4_one_166 : decode cX4_one 166 = .ok (.lconst 0, 1) := dk_9 (dk_at dksX4_one_6 3 rfl rfl)
theorem dX4_one_167 : decode cX4_one 167 = .ok (.lreturn, 1) := dk_173 (dk_at dksX4_one_6 4 rfl rfl)
theorem dX4_one_168 : decode cX4_one 168 = .ok (.lload_n 1, 1) := dk_31 (dk_at dksX4_one_6 5 rfl rfl)
theorem dX4_one_169 : decode cX4_one 169 = .ok (.lload_n 3, 1) := dk_33 (dk_at dksX4_one_6 6 rfl rfl)
theorem dX4_one_170 : decode cX4_one 170 = .ok (.land, 1) := dk_127 (dk_at dksX4_one_6 7 rfl rfl)
theorem dX4_one_171 : decode cX4_one 171 = .ok (.lreturn, 1) := dk_173 (dk_at dksX4_one_6 8 rfl rfl)
theorem dX4_one_172 : decode cX4_one 172 = .ok (.lload_n 1, 1) := dk_31 (dk_at dksX4_one_6 9 rfl rfl)
theorem dX4_one_173 : decode cX4_one 173 = .ok (.lload_n 3, 1) := dk_33 (dk_at dksX4_one_6 10 rfl rfl)
theorem dX4_one_174 : decode cX4_one 174 = .ok (.lor, 1) := dk_129 (dk_at dksX4_one_6 11 rfl rfl)
theorem dX4_one_175 : decode cX4_one 175 = .ok (.lreturn, 1) := dk_173 (dk_at dksX4_one_6 12 rfl rfl)
abbrev cX4_takes : ByteArray := prog_19_method_64_code
def yX4_takes : MethodName := ⟨RX4, "takes", "(II)I"⟩
def dkwX4_takes_5 : List UInt8 := [29, 172]
abbrev dktX4_takes_5 : List UInt8 := dkwX4_takes_5 ++ []
def dkwX4_takes_4 : List UInt8 := [180, 0, 39, 16, 14, 21, 4, 96, 42, 180, 0, 39, 16, 14, 21, 4, 96, 46, 29, 96, 184, 1, 77, 79]
abbrev dktX4_takes_4 : List UInt8 := dkwX4_takes_4 ++ dktX4_takes_5
def dkwX4_takes_3 : List UInt8 := [46, 4, 28, 120, 128, 79, 21, 4, 155, 0, 39, 42, 180, 0, 46, 21, 4, 92, 46, 29, 96, 79, 42]
abbrev dktX4_takes_3 : List UInt8 := dkwX4_takes_3 ++ dktX4_takes_4
def dkwX4_takes_2 : List UInt8 := [42, 180, 0, 39, 16, 14, 28, 96, 92, 46, 29, 100, 79, 29, 158, 0, 16, 42, 180, 0, 39, 16, 11, 92]
abbrev dktX4_takes_2 : List UInt8 := dkwX4_takes_2 ++ dktX4_takes_3
def dkwX4_takes_1 : List UInt8 := [167, 0, 12, 42, 180, 0, 39, 16, 14, 28, 96, 46, 62, 42, 180, 0, 39, 16, 22, 28, 96, 46, 54, 4]
abbrev dktX4_takes_1 : List UInt8 := dkwX4_takes_1 ++ dktX4_takes_2
def dkwX4_takes_0 : List UInt8 := [42, 27, 182, 1, 74, 42, 180, 0, 39, 16, 14, 28, 96, 46, 162, 0, 11, 42, 27, 182, 1, 74]
abbrev dktX4_takes_0 : List UInt8 := dkwX4_takes_0 ++ dktX4_takes_1
theorem dksX4_takes_0 : cX4_takes.data.toList.drop 0 = dktX4_takes_0 := by decide +kernel
theorem dksX4_takes_1 : cX4_takes.data.toList.drop 22 = dktX4_takes_1 := dk_seg dksX4_takes_0 22 rfl rfl
theorem dksX4_takes_2 : cX4_takes.data.toList.drop 46 = dktX4_takes_2 := dk_seg dksX4_takes_1 24 rfl rfl
theorem dksX4_takes_3 : cX4_takes.data.toList.drop 70 = dktX4_takes_3 := dk_seg dksX4_takes_2 24 rfl rfl
theorem dksX4_takes_4 : cX4_takes.data.toList.drop 93 = dktX4_takes_4 := dk_seg dksX4_takes_3 23 rfl rfl
theorem dksX4_takes_5 : cX4_takes.data.toList.drop 117 = dktX4_takes_5 := dk_seg dksX4_takes_4 24 rfl rfl
theorem dX4_takes_0 : decode cX4_takes 0 = .ok (.aload_n 0, 1) := dk_42 (dk_at dksX4_takes_0 0 rfl rfl)
theorem dX4_takes_1 : decode cX4_takes 1 = .ok (.iload_n 1, 1) := dk_27 (dk_at dksX4_takes_0 1 rfl rfl)
theorem dX4_takes_2 : decode cX4_takes 2 = .ok (.invokevirtual 330, 3) := dk_182 1 74 (dk_at dksX4_takes_0 2 rfl rfl)
theorem dX4_takes_5 : decode cX4_takes 5 = .ok (.aload_n 0, 1) := dk_42 (dk_at dksX4_takes_0 5 rfl rfl)
theorem dX4_takes_6 : decode cX4_takes 6 = .ok (.getfield 39, 3) := dk_180 0 39 (dk_at dksX4_takes_0 6 rfl rfl)
theorem dX4_takes_9 : decode cX4_takes 9 = .ok (.bipush 14, 2) := dk_16 14 (dk_at dksX4_takes_0 9 rfl rfl)
theorem dX4_takes_11 : decode cX4_takes 11 = .ok (.iload_n 2, 1) := dk_28 (dk_at dksX4_takes_0 11 rfl rfl)
theorem dX4_takes_12 : decode cX4_takes 12 = .ok (.iadd, 1) := dk_96 (dk_at dksX4_takes_0 12 rfl rfl)
theorem dX4_takes_13 : decode cX4_takes 13 = .ok (.iaload, 1) := dk_46 (dk_at dksX4_takes_0 13 rfl rfl)
theorem dX4_takes_14 : decode cX4_takes 14 = .ok (.if_icmp .ge 11, 3) := dk_162 0 11 (dk_at dksX4_takes_0 14 rfl rfl)
theorem dX4_takes_17 : decode cX4_takes 17 = .ok (.aload_n 0, 1) := dk_42 (dk_at dksX4_takes_0 17 rfl rfl)
theorem dX4_takes_18 : decode cX4_takes 18 = .ok (.iload_n 1, 1) := dk_27 (dk_at dksX4_takes_0 18 rfl rfl)
theorem dX4_takes_19 : decode cX4_takes 19 = .ok (.invokevirtual 330, 3) := dk_182 1 74 (dk_at dksX4_takes_0 19 rfl rfl)
theorem dX4_takes_22 : decode cX4_takes 22 = .ok (.goto 12, 3) := dk_167 0 12 (dk_at dksX4_takes_1 0 rfl rfl)
theorem dX4_takes_25 : decode cX4_takes 25 = .ok (.aload_n 0, 1) := dk_42 (dk_at dksX4_takes_1 3 rfl rfl)
theorem dX4_takes_26 : decode cX4_takes 26 = .ok (.getfield 39, 3) := dk_180 0 39 (dk_at dksX4_takes_1 4 rfl rfl)
theorem dX4_takes_29 : decode cX4_takes 29 = .ok (.bipush 14, 2) := dk_16 14 (dk_at dksX4_takes_1 7 rfl rfl)
theorem dX4_takes_31 : decode cX4_takes 31 = .ok (.iload_n 2, 1) := dk_28 (dk_at dksX4_takes_1 9 rfl rfl)
theorem dX4_takes_32 : decode cX4_takes 32 = .ok (.iadd, 1) := dk_96 (dk_at dksX4_takes_1 10 rfl rfl)
theorem dX4_takes_33 : decode cX4_takes 33 = .ok (.iaload, 1) := dk_46 (dk_at dksX4_takes_1 11 rfl rfl)
theorem dX4_takes_34 : decode cX4_takes 34 = .ok (.istore_n 3, 1) := dk_62 (dk_at dksX4_takes_1 12 rfl rfl)
theorem dX4_takes_35 : decode cX4_takes 35 = .ok (.aload_n 0, 1) := dk_42 (dk_at dksX4_takes_1 13 rfl rfl)
theorem dX4_takes_36 : decode cX4_takes 36 = .ok (.getfield 39, 3) := dk_180 0 39 (dk_at dksX4_takes_1 14 rfl rfl)
theorem dX4_takes_39 : decode cX4_takes 39 = .ok (.bipush 22, 2) := dk_16 22 (dk_at dksX4_takes_1 17 rfl rfl)
theorem dX4_takes_41 : decode cX4_takes 41 = .ok (.iload_n 2, 1) := dk_28 (dk_at dksX4_takes_1 19 rfl rfl)
theorem dX4_takes_42 : decode cX4_takes 42 = .ok (.iadd, 1) := dk_96 (dk_at dksX4_takes_1 20 rfl rfl)
theorem dX4_takes_43 : decode cX4_takes 43 = .ok (.iaload, 1) := dk_46 (dk_at dksX4_takes_1 21 rfl rfl)
theorem dX4_takes_44 : decode cX4_takes 44 = .ok (.istore 4, 2) := dk_54 4 (dk_at dksX4_takes_1 22 rfl rfl)
theorem dX4_takes_46 : decode cX4_takes 46 = .ok (.aload_n 0, 1) := dk_42 (dk_at dksX4_takes_2 0 rfl rfl)
theorem dX4_takes_47 : decode cX4_takes 47 = .ok (.getfield 39, 3) := dk_180 0 39 (dk_at dksX4_takes_2 1 rfl rfl)
theorem dX4_takes_50 : decode cX4_takes 50 = .ok (.bipush 14, 2) := dk_16 14 (dk_at dksX4_takes_2 4 rfl rfl)
theorem dX4_takes_52 : decode cX4_takes 52 = .ok (.iload_n 2, 1) := dk_28 (dk_at dksX4_takes_2 6 rfl rfl)
theorem dX4_takes_53 : decode cX4_takes 53 = .ok (.iadd, 1) := dk_96 (dk_at dksX4_takes_2 7 rfl rfl)
theorem dX4_takes_54 : decode cX4_takes 54 = .ok (.dup2, 1) := dk_92 (dk_at dksX4_takes_2 8 rfl rfl)
theorem dX4_takes_55 : decode cX4_takes 55 = .ok (.iaload, 1) := dk_46 (dk_at dksX4_takes_2 9 rfl rfl)
theorem dX4_takes_56 : decode cX4_takes 56 = .ok (.iload_n 3, 1) := dk_29 (dk_at dksX4_takes_2 10 rfl rfl)
theorem dX4_takes_57 : decode cX4_takes 57 = .ok (.isub, 1) := dk_100 (dk_at dksX4_takes_2 11 rfl rfl)
theorem dX4_takes_58 : decode cX4_takes 58 = .ok (.iastore, 1) := dk_79 (dk_at dksX4_takes_2 12 rfl rfl)
theorem dX4_takes_59 : decode cX4_takes 59 = .ok (.iload_n 3, 1) := dk_29 (dk_at dksX4_takes_2 13 rfl rfl)
theorem dX4_takes_60 : decode cX4_takes 60 = .ok (.ifCond .le 16, 3) := dk_158 0 16 (dk_at dksX4_takes_2 14 rfl rfl)
theorem dX4_takes_63 : decode cX4_takes 63 = .ok (.aload_n 0, 1) := dk_42 (dk_at dksX4_takes_2 17 rfl rfl)
theorem dX4_takes_64 : decode cX4_takes 64 = .ok (.getfield 39, 3) := dk_180 0 39 (dk_at dksX4_takes_2 18 rfl rfl)
theorem dX4_takes_67 : decode cX4_takes 67 = .ok (.bipush 11, 2) := dk_16 11 (dk_at dksX4_takes_2 21 rfl rfl)
theorem dX4_takes_69 : decode cX4_takes 69 = .ok (.dup2, 1) := dk_92 (dk_at dksX4_takes_2 23 rfl rfl)
theorem dX4_takes_70 : decode cX4_takes 70 = .ok (.iaload, 1) := dk_46 (dk_at dksX4_takes_3 0 rfl rfl)
theorem dX4_takes_71 : decode cX4_takes 71 = .ok (.iconst 1, 1) := dk_4 (dk_at dksX4_takes_3 1 rfl rfl)
theorem dX4_takes_72 : decode cX4_takes 72 = .ok (.iload_n 2, 1) := dk_28 (dk_at dksX4_takes_3 2 rfl rfl)
theorem dX4_takes_73 : decode cX4_takes 73 = .ok (.ishl, 1) := dk_120 (dk_at dksX4_takes_3 3 rfl rfl)
theorem dX4_takes_74 : decode cX4_takes 74 = .ok (.ior, 1) := dk_128 (dk_at dksX4_takes_3 4 rfl rfl)
theorem dX4_takes_75 : decode cX4_takes 75 = .ok (.iastore, 1) := dk_79 (dk_at dksX4_takes_3 5 rfl rfl)
theorem dX4_takes_76 : decode cX4_takes 76 = .ok (.iload 4, 2) := dk_21 4 (dk_at dksX4_takes_3 6 rfl rfl)
theorem dX4_takes_78 : decode cX4_takes 78 = .ok (.ifCond .lt 39, 3) := dk_155 0 39 (dk_at dksX4_takes_3 8 rfl rfl)
theorem dX4_takes_81 : decode cX4_takes 81 = .ok (.aload_n 0, 1) := dk_42 (dk_at dksX4_takes_3 11 rfl rfl)
theorem dX4_takes_82 : decode cX4_takes 82 = .ok (.getfield 46, 3) := dk_180 0 46 (dk_at dksX4_takes_3 12 rfl rfl)
theorem dX4_takes_85 : decode cX4_takes 85 = .ok (.iload 4, 2) := dk_21 4 (dk_at dksX4_takes_3 15 rfl rfl)
theorem dX4_takes_87 : decode cX4_takes 87 = .ok (.dup2, 1) := dk_92 (dk_at dksX4_takes_3 17 rfl rfl)
theorem dX4_takes_88 : decode cX4_takes 88 = .ok (.iaload, 1) := dk_46 (dk_at dksX4_takes_3 18 rfl rfl)
theorem dX4_takes_89 : decode cX4_takes 89 = .ok (.iload_n 3, 1) := dk_29 (dk_at dksX4_takes_3 19 rfl rfl)
theorem dX4_takes_90 : decode cX4_takes 90 = .ok (.iadd, 1) := dk_96 (dk_at dksX4_takes_3 20 rfl rfl)
theorem dX4_takes_91 : decode cX4_takes 91 = .ok (.iastore, 1) := dk_79 (dk_at dksX4_takes_3 21 rfl rfl)
theorem dX4_takes_92 : decode cX4_takes 92 = .ok (.aload_n 0, 1) := dk_42 (dk_at dksX4_takes_3 22 rfl rfl)
theorem dX4_takes_93 : decode cX4_takes 93 = .ok (.getfield 39, 3) := dk_180 0 39 (dk_at dksX4_takes_4 0 rfl rfl)
theorem dX4_takes_96 : decode cX4_takes 96 = .ok (.bipush 14, 2) := dk_16 14 (dk_at dksX4_takes_4 3 rfl rfl)
theorem dX4_takes_98 : decode cX4_takes 98 = .ok (.iload 4, 2) := dk_21 4 (dk_at dksX4_takes_4 5 rfl rfl)
theorem dX4_takes_100 : decode cX4_takes 100 = .ok (.iadd, 1) := dk_96 (dk_at dksX4_takes_4 7 rfl rfl)
theorem dX4_takes_101 : decode cX4_takes 101 = .ok (.aload_n 0, 1) := dk_42 (dk_at dksX4_takes_4 8 rfl rfl)
theorem dX4_takes_102 : decode cX4_takes 102 = .ok (.getfield 39, 3) := dk_180 0 39 (dk_at dksX4_takes_4 9 rfl rfl)
theorem dX4_takes_105 : decode cX4_takes 105 = .ok (.bipush 14, 2) := dk_16 14 (dk_at dksX4_takes_4 12 rfl rfl)
theorem dX4_takes_107 : decode cX4_takes 107 = .ok (.iload 4, 2) := dk_21 4 (dk_at dksX4_takes_4 14 rfl rfl)
theorem dX4_takes_109 : decode cX4_takes 109 = .ok (.iadd, 1) := dk_96 (dk_at dksX4_takes_4 16 rfl rfl)
theorem dX4_takes_110 : decode cX4_takes 110 = .ok (.iaload, 1) := dk_46 (dk_at dksX4_takes_4 17 rfl rfl)
theorem dX4_takes_111 : decode cX4_takes 111 = .ok (.iload_n 3, 1) := dk_29 (dk_at dksX4_takes_4 18 rfl rfl)
theorem dX4_takes_112 : decode cX4_takes 112 = .ok (.iadd, 1) := dk_96 (dk_at dksX4_takes_4 19 rfl rfl)
theorem dX4_takes_113 : decode cX4_takes 113 = .ok (.invokestatic 333, 3) := dk_184 1 77 (dk_at dksX4_takes_4 20 rfl rfl)
theorem dX4_takes_116 : decode cX4_takes 116 = .ok (.iastore, 1) := dk_79 (dk_at dksX4_takes_4 23 rfl rfl)
theorem dX4_takes_117 : decode cX4_takes 117 = .ok (.iload_n 3, 1) := dk_29 (dk_at dksX4_takes_5 0 rfl rfl)
theorem dX4_takes_118 : decode cX4_takes 118 = .ok (.ireturn, 1) := dk_172 (dk_at dksX4_takes_5 1 rfl rfl)
abbrev cX4_held : ByteArray := prog_19_method_5_code
def yX4_held : MethodName := ⟨RX4, "held", "(I)I"⟩
def dkwX4_held_0 : List UInt8 := [26, 17, 3, 231, 164, 0, 9, 17, 3, 231, 167, 0, 4, 26, 172]
abbrev dktX4_held_0 : List UInt8 := dkwX4_held_0 ++ []
theorem dksX4_held_0 : cX4_held.data.toList.drop 0 = dktX4_held_0 := by decide +kernel
theorem dX4_held_0 : decode cX4_held 0 = .ok (.iload_n 0, 1) := dk_26 (dk_at dksX4_held_0 0 rfl rfl)
theorem dX4_held_1 : decode cX4_held 1 = .ok (.sipush 999, 3) := dk_17 3 231 (dk_at dksX4_held_0 1 rfl rfl)
theorem dX4_held_4 : decode cX4_held 4 = .ok (.if_icmp .le 9, 3) := dk_164 0 9 (dk_at dksX4_held_0 4 rfl rfl)
theorem dX4_held_7 : decode cX4_held 7 = .ok (.sipush 999, 3) := dk_17 3 231 (dk_at dksX4_held_0 7 rfl rfl)
theorem dX4_held_10 : decode cX4_held 10 = .ok (.goto 4, 3) := dk_167 0 4 (dk_at dksX4_held_0 10 rfl rfl)
theorem dX4_held_13 : decode cX4_held 13 = .ok (.iload_n 0, 1) := dk_26 (dk_at dksX4_held_0 13 rfl rfl)
theorem dX4_held_14 : decode cX4_held 14 = .ok (.ireturn, 1) := dk_172 (dk_at dksX4_held_0 14 rfl rfl)
abbrev cX4_snows : ByteArray := prog_19_method_69_code
def yX4_snows : MethodName := ⟨RX4, "snows", "()I"⟩
def dkwX4_snows_4 : List UInt8 := [3, 79, 42, 180, 0, 39, 16, 13, 3, 79, 42, 180, 0, 39, 16, 10, 92, 46, 4, 96, 79, 27, 172]
abbrev dktX4_snows_4 : List UInt8 := dkwX4_snows_4 ++ []
def dkwX4_snows_3 : List UInt8 := [184, 1, 77, 79, 132, 2, 1, 167, 255, 189, 42, 180, 0, 39, 16, 12, 27, 79, 42, 180, 0, 39, 16, 11]
abbrev dktX4_snows_3 : List UInt8 := dkwX4_snows_3 ++ dktX4_snows_4
def dkwX4_snows_2 : List UInt8 := [42, 180, 0, 39, 16, 14, 28, 96, 42, 180, 0, 39, 16, 14, 28, 96, 46, 42, 180, 0, 39, 3, 46, 96]
abbrev dktX4_snows_2 : List UInt8 := dkwX4_snows_2 ++ dktX4_snows_3
def dkwX4_snows_1 : List UInt8 := [184, 1, 60, 154, 0, 6, 167, 0, 46, 42, 180, 0, 49, 28, 92, 46, 42, 180, 0, 39, 3, 46, 96, 79]
abbrev dktX4_snows_1 : List UInt8 := dkwX4_snows_1 ++ dktX4_snows_2
def dkwX4_snows_0 : List UInt8 := [42, 180, 0, 39, 16, 11, 46, 60, 3, 61, 28, 42, 180, 0, 39, 5, 46, 162, 0, 63, 27, 28]
abbrev dktX4_snows_0 : List UInt8 := dkwX4_snows_0 ++ dktX4_snows_1
theorem dksX4_snows_0 : cX4_snows.data.toList.drop 0 = dktX4_snows_0 := by decide +kernel
theorem dksX4_snows_1 : cX4_snows.data.toList.drop 22 = dktX4_snows_1 := dk_seg dksX4_snows_0 22 rfl rfl
theorem dksX4_snows_2 : cX4_snows.data.toList.drop 46 = dktX4_snows_2 := dk_seg dksX4_snows_1 24 rfl rfl
theorem dksX4_snows_3 : cX4_snows.data.toList.drop 70 = dktX4_snows_3 := dk_seg dksX4_snows_2 24 rfl rfl
theorem dksX4_snows_4 : cX4_snows.data.toList.drop 94 = dktX4_snows_4 := dk_seg dksX4_snows_3 24 rfl rfl
theorem dX4_snows_0 : decode cX4_snows 0 = .ok (.aload_n 0, 1) := dk_42 (dk_at dksX4_snows_0 0 rfl rfl)
theorem dX4_snows_1 : decode cX4_snows 1 = .ok (.getfield 39, 3) := dk_180 0 39 (dk_at dksX4_snows_0 1 rfl rfl)
theorem dX4_snows_4 : decode cX4_snows 4 = .ok (.bipush 11, 2) := dk_16 11 (dk_at dksX4_snows_0 4 rfl rfl)
theorem dX4_snows_6 : decode cX4_snows 6 = .ok (.iaload, 1) := dk_46 (dk_at dksX4_snows_0 6 rfl rfl)
theorem dX4_snows_7 : decode cX4_snows 7 = .ok (.istore_n 1, 1) := dk_60 (dk_at dksX4_snows_0 7 rfl rfl)
theorem dX4_snows_8 : decode cX4_snows 8 = .ok (.iconst 0, 1) := dk_3 (dk_at dksX4_snows_0 8 rfl rfl)
theorem dX4_snows_9 : decode cX4_snows 9 = .ok (.istore_n 2, 1) := dk_61 (dk_at dksX4_snows_0 9 rfl rfl)
theorem dX4_snows_10 : decode cX4_snows 10 = .ok (.iload_n 2, 1) := dk_28 (dk_at dksX4_snows_0 10 rfl rfl)
theorem dX4_snows_11 : decode cX4_snows 11 = .ok (.aload_n 0, 1) := dk_42 (dk_at dksX4_snows_0 11 rfl rfl)
theorem dX4_snows_12 : decode cX4_snows 12 = .ok (.getfield 39, 3) := dk_180 0 39 (dk_at dksX4_snows_0 12 rfl rfl)
theorem dX4_snows_15 : decode cX4_snows 15 = .ok (.iconst 2, 1) := dk_5 (dk_at dksX4_snows_0 15 rfl rfl)
theorem dX4_snows_16 : decode cX4_snows 16 = .ok (.iaload, 1) := dk_46 (dk_at dksX4_snows_0 16 rfl rfl)
theorem dX4_snows_17 : decode cX4_snows 17 = .ok (.if_icmp .ge 63, 3) := dk_162 0 63 (dk_at dksX4_snows_0 17 rfl rfl)
theorem dX4_snows_20 : decode cX4_snows 20 = .ok (.iload_n 1, 1) := dk_27 (dk_at dksX4_snows_0 20 rfl rfl)
theorem dX4_snows_21 : decode cX4_snows 21 = .ok (.iload_n 2, 1) := dk_28 (dk_at dksX4_snows_0 21 rfl rfl)
theorem dX4_snows_22 : decode cX4_snows 22 = .ok (.invokestatic 316, 3) := dk_184 1 60 (dk_at dksX4_snows_1 0 rfl rfl)
theorem dX4_snows_25 : decode cX4_snows 25 = .ok (.ifCond .ne 6, 3) := dk_154 0 6 (dk_at dksX4_snows_1 3 rfl rfl)
theorem dX4_snows_28 : decode cX4_snows 28 = .ok (.goto 46, 3) := dk_167 0 46 (dk_at dksX4_snows_1 6 rfl rfl)
theorem dX4_snows_31 : decode cX4_snows 31 = .ok (.aload_n 0, 1) := dk_42 (dk_at dksX4_snows_1 9 rfl rfl)
theorem dX4_snows_32 : decode cX4_snows 32 = .ok (.getfield 49, 3) := dk_180 0 49 (dk_at dksX4_snows_1 10 rfl rfl)
theorem dX4_snows_35 : decode cX4_snows 35 = .ok (.iload_n 2, 1) := dk_28 (dk_at dksX4_snows_1 13 rfl rfl)
theorem dX4_snows_36 : decode cX4_snows 36 = .ok (.dup2, 1) := dk_92 (dk_at dksX4_snows_1 14 rfl rfl)
theorem dX4_snows_37 : decode cX4_snows 37 = .ok (.iaload, 1) := dk_46 (dk_at dksX4_snows_1 15 rfl rfl)
theorem dX4_snows_38 : decode cX4_snows 38 = .ok (.aload_n 0, 1) := dk_42 (dk_at dksX4_snows_1 16 rfl rfl)
theorem dX4_snows_39 : decode cX4_snows 39 = .ok (.getfield 39, 3) := dk_180 0 39 (dk_at dksX4_snows_1 17 rfl rfl)
theorem dX4_snows_42 : decode cX4_snows 42 = .ok (.iconst 0, 1) := dk_3 (dk_at dksX4_snows_1 20 rfl rfl)
theorem dX4_snows_43 : decode cX4_snows 43 = .ok (.iaload, 1) := dk_46 (dk_at dksX4_snows_1 21 rfl rfl)
theorem dX4_snows_44 : decode cX4_snows 44 = .ok (.iadd, 1) := dk_96 (dk_at dksX4_snows_1 22 rfl rfl)
theorem dX4_snows_45 : decode cX4_snows 45 = .ok (.iastore, 1) := dk_79 (dk_at dksX4_snows_1 23 rfl rfl)
theorem dX4_snows_46 : decode cX4_snows 46 = .ok (.aload_n 0, 1) := dk_42 (dk_at dksX4_snows_2 0 rfl rfl)
theorem dX4_snows_47 : decode cX4_snows 47 = .ok (.getfield 39, 3) := dk_180 0 39 (dk_at dksX4_snows_2 1 rfl rfl)
theorem dX4_snows_50 : decode cX4_snows 50 = .ok (.bipush 14, 2) := dk_16 14 (dk_at dksX4_snows_2 4 rfl rfl)
theorem dX4_snows_52 : decode cX4_snows 52 = .ok (.iload_n 2, 1) := dk_28 (dk_at dksX4_snows_2 6 rfl rfl)
theorem dX4_snows_53 : decode cX4_snows 53 = .ok (.iadd, 1) := dk_96 (dk_at dksX4_snows_2 7 rfl rfl)
theorem dX4_snows_54 : decode cX4_snows 54 = .ok (.aload_n 0, 1) := dk_42 (dk_at dksX4_snows_2 8 rfl rfl)
theorem dX4_snows_55 : decode cX4_snows 55 = .ok (.getfield 39, 3) := dk_180 0 39 (dk_at dksX4_snows_2 9 rfl rfl)
theorem dX4_snows_58 : decode cX4_snows 58 = .ok (.bipush 14, 2) := dk_16 14 (dk_at dksX4_snows_2 12 rfl rfl)
theorem dX4_snows_60 : decode cX4_snows 60 = .ok (.iload_n 2, 1) := dk_28 (dk_at dksX4_snows_2 14 rfl rfl)
theorem dX4_snows_61 : decode cX4_snows 61 = .ok (.iadd, 1) := dk_96 (dk_at dksX4_snows_2 15 rfl rfl)
theorem dX4_snows_62 : decode cX4_snows 62 = .ok (.iaload, 1) := dk_46 (dk_at dksX4_snows_2 16 rfl rfl)
theorem dX4_snows_63 : decode cX4_snows 63 = .ok (.aload_n 0, 1) := dk_42 (dk_at dksX4_snows_2 17 rfl rfl)
theorem dX4_snows_64 : decode cX4_snows 64 = .ok (.getfield 39, 3) := dk_180 0 39 (dk_at dksX4_snows_2 18 rfl rfl)
theorem dX4_snows_67 : decode cX4_snows 67 = .ok (.iconst 0, 1) := dk_3 (dk_at dksX4_snows_2 21 rfl rfl)
theorem dX4_snows_68 : decode cX4_snows 68 = .ok (.iaload, 1) := dk_46 (dk_at dksX4_snows_2 22 rfl rfl)
theorem dX4_snows_69 : decode cX4_snows 69 = .ok (.iadd, 1) := dk_96 (dk_at dksX4_snows_2 23 rfl rfl)
theorem dX4_snows_70 : decode cX4_snows 70 = .ok (.invokestatic 333, 3) := dk_184 1 77 (dk_at dksX4_snows_3 0 rfl rfl)
theorem dX4_snows_73 : decode cX4_snows 73 = .ok (.iastore, 1) := dk_79 (dk_at dksX4_snows_3 3 rfl rfl)
theorem dX4_snows_74 : decode cX4_snows 74 = .ok (.iinc 2 1, 3) := dk_132 2 1 (dk_at dksX4_snows_3 4 rfl rfl)
theorem dX4_snows_77 : decode cX4_snows 77 = .ok (.goto (-67), 3) := dk_167 255 189 (dk_at dksX4_snows_3 7 rfl rfl)
theorem dX4_snows_80 : decode cX4_snows 80 = .ok (.aload_n 0, 1) := dk_42 (dk_at dksX4_snows_3 10 rfl rfl)
theorem dX4_snows_81 : decode cX4_snows 81 = .ok (.getfield 39, 3) := dk_180 0 39 (dk_at dksX4_snows_3 11 rfl rfl)
theorem dX4_snows_84 : decode cX4_snows 84 = .ok (.bipush 12, 2) := dk_16 12 (dk_at dksX4_snows_3 14 rfl rfl)
theorem dX4_snows_86 : decode cX4_snows 86 = .ok (.iload_n 1, 1) := dk_27 (dk_at dksX4_snows_3 16 rfl rfl)
theorem dX4_snows_87 : decode cX4_snows 87 = .ok (.iastore, 1) := dk_79 (dk_at dksX4_snows_3 17 rfl rfl)
theorem dX4_snows_88 : decode cX4_snows 88 = .ok (.aload_n 0, 1) := dk_42 (dk_at dksX4_snows_3 18 rfl rfl)
theorem dX4_snows_89 : decode cX4_snows 89 = .ok (.getfield 39, 3) := dk_180 0 39 (dk_at dksX4_snows_3 19 rfl rfl)
theorem dX4_snows_92 : decode cX4_snows 92 = .ok (.bipush 11, 2) := dk_16 11 (dk_at dksX4_snows_3 22 rfl rfl)
theorem dX4_snows_94 : decode cX4_snows 94 = .ok (.iconst 0, 1) := dk_3 (dk_at dksX4_snows_4 0 rfl rfl)
theorem dX4_snows_95 : decode cX4_snows 95 = .ok (.iastore, 1) := dk_79 (dk_at dksX4_snows_4 1 rfl rfl)
theorem dX4_snows_96 : decode cX4_snows 96 = .ok (.aload_n 0, 1) := dk_42 (dk_at dksX4_snows_4 2 rfl rfl)
theorem dX4_snows_97 : decode cX4_snows 97 = .ok (.getfield 39, 3) := dk_180 0 39 (dk_at dksX4_snows_4 3 rfl rfl)
theorem dX4_snows_100 : decode cX4_snows 100 = .ok (.bipush 13, 2) := dk_16 13 (dk_at dksX4_snows_4 6 rfl rfl)
theorem dX4_snows_102 : decode cX4_snows 102 = .ok (.iconst 0, 1) := dk_3 (dk_at dksX4_snows_4 8 rfl rfl)
theorem dX4_snows_103 : decode cX4_snows 103 = .ok (.iastore, 1) := dk_79 (dk_at dksX4_snows_4 9 rfl rfl)
theorem dX4_snows_104 : decode cX4_snows 104 = .ok (.aload_n 0, 1) := dk_42 (dk_at dksX4_snows_4 10 rfl rfl)
theorem dX4_snows_105 : decode cX4_snows 105 = .ok (.getfield 39, 3) := dk_180 0 39 (dk_at dksX4_snows_4 11 rfl rfl)
theorem dX4_snows_108 : decode cX4_snows 108 = .ok (.bipush 10, 2) := dk_16 10 (dk_at dksX4_snows_4 14 rfl rfl)
theorem dX4_snows_110 : decode cX4_snows 110 = .ok (.dup2, 1) := dk_92 (dk_at dksX4_snows_4 16 rfl rfl)
theorem dX4_snows_111 : decode cX4_snows 111 = .ok (.iaload, 1) := dk_46 (dk_at dksX4_snows_4 17 rfl rfl)
theorem dX4_snows_112 : decode cX4_snows 112 = .ok (.iconst 1, 1) := dk_4 (dk_at dksX4_snows_4 18 rfl rfl)
theorem dX4_snows_113 : decode cX4_snows 113 = .ok (.iadd, 1) := dk_96 (dk_at dksX4_snows_4 19 rfl rfl)
theorem dX4_snows_114 : decode cX4_snows 114 = .ok (.iastore, 1) := dk_79 (dk_at dksX4_snows_4 20 rfl rfl)
theorem dX4_snows_115 : decode cX4_snows 115 = .ok (.iload_n 1, 1) := dk_27 (dk_at dksX4_snows_4 21 rfl rfl)
theorem dX4_snows_116 : decode cX4_snows 116 = .ok (.ireturn, 1) := dk_172 (dk_at dksX4_snows_4 22 rfl rfl)
abbrev cX4_sweep : ByteArray := prog_19_method_75_code
def yX4_sweep : MethodName := ⟨RX4, "sweep", "(II)I"⟩
def dkwX4_sweep_2 : List UInt8 := [28, 182, 1, 103, 172]
abbrev dktX4_sweep_2 : List UInt8 := dkwX4_sweep_2 ++ []
def dkwX4_sweep_1 : List UInt8 := [154, 0, 5, 2, 172, 42, 182, 1, 113, 42, 180, 0, 39, 16, 13, 92, 46, 4, 27, 120, 128, 79, 42, 27]
abbrev dktX4_sweep_1 : List UInt8 := dkwX4_sweep_1 ++ dktX4_sweep_2
def dkwX4_sweep_0 : List UInt8 := [42, 27, 182, 1, 66, 153, 0, 20, 42, 28, 182, 1, 57, 153, 0, 12, 42, 27, 28, 182, 1, 119]
abbrev dktX4_sweep_0 : List UInt8 := dkwX4_sweep_0 ++ dktX4_sweep_1
theorem dksX4_sweep_0 : cX4_sweep.data.toList.drop 0 = dktX4_sweep_0 := by decide +kernel
theorem dksX4_sweep_1 : cX4_sweep.data.toList.drop 22 = dktX4_sweep_1 := dk_seg dksX4_sweep_0 22 rfl rfl
theorem dksX4_sweep_2 : cX4_sweep.data.toList.drop 46 = dktX4_sweep_2 := dk_seg dksX4_sweep_1 24 rfl rfl
theorem dX4_sweep_0 : decode cX4_sweep 0 = .ok (.aload_n 0, 1) := dk_42 (dk_at dksX4_sweep_0 0 rfl rfl)
theorem dX4_sweep_1 : decode cX4_sweep 1 = .ok (.iload_n 1, 1) := dk_27 (dk_at dksX4_sweep_0 1 rfl rfl)
theorem dX4_sweep_2 : decode cX4_sweep 2 = .ok (.invokevirtual 322, 3) := dk_182 1 66 (dk_at dksX4_sweep_0 2 rfl rfl)
theorem dX4_sweep_5 : decode cX4_sweep 5 = .ok (.ifCond .eq 20, 3) := dk_153 0 20 (dk_at dksX4_sweep_0 5 rfl rfl)
theorem dX4_sweep_8 : decode cX4_sweep 8 = .ok (.aload_n 0, 1) := dk_42 (dk_at dksX4_sweep_0 8 rfl rfl)
theorem dX4_sweep_9 : decode cX4_sweep 9 = .ok (.iload_n 2, 1) := dk_28 (dk_at dksX4_sweep_0 9 rfl rfl)
theorem dX4_sweep_10 : decode cX4_sweep 10 = .ok (.invokevirtual 313, 3) := dk_182 1 57 (dk_at dksX4_sweep_0 10 rfl rfl)
theorem dX4_sweep_13 : decode cX4_sweep 13 = .ok (.ifCond .eq 12, 3) := dk_153 0 12 (dk_at dksX4_sweep_0 13 rfl rfl)
theorem dX4_sweep_16 : decode cX4_sweep 16 = .ok (.aload_n 0, 1) := dk_42 (dk_at dksX4_sweep_0 16 rfl rfl)
theorem dX4_sweep_17 : decode cX4_sweep 17 = .ok (.iload_n 1, 1) := dk_27 (dk_at dksX4_sweep_0 17 rfl rfl)
theorem dX4_sweep_18 : decode cX4_sweep 18 = .ok (.iload_n 2, 1) := dk_28 (dk_at dksX4_sweep_0 18 rfl rfl)
theorem dX4_sweep_19 : decode cX4_sweep 19 = .ok (.invokevirtual 375, 3) := dk_182 1 119 (dk_at dksX4_sweep_0 19 rfl rfl)
theorem dX4_sweep_22 : decode cX4_sweep 22 = .ok (.ifCond .ne 5, 3) := dk_154 0 5 (dk_at dksX4_sweep_1 0 rfl rfl)
theorem dX4_sweep_25 : decode cX4_sweep 25 = .ok (.iconst (-1), 1) := dk_2 (dk_at dksX4_sweep_1 3 rfl rfl)
theorem dX4_sweep_26 : decode cX4_sweep 26 = .ok (.ireturn, 1) := dk_172 (dk_at dksX4_sweep_1 4 rfl rfl)
theorem dX4_sweep_27 : decode cX4_sweep 27 = .ok (.aload_n 0, 1) := dk_42 (dk_at dksX4_sweep_1 5 rfl rfl)
theorem dX4_sweep_28 : decode cX4_sweep 28 = .ok (.invokevirtual 369, 3) := dk_182 1 113 (dk_at dksX4_sweep_1 6 rfl rfl)
theorem dX4_sweep_31 : decode cX4_sweep 31 = .ok (.aload_n 0, 1) := dk_42 (dk_at dksX4_sweep_1 9 rfl rfl)
theorem dX4_sweep_32 : decode cX4_sweep 32 = .ok (.getfield 39, 3) := dk_180 0 39 (dk_at dksX4_sweep_1 10 rfl rfl)
theorem dX4_sweep_35 : decode cX4_sweep 35 = .ok (.bipush 13, 2) := dk_16 13 (dk_at dksX4_sweep_1 13 rfl rfl)
theorem dX4_sweep_37 : decode cX4_sweep 37 = .ok (.dup2, 1) := dk_92 (dk_at dksX4_sweep_1 15 rfl rfl)
theorem dX4_sweep_38 : decode cX4_sweep 38 = .ok (.iaload, 1) := dk_46 (dk_at dksX4_sweep_1 16 rfl rfl)
theorem dX4_sweep_39 : decode cX4_sweep 39 = .ok (.iconst 1, 1) := dk_4 (dk_at dksX4_sweep_1 17 rfl rfl)
theorem dX4_sweep_40 : decode cX4_sweep 40 = .ok (.iload_n 1, 1) := dk_27 (dk_at dksX4_sweep_1 18 rfl rfl)
theorem dX4_sweep_41 : decode cX4_sweep 41 = .ok (.ishl, 1) := dk_120 (dk_at dksX4_sweep_1 19 rfl rfl)
theorem dX4_sweep_42 : decode cX4_sweep 42 = .ok (.ior, 1) := dk_128 (dk_at dksX4_sweep_1 20 rfl rfl)
theorem dX4_sweep_43 : decode cX4_sweep 43 = .ok (.iastore, 1) := dk_79 (dk_at dksX4_sweep_1 21 rfl rfl)
theorem dX4_sweep_44 : decode cX4_sweep 44 = .ok (.aload_n 0, 1) := dk_42 (dk_at dksX4_sweep_1 22 rfl rfl)
theorem dX4_sweep_45 : decode cX4_sweep 45 = .ok (.iload_n 1, 1) := dk_27 (dk_at dksX4_sweep_1 23 rfl rfl)
theorem dX4_sweep_46 : decode cX4_sweep 46 = .ok (.iload_n 2, 1) := dk_28 (dk_at dksX4_sweep_2 0 rfl rfl)
theorem dX4_sweep_47 : decode cX4_sweep 47 = .ok (.invokevirtual 359, 3) := dk_182 1 103 (dk_at dksX4_sweep_2 1 rfl rfl)
theorem dX4_sweep_50 : decode cX4_sweep 50 = .ok (.ireturn, 1) := dk_172 (dk_at dksX4_sweep_2 4 rfl rfl)
abbrev cX4_canSweep : ByteArray := prog_19_method_74_code
def yX4_canSweep : MethodName := ⟨RX4, "canSweep", "(II)Z"⟩
def dkwX4_canSweep_1 : List UInt8 := [158, 0, 7, 4, 167, 0, 4, 3, 172]
abbrev dktX4_canSweep_1 : List UInt8 := dkwX4_canSweep_1 ++ []
def dkwX4_canSweep_0 : List UInt8 := [42, 180, 0, 39, 16, 13, 46, 27, 184, 1, 60, 154, 0, 19, 42, 180, 0, 39, 16, 14, 28, 96, 46]
abbrev dktX4_canSweep_0 : List UInt8 := dkwX4_canSweep_0 ++ dktX4_canSweep_1
theorem dksX4_canSweep_0 : cX4_canSweep.data.toList.drop 0 = dktX4_canSweep_0 := by decide +kernel
theorem dksX4_canSweep_1 : cX4_canSweep.data.toList.drop 23 = dktX4_canSweep_1 := dk_seg dksX4_canSweep_0 23 rfl rfl
theorem dX4_canSweep_0 : decode cX4_canSweep 0 = .ok (.aload_n 0, 1) := dk_42 (dk_at dksX4_canSweep_0 0 rfl rfl)
theorem dX4_canSweep_1 : decode cX4_canSweep 1 = .ok (.getfield 39, 3) := dk_180 0 39 (dk_at dksX4_canSweep_0 1 rfl rfl)
theorem dX4_canSweep_4 : decode cX4_canSweep 4 = .ok (.bipush 13, 2) := dk_16 13 (dk_at dksX4_canSweep_0 4 rfl rfl)
theorem dX4_canSweep_6 : decode cX4_canSweep 6 = .ok (.iaload, 1) := dk_46 (dk_at dksX4_canSweep_0 6 rfl rfl)
theorem dX4_canSweep_7 : decode cX4_canSweep 7 = .ok (.iload_n 1, 1) := dk_27 (dk_at dksX4_canSweep_0 7 rfl rfl)
theorem dX4_canSweep_8 : decode cX4_canSweep 8 = .ok (.invokestatic 316, 3) := dk_184 1 60 (dk_at dksX4_canSweep_0 8 rfl rfl)
theorem dX4_canSweep_11 : decode cX4_canSweep 11 = .ok (.ifCond .ne 19, 3) := dk_154 0 19 (dk_at dksX4_canSweep_0 11 rfl rfl)
theorem dX4_canSweep_14 : decode cX4_canSweep 14 = .ok (.aload_n 0, 1) := dk_42 (dk_at dksX4_canSweep_0 14 rfl rfl)
theorem dX4_canSweep_15 : decode cX4_canSweep 15 = .ok (.getfield 39, 3) := dk_180 0 39 (dk_at dksX4_canSweep_0 15 rfl rfl)
theorem dX4_canSweep_18 : decode cX4_canSweep 18 = .ok (.bipush 14, 2) := dk_16 14 (dk_at dksX4_canSweep_0 18 rfl rfl)
theorem dX4_canSweep_20 : decode cX4_canSweep 20 = .ok (.iload_n 2, 1) := dk_28 (dk_at dksX4_canSweep_0 20 rfl rfl)
theorem dX4_canSweep_21 : decode cX4_canSweep 21 = .ok (.iadd, 1) := dk_96 (dk_at dksX4_canSweep_0 21 rfl rfl)
theorem dX4_canSweep_22 : decode cX4_canSweep 22 = .ok (.iaload, 1) := dk_46 (dk_at dksX4_canSweep_0 22 rfl rfl)
theorem dX4_canSweep_23 : decode cX4_canSweep 23 = .ok (.ifCond .le 7, 3) := dk_158 0 7 (dk_at dksX4_canSweep_1 0 rfl rfl)
theorem dX4_canSweep_26 : decode cX4_canSweep 26 = .ok (.iconst 1, 1) := dk_4 (dk_at dksX4_canSweep_1 3 rfl rfl)
theorem dX4_canSweep_27 : decode cX4_canSweep 27 = .ok (.goto 4, 3) := dk_167 0 4 (dk_at dksX4_canSweep_1 4 rfl rfl)
theorem dX4_canSweep_30 : decode cX4_canSweep 30 = .ok (.iconst 0, 1) := dk_3 (dk_at dksX4_canSweep_1 7 rfl rfl)
theorem dX4_canSweep_31 : decode cX4_canSweep 31 = .ok (.ireturn, 1) := dk_172 (dk_at dksX4_canSweep_1 8 rfl rfl)
abbrev cX4_toss : ByteArray := prog_19_method_76_code
def yX4_toss : MethodName := ⟨RX4, "toss", "(II)I"⟩
def dkwX4_toss_2 : List UInt8 := [184, 1, 77, 79, 42, 180, 0, 39, 16, 14, 27, 96, 46, 172]
abbrev dktX4_toss_2 : List UInt8 := dkwX4_toss_2 ++ []
def dkwX4_toss_1 : List UInt8 := [182, 1, 113, 42, 180, 0, 39, 16, 14, 27, 96, 42, 180, 0, 39, 16, 14, 27, 96, 46, 28, 96]
abbrev dktX4_toss_1 : List UInt8 := dkwX4_toss_1 ++ dktX4_toss_2
def dkwX4_toss_0 : List UInt8 := [42, 27, 182, 1, 57, 153, 0, 15, 28, 133, 10, 20, 1, 122, 184, 0, 124, 154, 0, 5, 2, 172, 42]
abbrev dktX4_toss_0 : List UInt8 := dkwX4_toss_0 ++ dktX4_toss_1
theorem dksX4_toss_0 : cX4_toss.data.toList.drop 0 = dktX4_toss_0 := by decide +kernel
theorem dksX4_toss_1 : cX4_toss.data.toList.drop 23 = dktX4_toss_1 := dk_seg dksX4_toss_0 23 rfl rfl
theorem dksX4_toss_2 : cX4_toss.data.toList.drop 45 = dktX4_toss_2 := dk_seg dksX4_toss_1 22 rfl rfl
theorem dX4_toss_0 : decode cX4_toss 0 = .ok (.aload_n 0, 1) := dk_42 (dk_at dksX4_toss_0 0 rfl rfl)
theorem dX4_toss_1 : decode cX4_toss 1 = .ok (.iload_n 1, 1) := dk_27 (dk_at dksX4_toss_0 1 rfl rfl)
theorem dX4_toss_2 : decode cX4_toss 2 = .ok (.invokevirtual 313, 3) := dk_182 1 57 (dk_at dksX4_toss_0 2 rfl rfl)
theorem dX4_toss_5 : decode cX4_toss 5 = .ok (.ifCond .eq 15, 3) := dk_153 0 15 (dk_at dksX4_toss_0 5 rfl rfl)
theorem dX4_toss_8 : decode cX4_toss 8 = .ok (.iload_n 2, 1) := dk_28 (dk_at dksX4_toss_0 8 rfl rfl)
theorem dX4_toss_9 : decode cX4_toss 9 = .ok (.i2l, 1) := dk_133 (dk_at dksX4_toss_0 9 rfl rfl)
theorem dX4_toss_10 : decode cX4_toss 10 = .ok (.lconst 1, 1) := dk_10 (dk_at dksX4_toss_0 10 rfl rfl)
theorem dX4_toss_11 : decode cX4_toss 11 = .ok (.ldc2_w 378, 3) := dk_20 1 122 (dk_at dksX4_toss_0 11 rfl rfl)
theorem dX4_toss_14 : decode cX4_toss 14 = .ok (.invokestatic 124, 3) := dk_184 0 124 (dk_at dksX4_toss_0 14 rfl rfl)
theorem dX4_toss_17 : decode cX4_toss 17 = .ok (.ifCond .ne 5, 3) := dk_154 0 5 (dk_at dksX4_toss_0 17 rfl rfl)
theorem dX4_toss_20 : decode cX4_toss 20 = .ok (.iconst (-1), 1) := dk_2 (dk_at dksX4_toss_0 20 rfl rfl)
theorem dX4_toss_21 : decode cX4_toss 21 = .ok (.ireturn, 1) := dk_172 (dk_at dksX4_toss_0 21 rfl rfl)
theorem dX4_toss_22 : decode cX4_toss 22 = .ok (.aload_n 0, 1) := dk_42 (dk_at dksX4_toss_0 22 rfl rfl)
theorem dX4_toss_23 : decode cX4_toss 23 = .ok (.invokevirtual 369, 3) := dk_182 1 113 (dk_at dksX4_toss_1 0 rfl rfl)
theorem dX4_toss_26 : decode cX4_toss 26 = .ok (.aload_n 0, 1) := dk_42 (dk_at dksX4_toss_1 3 rfl rfl)
theorem dX4_toss_27 : decode cX4_toss 27 = .ok (.getfield 39, 3) := dk_180 0 39 (dk_at dksX4_toss_1 4 rfl rfl)
theorem dX4_toss_30 : decode cX4_toss 30 = .ok (.bipush 14, 2) := dk_16 14 (dk_at dksX4_toss_1 7 rfl rfl)
theorem dX4_toss_32 : decode cX4_toss 32 = .ok (.iload_n 1, 1) := dk_27 (dk_at dksX4_toss_1 9 rfl rfl)
theorem dX4_toss_33 : decode cX4_toss 33 = .ok (.iadd, 1) := dk_96 (dk_at dksX4_toss_1 10 rfl rfl)
theorem dX4_toss_34 : decode cX4_toss 34 = .ok (.aload_n 0, 1) := dk_42 (dk_at dksX4_toss_1 11 rfl rfl)
theorem dX4_toss_35 : decode cX4_toss 35 = .ok (.getfield 39, 3) := dk_180 0 39 (dk_at dksX4_toss_1 12 rfl rfl)
theorem dX4_toss_38 : decode cX4_toss 38 = .ok (.bipush 14, 2) := dk_16 14 (dk_at dksX4_toss_1 15 rfl rfl)
theorem dX4_toss_40 : decode cX4_toss 40 = .ok (.iload_n 1, 1) := dk_27 (dk_at dksX4_toss_1 17 rfl rfl)
theorem dX4_toss_41 : decode cX4_toss 41 = .ok (.iadd, 1) := dk_96 (dk_at dksX4_toss_1 18 rfl rfl)
theorem dX4_toss_42 : decode cX4_toss 42 = .ok (.iaload, 1) := dk_46 (dk_at dksX4_toss_1 19 rfl rfl)
theorem dX4_toss_43 : decode cX4_toss 43 = .ok (.iload_n 2, 1) := dk_28 (dk_at dksX4_toss_1 20 rfl rfl)
theorem dX4_toss_44 : decode cX4_toss 44 = .ok (.iadd, 1) := dk_96 (dk_at dksX4_toss_1 21 rfl rfl)
theorem dX4_toss_45 : decode cX4_toss 45 = .ok (.invokestatic 333, 3) := dk_184 1 77 (dk_at dksX4_toss_2 0 rfl rfl)
theorem dX4_toss_48 : decode cX4_toss 48 = .ok (.iastore, 1) := dk_79 (dk_at dksX4_toss_2 3 rfl rfl)
theorem dX4_toss_49 : decode cX4_toss 49 = .ok (.aload_n 0, 1) := dk_42 (dk_at dksX4_toss_2 4 rfl rfl)
theorem dX4_toss_50 : decode cX4_toss 50 = .ok (.getfield 39, 3) := dk_180 0 39 (dk_at dksX4_toss_2 5 rfl rfl)
theorem dX4_toss_53 : decode cX4_toss 53 = .ok (.bipush 14, 2) := dk_16 14 (dk_at dksX4_toss_2 8 rfl rfl)
theorem dX4_toss_55 : decode cX4_toss 55 = .ok (.iload_n 1, 1) := dk_27 (dk_at dksX4_toss_2 10 rfl rfl)
theorem dX4_toss_56 : decode cX4_toss 56 = .ok (.iadd, 1) := dk_96 (dk_at dksX4_toss_2 11 rfl rfl)
theorem dX4_toss_57 : decode cX4_toss 57 = .ok (.iaload, 1) := dk_46 (dk_at dksX4_toss_2 12 rfl rfl)
theorem dX4_toss_58 : decode cX4_toss 58 = .ok (.ireturn, 1) := dk_172 (dk_at dksX4_toss_2 13 rfl rfl)
abbrev cX4_pull : ByteArray := prog_19_method_77_code
def yX4_pull : MethodName := ⟨RX4, "pull", "(I)I"⟩
def dkwX4_pull_2 : List UInt8 := [172]
abbrev dktX4_pull_2 : List UInt8 := dkwX4_pull_2 ++ []
def dkwX4_pull_1 : List UInt8 := [182, 1, 113, 42, 180, 0, 39, 16, 22, 27, 96, 46, 61, 42, 180, 0, 39, 16, 22, 27, 96, 2, 79, 28]
abbrev dktX4_pull_1 : List UInt8 := dkwX4_pull_1 ++ dktX4_pull_2
def dkwX4_pull_0 : List UInt8 := [42, 27, 182, 1, 57, 153, 0, 15, 42, 180, 0, 39, 16, 22, 27, 96, 46, 156, 0, 5, 2, 172, 42]
abbrev dktX4_pull_0 : List UInt8 := dkwX4_pull_0 ++ dktX4_pull_1
theorem dksX4_pull_0 : cX4_pull.data.toList.drop 0 = dktX4_pull_0 := by decide +kernel
theorem dksX4_pull_1 : cX4_pull.data.toList.drop 23 = dktX4_pull_1 := dk_seg dksX4_pull_0 23 rfl rfl
theorem dksX4_pull_2 : cX4_pull.data.toList.drop 47 = dktX4_pull_2 := dk_seg dksX4_pull_1 24 rfl rfl
theorem dX4_pull_0 : decode cX4_pull 0 = .ok (.aload_n 0, 1) := dk_42 (dk_at dksX4_pull_0 0 rfl rfl)
theorem dX4_pull_1 : decode cX4_pull 1 = .ok (.iload_n 1, 1) := dk_27 (dk_at dksX4_pull_0 1 rfl rfl)
theorem dX4_pull_2 : decode cX4_pull 2 = .ok (.invokevirtual 313, 3) := dk_182 1 57 (dk_at dksX4_pull_0 2 rfl rfl)
theorem dX4_pull_5 : decode cX4_pull 5 = .ok (.ifCond .eq 15, 3) := dk_153 0 15 (dk_at dksX4_pull_0 5 rfl rfl)
theorem dX4_pull_8 : decode cX4_pull 8 = .ok (.aload_n 0, 1) := dk_42 (dk_at dksX4_pull_0 8 rfl rfl)
theorem dX4_pull_9 : decode cX4_pull 9 = .ok (.getfield 39, 3) := dk_180 0 39 (dk_at dksX4_pull_0 9 rfl rfl)
theorem dX4_pull_12 : decode cX4_pull 12 = .ok (.bipush 22, 2) := dk_16 22 (dk_at dksX4_pull_0 12 rfl rfl)
theorem dX4_pull_14 : decode cX4_pull 14 = .ok (.iload_n 1, 1) := dk_27 (dk_at dksX4_pull_0 14 rfl rfl)
theorem dX4_pull_15 : decode cX4_pull 15 = .ok (.iadd, 1) := dk_96 (dk_at dksX4_pull_0 15 rfl rfl)
theorem dX4_pull_16 : decode cX4_pull 16 = .ok (.iaload, 1) := dk_46 (dk_at dksX4_pull_0 16 rfl rfl)
theorem dX4_pull_17 : decode cX4_pull 17 = .ok (.ifCond .ge 5, 3) := dk_156 0 5 (dk_at dksX4_pull_0 17 rfl rfl)
theorem dX4_pull_20 : decode cX4_pull 20 = .ok (.iconst (-1), 1) := dk_2 (dk_at dksX4_pull_0 20 rfl rfl)
theorem dX4_pull_21 : decode cX4_pull 21 = .ok (.ireturn, 1) := dk_172 (dk_at dksX4_pull_0 21 rfl rfl)
theorem dX4_pull_22 : decode cX4_pull 22 = .ok (.aload_n 0, 1) := dk_42 (dk_at dksX4_pull_0 22 rfl rfl)
theorem dX4_pull_23 : decode cX4_pull 23 = .ok (.invokevirtual 369, 3) := dk_182 1 113 (dk_at dksX4_pull_1 0 rfl rfl)
theorem dX4_pull_26 : decode cX4_pull 26 = .ok (.aload_n 0, 1) := dk_42 (dk_at dksX4_pull_1 3 rfl rfl)
theorem dX4_pull_27 : decode cX4_pull 27 = .ok (.getfield 39, 3) := dk_180 0 39 (dk_at dksX4_pull_1 4 rfl rfl)
theorem dX4_pull_30 : decode cX4_pull 30 = .ok (.bipush 22, 2) := dk_16 22 (dk_at dksX4_pull_1 7 rfl rfl)
theorem dX4_pull_32 : decode cX4_pull 32 = .ok (.iload_n 1, 1) := dk_27 (dk_at dksX4_pull_1 9 rfl rfl)
theorem dX4_pull_33 : decode cX4_pull 33 = .ok (.iadd, 1) := dk_96 (dk_at dksX4_pull_1 10 rfl rfl)
theorem dX4_pull_34 : decode cX4_pull 34 = .ok (.iaload, 1) := dk_46 (dk_at dksX4_pull_1 11 rfl rfl)
theorem dX4_pull_35 : decode cX4_pull 35 = .ok (.istore_n 2, 1) := dk_61 (dk_at dksX4_pull_1 12 rfl rfl)
theorem dX4_pull_36 : decode cX4_pull 36 = .ok (.aload_n 0, 1) := dk_42 (dk_at dksX4_pull_1 13 rfl rfl)
theorem dX4_pull_37 : decode cX4_pull 37 = .ok (.getfield 39, 3) := dk_180 0 39 (dk_at dksX4_pull_1 14 rfl rfl)
theorem dX4_pull_40 : decode cX4_pull 40 = .ok (.bipush 22, 2) := dk_16 22 (dk_at dksX4_pull_1 17 rfl rfl)
theorem dX4_pull_42 : decode cX4_pull 42 = .ok (.iload_n 1, 1) := dk_27 (dk_at dksX4_pull_1 19 rfl rfl)
theorem dX4_pull_43 : decode cX4_pull 43 = .ok (.iadd, 1) := dk_96 (dk_at dksX4_pull_1 20 rfl rfl)
theorem dX4_pull_44 : decode cX4_pull 44 = .ok (.iconst (-1), 1) := dk_2 (dk_at dksX4_pull_1 21 rfl rfl)
theorem dX4_pull_45 : decode cX4_pull 45 = .ok (.iastore, 1) := dk_79 (dk_at dksX4_pull_1 22 rfl rfl)
theorem dX4_pull_46 : decode cX4_pull 46 = .ok (.iload_n 2, 1) := dk_28 (dk_at dksX4_pull_1 23 rfl rfl)
theorem dX4_pull_47 : decode cX4_pull 47 = .ok (.ireturn, 1) := dk_172 (dk_at dksX4_pull_2 0 rfl rfl)
abbrev cX4_thaw : ByteArray := prog_19_method_78_code
def yX4_thaw : MethodName := ⟨RX4, "thaw", "()I"⟩
def dkwX4_thaw_2 : List UInt8 := [167, 255, 230, 42, 182, 1, 124, 172]
abbrev dktX4_thaw_2 : List UInt8 := dkwX4_thaw_2 ++ []
def dkwX4_thaw_1 : List UInt8 := [180, 0, 39, 5, 46, 162, 0, 22, 42, 180, 0, 39, 16, 14, 27, 96, 92, 46, 5, 108, 79, 132, 1, 1]
abbrev dktX4_thaw_1 : List UInt8 := dkwX4_thaw_1 ++ dktX4_thaw_2
def dkwX4_thaw_0 : List UInt8 := [42, 182, 1, 110, 153, 0, 10, 42, 182, 1, 124, 154, 0, 5, 2, 172, 42, 182, 1, 113, 3, 60, 27, 42]
abbrev dktX4_thaw_0 : List UInt8 := dkwX4_thaw_0 ++ dktX4_thaw_1
theorem dksX4_thaw_0 : cX4_thaw.data.toList.drop 0 = dktX4_thaw_0 := by decide +kernel
theorem dksX4_thaw_1 : cX4_thaw.data.toList.drop 24 = dktX4_thaw_1 := dk_seg dksX4_thaw_0 24 rfl rfl
theorem dksX4_thaw_2 : cX4_thaw.data.toList.drop 48 = dktX4_thaw_2 := dk_seg dksX4_thaw_1 24 rfl rfl
theorem dX4_thaw_0 : decode cX4_thaw 0 = .ok (.aload_n 0, 1) := dk_42 (dk_at dksX4_thaw_0 0 rfl rfl)
theorem dX4_thaw_1 : decode cX4_thaw 1 = .ok (.invokevirtual 366, 3) := dk_182 1 110 (dk_at dksX4_thaw_0 1 rfl rfl)
theorem dX4_thaw_4 : decode cX4_thaw 4 = .ok (.ifCond .eq 10, 3) := dk_153 0 10 (dk_at dksX4_thaw_0 4 rfl rfl)
theorem dX4_thaw_7 : decode cX4_thaw 7 = .ok (.aload_n 0, 1) := dk_42 (dk_at dksX4_thaw_0 7 rfl rfl)
theorem dX4_thaw_8 : decode cX4_thaw 8 = .ok (.invokevirtual 380, 3) := dk_182 1 124 (dk_at dksX4_thaw_0 8 rfl rfl)
theorem dX4_thaw_11 : decode cX4_thaw 11 = .ok (.ifCond .ne 5, 3) := dk_154 0 5 (dk_at dksX4_thaw_0 11 rfl rfl)
theorem dX4_thaw_14 : decode cX4_thaw 14 = .ok (.iconst (-1), 1) := dk_2 (dk_at dksX4_thaw_0 14 rfl rfl)
theorem dX4_thaw_15 : decode cX4_thaw 15 = .ok (.ireturn, 1) := dk_172 (dk_at dksX4_thaw_0 15 rfl rfl)
theorem dX4_thaw_16 : decode cX4_thaw 16 = .ok (.aload_n 0, 1) := dk_42 (dk_at dksX4_thaw_0 16 rfl rfl)
theorem dX4_thaw_17 : decode cX4_thaw 17 = .ok (.invokevirtual 369, 3) := dk_182 1 113 (dk_at dksX4_thaw_0 17 rfl rfl)
theorem dX4_thaw_20 : decode cX4_thaw 20 = .ok (.iconst 0, 1) := dk_3 (dk_at dksX4_thaw_0 20 rfl rfl)
theorem dX4_thaw_21 : decode cX4_thaw 21 = .ok (.istore_n 1, 1) := dk_60 (dk_at dksX4_thaw_0 21 rfl rfl)
theorem dX4_thaw_22 : decode cX4_thaw 22 = .ok (.iload_n 1, 1) := dk_27 (dk_at dksX4_thaw_0 22 rfl rfl)
theorem dX4_thaw_23 : decode cX4_thaw 23 = .ok (.aload_n 0, 1) := dk_42 (dk_at dksX4_thaw_0 23 rfl rfl)
theorem dX4_thaw_24 : decode cX4_thaw 24 = .ok (.getfield 39, 3) := dk_180 0 39 (dk_at dksX4_thaw_1 0 rfl rfl)
theorem dX4_thaw_27 : decode cX4_thaw 27 = .ok (.iconst 2, 1) := dk_5 (dk_at dksX4_thaw_1 3 rfl rfl)
theorem dX4_thaw_28 : decode cX4_thaw 28 = .ok (.iaload, 1) := dk_46 (dk_at dksX4_thaw_1 4 rfl rfl)
theorem dX4_thaw_29 : decode cX4_thaw 29 = .ok (.if_icmp .ge 22, 3) := dk_162 0 22 (dk_at dksX4_thaw_1 5 rfl rfl)
theorem dX4_thaw_32 : decode cX4_thaw 32 = .ok (.aload_n 0, 1) := dk_42 (dk_at dksX4_thaw_1 8 rfl rfl)
theorem dX4_thaw_33 : decode cX4_thaw 33 = .ok (.getfield 39, 3) := dk_180 0 39 (dk_at dksX4_thaw_1 9 rfl rfl)
theorem dX4_thaw_36 : decode cX4_thaw 36 = .ok (.bipush 14, 2) := dk_16 14 (dk_at dksX4_thaw_1 12 rfl rfl)
theorem dX4_thaw_38 : decode cX4_thaw 38 = .ok (.iload_n 1, 1) := dk_27 (dk_at dksX4_thaw_1 14 rfl rfl)
theorem dX4_thaw_39 : decode cX4_thaw 39 = .ok (.iadd, 1) := dk_96 (dk_at dksX4_thaw_1 15 rfl rfl)
theorem dX4_thaw_40 : decode cX4_thaw 40 = .ok (.dup2, 1) := dk_92 (dk_at dksX4_thaw_1 16 rfl rfl)
theorem dX4_thaw_41 : decode cX4_thaw 41 = .ok (.iaload, 1) := dk_46 (dk_at dksX4_thaw_1 17 rfl rfl)
theorem dX4_thaw_42 : decode cX4_thaw 42 = .ok (.iconst 2, 1) := dk_5 (dk_at dksX4_thaw_1 18 rfl rfl)
theorem dX4_thaw_43 : decode cX4_thaw 43 = .ok (.idiv, 1) := dk_108 (dk_at dksX4_thaw_1 19 rfl rfl)
theorem dX4_thaw_44 : decode cX4_thaw 44 = .ok (.iastore, 1) := dk_79 (dk_at dksX4_thaw_1 20 rfl rfl)
theorem dX4_thaw_45 : decode cX4_thaw 45 = .ok (.iinc 1 1, 3) := dk_132 1 1 (dk_at dksX4_thaw_1 21 rfl rfl)
theorem dX4_thaw_48 : decode cX4_thaw 48 = .ok (.goto (-26), 3) := dk_167 255 230 (dk_at dksX4_thaw_2 0 rfl rfl)
theorem dX4_thaw_51 : decode cX4_thaw 51 = .ok (.aload_n 0, 1) := dk_42 (dk_at dksX4_thaw_2 3 rfl rfl)
theorem dX4_thaw_52 : decode cX4_thaw 52 = .ok (.invokevirtual 380, 3) := dk_182 1 124 (dk_at dksX4_thaw_2 4 rfl rfl)
theorem dX4_thaw_55 : decode cX4_thaw 55 = .ok (.ireturn, 1) := dk_172 (dk_at dksX4_thaw_2 7 rfl rfl)
abbrev cX4_snowAll : ByteArray := prog_19_method_56_code
def yX4_snowAll : MethodName := ⟨RX4, "snowAll", "()I"⟩
def dkwX4_snowAll_1 : List UInt8 := [96, 60, 132, 2, 1, 167, 255, 231, 27, 172]
abbrev dktX4_snowAll_1 : List UInt8 := dkwX4_snowAll_1 ++ []
def dkwX4_snowAll_0 : List UInt8 := [3, 60, 3, 61, 28, 42, 180, 0, 39, 5, 46, 162, 0, 21, 27, 42, 180, 0, 39, 16, 14, 28, 96, 46]
abbrev dktX4_snowAll_0 : List UInt8 := dkwX4_snowAll_0 ++ dktX4_snowAll_1
theorem dksX4_snowAll_0 : cX4_snowAll.data.toList.drop 0 = dktX4_snowAll_0 := by decide +kernel
theorem dksX4_snowAll_1 : cX4_snowAll.data.toList.drop 24 = dktX4_snowAll_1 := dk_seg dksX4_snowAll_0 24 rfl rfl
theorem dX4_snowAll_0 : decode cX4_snowAll 0 = .ok (.iconst 0, 1) := dk_3 (dk_at dksX4_snowAll_0 0 rfl rfl)
theorem dX4_snowAll_1 : decode cX4_snowAll 1 = .ok (.istore_n 1, 1) := dk_60 (dk_at dksX4_snowAll_0 1 rfl rfl)
theorem dX4_snowAll_2 : decode cX4_snowAll 2 = .ok (.iconst 0, 1) := dk_3 (dk_at dksX4_snowAll_0 2 rfl rfl)
theorem dX4_snowAll_3 : decode cX4_snowAll 3 = .ok (.istore_n 2, 1) := dk_61 (dk_at dksX4_snowAll_0 3 rfl rfl)
theorem dX4_snowAll_4 : decode cX4_snowAll 4 = .ok (.iload_n 2, 1) := dk_28 (dk_at dksX4_snowAll_0 4 rfl rfl)
theorem dX4_snowAll_5 : decode cX4_snowAll 5 = .ok (.aload_n 0, 1) := dk_42 (dk_at dksX4_snowAll_0 5 rfl rfl)
theorem dX4_snowAll_6 : decode cX4_snowAll 6 = .ok (.getfield 39, 3) := dk_180 0 39 (dk_at dksX4_snowAll_0 6 rfl rfl)
theorem dX4_snowAll_9 : decode cX4_snowAll 9 = .ok (.iconst 2, 1) := dk_5 (dk_at dksX4_snowAll_0 9 rfl rfl)
theorem dX4_snowAll_10 : decode cX4_snowAll 10 = .ok (.iaload, 1) := dk_46 (dk_at dksX4_snowAll_0 10 rfl rfl)
theorem dX4_snowAll_11 : decode cX4_snowAll 11 = .ok (.if_icmp .ge 21, 3) := dk_162 0 21 (dk_at dksX4_snowAll_0 11 rfl rfl)
theorem dX4_snowAll_14 : decode cX4_snowAll 14 = .ok (.iload_n 1, 1) := dk_27 (dk_at dksX4_snowAll_0 14 rfl rfl)
theorem dX4_snowAll_15 : decode cX4_snowAll 15 = .ok (.aload_n 0, 1) := dk_42 (dk_at dksX4_snowAll_0 15 rfl rfl)
theorem dX4_snowAll_16 : decode cX4_snowAll 16 = .ok (.getfield 39, 3) := dk_180 0 39 (dk_at dksX4_snowAll_0 16 rfl rfl)
theorem dX4_snowAll_19 : decode cX4_snowAll 19 = .ok (.bipush 14, 2) := dk_16 14 (dk_at dksX4_snowAll_0 19 rfl rfl)
theorem dX4_snowAll_21 : decode cX4_snowAll 21 = .ok (.iload_n 2, 1) := dk_28 (dk_at dksX4_snowAll_0 21 rfl rfl)
theorem dX4_snowAll_22 : decode cX4_snowAll 22 = .ok (.iadd, 1) := dk_96 (dk_at dksX4_snowAll_0 22 rfl rfl)
theorem dX4_snowAll_23 : decode cX4_snowAll 23 = .ok (.iaload, 1) := dk_46 (dk_at dksX4_snowAll_0 23 rfl rfl)
theorem dX4_snowAll_24 : decode cX4_snowAll 24 = .ok (.iadd, 1) := dk_96 (dk_at dksX4_snowAll_1 0 rfl rfl)
theorem dX4_snowAll_25 : decode cX4_snowAll 25 = .ok (.istore_n 1, 1) := dk_60 (dk_at dksX4_snowAll_1 1 rfl rfl)
theorem dX4_snowAll_26 : decode cX4_snowAll 26 = .ok (.iinc 2 1, 3) := dk_132 2 1 (dk_at dksX4_snowAll_1 2 rfl rfl)
theorem dX4_snowAll_29 : decode cX4_snowAll 29 = .ok (.goto (-25), 3) := dk_167 255 231 (dk_at dksX4_snowAll_1 5 rfl rfl)
theorem dX4_snowAll_32 : decode cX4_snowAll 32 = .ok (.iload_n 1, 1) := dk_27 (dk_at dksX4_snowAll_1 8 rfl rfl)
theorem dX4_snowAll_33 : decode cX4_snowAll 33 = .ok (.ireturn, 1) := dk_172 (dk_at dksX4_snowAll_1 9 rfl rfl)
abbrev cX4_ahead : ByteArray := prog_19_method_81_code
def yX4_ahead : MethodName := ⟨RX4, "ahead", "(III)I"⟩
def dkwX4_ahead_4 : List UInt8 := [182, 1, 132, 21, 4, 172]
abbrev dktX4_ahead_4 : List UInt8 := dkwX4_ahead_4 ++ []
def dkwX4_ahead_3 : List UInt8 := [42, 180, 0, 39, 16, 14, 27, 96, 46, 167, 0, 10, 42, 182, 1, 84, 184, 1, 87, 54, 4, 42]
abbrev dktX4_ahead_3 : List UInt8 := dkwX4_ahead_3 ++ dktX4_ahead_4
def dkwX4_ahead_2 : List UInt8 := [3, 54, 4, 21, 4, 28, 162, 0, 14, 42, 182, 1, 116, 87, 132, 4, 1, 167, 255, 242, 29, 154, 0, 15]
abbrev dktX4_ahead_2 : List UInt8 := dkwX4_ahead_2 ++ dktX4_ahead_3
def dkwX4_ahead_1 : List UInt8 := [184, 0, 124, 153, 0, 15, 29, 154, 0, 13, 42, 27, 182, 1, 57, 154, 0, 5, 2, 172, 42, 182, 1, 129]
abbrev dktX4_ahead_1 : List UInt8 := dkwX4_ahead_1 ++ dktX4_ahead_2
def dkwX4_ahead_0 : List UInt8 := [42, 182, 1, 110, 153, 0, 37, 28, 133, 9, 20, 1, 127, 184, 0, 124, 153, 0, 25, 29, 133, 9, 10]
abbrev dktX4_ahead_0 : List UInt8 := dkwX4_ahead_0 ++ dktX4_ahead_1
theorem dksX4_ahead_0 : cX4_ahead.data.toList.drop 0 = dktX4_ahead_0 := by decide +kernel
theorem dksX4_ahead_1 : cX4_ahead.data.toList.drop 23 = dktX4_ahead_1 := dk_seg dksX4_ahead_0 23 rfl rfl
theorem dksX4_ahead_2 : cX4_ahead.data.toList.drop 47 = dktX4_ahead_2 := dk_seg dksX4_ahead_1 24 rfl rfl
theorem dksX4_ahead_3 : cX4_ahead.data.toList.drop 71 = dktX4_ahead_3 := dk_seg dksX4_ahead_2 24 rfl rfl
theorem dksX4_ahead_4 : cX4_ahead.data.toList.drop 93 = dktX4_ahead_4 := dk_seg dksX4_ahead_3 22 rfl rfl
theorem dX4_ahead_0 : decode cX4_ahead 0 = .ok (.aload_n 0, 1) := dk_42 (dk_at dksX4_ahead_0 0 rfl rfl)
theorem dX4_ahead_1 : decode cX4_ahead 1 = .ok (.invokevirtual 366, 3) := dk_182 1 110 (dk_at dksX4_ahead_0 1 rfl rfl)
theorem dX4_ahead_4 : decode cX4_ahead 4 = .ok (.ifCond .eq 37, 3) := dk_153 0 37 (dk_at dksX4_ahead_0 4 rfl rfl)
theorem dX4_ahead_7 : decode cX4_ahead 7 = .ok (.iload_n 2, 1) := dk_28 (dk_at dksX4_ahead_0 7 rfl rfl)
theorem dX4_ahead_8 : decode cX4_ahead 8 = .ok (.i2l, 1) := dk_133 (dk_at dksX4_ahead_0 8 rfl rfl)
theorem dX4_ahead_9 : decode cX4_ahead 9 = .ok (.lconst 0, 1) := dk_9 (dk_at dksX4_ahead_0 9 rfl rfl)
theorem dX4_ahead_10 : decode cX4_ahead 10 = .ok (.ldc2_w 383, 3) := dk_20 1 127 (dk_at dksX4_ahead_0 10 rfl rfl)
theorem dX4_ahead_13 : decode cX4_ahead 13 = .ok (.invokestatic 124, 3) := dk_184 0 124 (dk_at dksX4_ahead_0 13 rfl rfl)
theorem dX4_ahead_16 : decode cX4_ahead 16 = .ok (.ifCond .eq 25, 3) := dk_153 0 25 (dk_at dksX4_ahead_0 16 rfl rfl)
theorem dX4_ahead_19 : decode cX4_ahead 19 = .ok (.iload_n 3, 1) := dk_29 (dk_at dksX4_ahead_0 19 rfl rfl)
theorem dX4_ahead_20 : decode cX4_ahead 20 = .ok (.i2l, 1) := dk_133 (dk_at dksX4_ahead_0 20 rfl rfl)
theorem dX4_ahead_21 : decode cX4_ahead 21 = .ok (.lconst 0, 1) := dk_9 (dk_at dksX4_ahead_0 21 rfl rfl)
theorem dX4_ahead_22 : decode cX4_ahead 22 = .ok (.lconst 1, 1) := dk_10 (dk_at dksX4_ahead_0 22 rfl rfl)
theorem dX4_ahead_23 : decode cX4_ahead 23 = .ok (.invokestatic 124, 3) := dk_184 0 124 (dk_at dksX4_ahead_1 0 rfl rfl)
theorem dX4_ahead_26 : decode cX4_ahead 26 = .ok (.ifCond .eq 15, 3) := dk_153 0 15 (dk_at dksX4_ahead_1 3 rfl rfl)
theorem dX4_ahead_29 : decode cX4_ahead 29 = .ok (.iload_n 3, 1) := dk_29 (dk_at dksX4_ahead_1 6 rfl rfl)
theorem dX4_ahead_30 : decode cX4_ahead 30 = .ok (.ifCond .ne 13, 3) := dk_154 0 13 (dk_at dksX4_ahead_1 7 rfl rfl)
theorem dX4_ahead_33 : decode cX4_ahead 33 = .ok (.aload_n 0, 1) := dk_42 (dk_at dksX4_ahead_1 10 rfl rfl)
theorem dX4_ahead_34 : decode cX4_ahead 34 = .ok (.iload_n 1, 1) := dk_27 (dk_at dksX4_ahead_1 11 rfl rfl)
theorem dX4_ahead_35 : decode cX4_ahead 35 = .ok (.invokevirtual 313, 3) := dk_182 1 57 (dk_at dksX4_ahead_1 12 rfl rfl)
theorem dX4_ahead_38 : decode cX4_ahead 38 = .ok (.ifCond .ne 5, 3) := dk_154 0 5 (dk_at dksX4_ahead_1 15 rfl rfl)
theorem dX4_ahead_41 : decode cX4_ahead 41 = .ok (.iconst (-1), 1) := dk_2 (dk_at dksX4_ahead_1 18 rfl rfl)
theorem dX4_ahead_42 : decode cX4_ahead 42 = .ok (.ireturn, 1) := dk_172 (dk_at dksX4_ahead_1 19 rfl rfl)
theorem dX4_ahead_43 : decode cX4_ahead 43 = .ok (.aload_n 0, 1) := dk_42 (dk_at dksX4_ahead_1 20 rfl rfl)
theorem dX4_ahead_44 : decode cX4_ahead 44 = .ok (.invokevirtual 385, 3) := dk_182 1 129 (dk_at dksX4_ahead_1 21 rfl rfl)
theorem dX4_ahead_47 : decode cX4_ahead 47 = .ok (.iconst 0, 1) := dk_3 (dk_at dksX4_ahead_2 0 rfl rfl)
theorem dX4_ahead_48 : decode cX4_ahead 48 = .ok (.istore 4, 2) := dk_54 4 (dk_at dksX4_ahead_2 1 rfl rfl)
theorem dX4_ahead_50 : decode cX4_ahead 50 = .ok (.iload 4, 2) := dk_21 4 (dk_at dksX4_ahead_2 3 rfl rfl)
theorem dX4_ahead_52 : decode cX4_ahead 52 = .ok (.iload_n 2, 1) := dk_28 (dk_at dksX4_ahead_2 5 rfl rfl)
theorem dX4_ahead_53 : decode cX4_ahead 53 = .ok (.if_icmp .ge 14, 3) := dk_162 0 14 (dk_at dksX4_ahead_2 6 rfl rfl)
theorem dX4_ahead_56 : decode cX4_ahead 56 = .ok (.aload_n 0, 1) := dk_42 (dk_at dksX4_ahead_2 9 rfl rfl)
theorem dX4_ahead_57 : decode cX4_ahead 57 = .ok (.invokevirtual 372, 3) := dk_182 1 116 (dk_at dksX4_ahead_2 10 rfl rfl)
theorem dX4_ahead_60 : decode cX4_ahead 60 = .ok (.pop, 1) := dk_87 (dk_at dksX4_ahead_2 13 rfl rfl)
theorem dX4_ahead_61 : decode cX4_ahead 61 = .ok (.iinc 4 1, 3) := dk_132 4 1 (dk_at dksX4_ahead_2 14 rfl rfl)
theorem dX4_ahead_64 : decode cX4_ahead 64 = .ok (.goto (-14), 3) := dk_167 255 242 (dk_at dksX4_ahead_2 17 rfl rfl)
theorem dX4_ahead_67 : decode cX4_ahead 67 = .ok (.iload_n 3, 1) := dk_29 (dk_at dksX4_ahead_2 20 rfl rfl)
theorem dX4_ahead_68 : decode cX4_ahead 68 = .ok (.ifCond .ne 15, 3) := dk_154 0 15 (dk_at dksX4_ahead_2 21 rfl rfl)
theorem dX4_ahead_71 : decode cX4_ahead 71 = .ok (.aload_n 0, 1) := dk_42 (dk_at dksX4_ahead_3 0 rfl rfl)
theorem dX4_ahead_72 : decode cX4_ahead 72 = .ok (.getfield 39, 3) := dk_180 0 39 (dk_at dksX4_ahead_3 1 rfl rfl)
theorem dX4_ahead_75 : decode cX4_ahead 75 = .ok (.bipush 14, 2) := dk_16 14 (dk_at dksX4_ahead_3 4 rfl rfl)
theorem dX4_ahead_77 : decode cX4_ahead 77 = .ok (.iload_n 1, 1) := dk_27 (dk_at dksX4_ahead_3 6 rfl rfl)
theorem dX4_ahead_78 : decode cX4_ahead 78 = .ok (.iadd, 1) := dk_96 (dk_at dksX4_ahead_3 7 rfl rfl)
theorem dX4_ahead_79 : decode cX4_ahead 79 = .ok (.iaload, 1) := dk_46 (dk_at dksX4_ahead_3 8 rfl rfl)
theorem dX4_ahead_80 : decode cX4_ahead 80 = .ok (.goto 10, 3) := dk_167 0 10 (dk_at dksX4_ahead_3 9 rfl rfl)
theorem dX4_ahead_83 : decode cX4_ahead 83 = .ok (.aload_n 0, 1) := dk_42 (dk_at dksX4_ahead_3 12 rfl rfl)
theorem dX4_ahead_84 : decode cX4_ahead 84 = .ok (.invokevirtual 340, 3) := dk_182 1 84 (dk_at dksX4_ahead_3 13 rfl rfl)
theorem dX4_ahead_87 : decode cX4_ahead 87 = .ok (.invokestatic 343, 3) := dk_184 1 87 (dk_at dksX4_ahead_3 16 rfl rfl)
theorem dX4_ahead_90 : decode cX4_ahead 90 = .ok (.istore 4, 2) := dk_54 4 (dk_at dksX4_ahead_3 19 rfl rfl)
theorem dX4_ahead_92 : decode cX4_ahead 92 = .ok (.aload_n 0, 1) := dk_42 (dk_at dksX4_ahead_3 21 rfl rfl)
theorem dX4_ahead_93 : decode cX4_ahead 93 = .ok (.invokevirtual 388, 3) := dk_182 1 132 (dk_at dksX4_ahead_4 0 rfl rfl)
theorem dX4_ahead_96 : decode cX4_ahead 96 = .ok (.iload 4, 2) := dk_21 4 (dk_at dksX4_ahead_4 3 rfl rfl)
theorem dX4_ahead_98 : decode cX4_ahead 98 = .ok (.ireturn, 1) := dk_172 (dk_at dksX4_ahead_4 5 rfl rfl)
abbrev cX4_keeps : ByteArray := prog_19_method_79_code
def yX4_keeps : MethodName := ⟨RX4, "keeps", "()V"⟩
def dkwX4_keeps_1 : List UInt8 := [132, 1, 1, 167, 255, 232, 177]
abbrev dktX4_keeps_1 : List UInt8 := dkwX4_keeps_1 ++ []
def dkwX4_keeps_0 : List UInt8 := [3, 60, 27, 16, 20, 162, 0, 24, 42, 180, 0, 55, 27, 42, 180, 0, 39, 16, 10, 27, 96, 46, 79]
abbrev dktX4_keeps_0 : List UInt8 := dkwX4_keeps_0 ++ dktX4_keeps_1
theorem dksX4_keeps_0 : cX4_keeps.data.toList.drop 0 = dktX4_keeps_0 := by decide +kernel
theorem dksX4_keeps_1 : cX4_keeps.data.toList.drop 23 = dktX4_keeps_1 := dk_seg dksX4_keeps_0 23 rfl rfl
theorem dX4_keeps_0 : decode cX4_keeps 0 = .ok (.iconst 0, 1) := dk_3 (dk_at dksX4_keeps_0 0 rfl rfl)
theorem dX4_keeps_1 : decode cX4_keeps 1 = .ok (.istore_n 1, 1) := dk_60 (dk_at dksX4_keeps_0 1 rfl rfl)
theorem dX4_keeps_2 : decode cX4_keeps 2 = .ok (.iload_n 1, 1) := dk_27 (dk_at dksX4_keeps_0 2 rfl rfl)
theorem dX4_keeps_3 : decode cX4_keeps 3 = .ok (.bipush 20, 2) := dk_16 20 (dk_at dksX4_keeps_0 3 rfl rfl)
theorem dX4_keeps_5 : decode cX4_keeps 5 = .ok (.if_icmp .ge 24, 3) := dk_162 0 24 (dk_at dksX4_keeps_0 5 rfl rfl)
theorem dX4_keeps_8 : decode cX4_keeps 8 = .ok (.aload_n 0, 1) := dk_42 (dk_at dksX4_keeps_0 8 rfl rfl)
theorem dX4_keeps_9 : decode cX4_keeps 9 = .ok (.getfield 55, 3) := dk_180 0 55 (dk_at dksX4_keeps_0 9 rfl rfl)
theorem dX4_keeps_12 : decode cX4_keeps 12 = .ok (.iload_n 1, 1) := dk_27 (dk_at dksX4_keeps_0 12 rfl rfl)
theorem dX4_keeps_13 : decode cX4_keeps 13 = .ok (.aload_n 0, 1) := dk_42 (dk_at dksX4_keeps_0 13 rfl rfl)
theorem dX4_keeps_14 : decode cX4_keeps 14 = .ok (.getfield 39, 3) := dk_180 0 39 (dk_at dksX4_keeps_0 14 rfl rfl)
theorem dX4_keeps_17 : decode cX4_keeps 17 = .ok (.bipush 10, 2) := dk_16 10 (dk_at dksX4_keeps_0 17 rfl rfl)
theorem dX4_keeps_19 : decode cX4_keeps 19 = .ok (.iload_n 1, 1) := dk_27 (dk_at dksX4_keeps_0 19 rfl rfl)
theorem dX4_keeps_20 : decode cX4_keeps 20 = .ok (.iadd, 1) := dk_96 (dk_at dksX4_keeps_0 20 rfl rfl)
theorem dX4_keeps_21 : decode cX4_keeps 21 = .ok (.iaload, 1) := dk_46 (dk_at dksX4_keeps_0 21 rfl rfl)
theorem dX4_keeps_22 : decode cX4_keeps 22 = .ok (.iastore, 1) := dk_79 (dk_at dksX4_keeps_0 22 rfl rfl)
theorem dX4_keeps_23 : decode cX4_keeps 23 = .ok (.iinc 1 1, 3) := dk_132 1 1 (dk_at dksX4_keeps_1 0 rfl rfl)
theorem dX4_keeps_26 : decode cX4_keeps 26 = .ok (.goto (-24), 3) := dk_167 255 232 (dk_at dksX4_keeps_1 3 rfl rfl)
theorem dX4_keeps_29 : decode cX4_keeps 29 = .ok (.return_, 1) := dk_177 (dk_at dksX4_keeps_1 6 rfl rfl)
abbrev cX4_laysBack : ByteArray := prog_19_method_80_code
def yX4_laysBack : MethodName := ⟨RX4, "laysBack", "()V"⟩
def dkwX4_laysBack_1 : List UInt8 := [132, 1, 1, 167, 255, 232, 177]
abbrev dktX4_laysBack_1 : List UInt8 := dkwX4_laysBack_1 ++ []
def dkwX4_laysBack_0 : List UInt8 := [3, 60, 27, 16, 20, 162, 0, 24, 42, 180, 0, 39, 16, 10, 27, 96, 42, 180, 0, 55, 27, 46, 79]
abbrev dktX4_laysBack_0 : List UInt8 := dkwX4_laysBack_0 ++ dktX4_laysBack_1
theorem dksX4_laysBack_0 : cX4_laysBack.data.toList.drop 0 = dktX4_laysBack_0 := by decide +kernel
theorem dksX4_laysBack_1 : cX4_laysBack.data.toList.drop 23 = dktX4_laysBack_1 := dk_seg dksX4_laysBack_0 23 rfl rfl
theorem dX4_laysBack_0 : decode cX4_laysBack 0 = .ok (.iconst 0, 1) := dk_3 (dk_at dksX4_laysBack_0 0 rfl rfl)
theorem dX4_laysBack_1 : decode cX4_laysBack 1 = .ok (.istore_n 1, 1) := dk_60 (dk_at dksX4_laysBack_0 1 rfl rfl)
theorem dX4_laysBack_2 : decode cX4_laysBack 2 = .ok (.iload_n 1, 1) := dk_27 (dk_at dksX4_laysBack_0 2 rfl rfl)
theorem dX4_laysBack_3 : decode cX4_laysBack 3 = .ok (.bipush 20, 2) := dk_16 20 (dk_at dksX4_laysBack_0 3 rfl rfl)
theorem dX4_laysBack_5 : decode cX4_laysBack 5 = .ok (.if_icmp .ge 24, 3) := dk_162 0 24 (dk_at dksX4_laysBack_0 5 rfl rfl)
theorem dX4_laysBack_8 : decode cX4_laysBack 8 = .ok (.aload_n 0, 1) := dk_42 (dk_at dksX4_laysBack_0 8 rfl rfl)
theorem dX4_laysBack_9 : decode cX4_laysBack 9 = .ok (.getfield 39, 3) := dk_180 0 39 (dk_at dksX4_laysBack_0 9 rfl rfl)
theorem dX4_laysBack_12 : decode cX4_laysBack 12 = .ok (.bipush 10, 2) := dk_16 10 (dk_at dksX4_laysBack_0 12 rfl rfl)
theorem dX4_laysBack_14 : decode cX4_laysBack 14 = .ok (.iload_n 1, 1) := dk_27 (dk_at dksX4_laysBack_0 14 rfl rfl)
theorem dX4_laysBack_15 : decode cX4_laysBack 15 = .ok (.iadd, 1) := dk_96 (dk_at dksX4_laysBack_0 15 rfl rfl)
theorem dX4_laysBack_16 : decode cX4_laysBack 16 = .ok (.aload_n 0, 1) := dk_42 (dk_at dksX4_laysBack_0 16 rfl rfl)
theorem dX4_laysBack_17 : decode cX4_laysBack 17 = .ok (.getfield 55, 3) := dk_180 0 55 (dk_at dksX4_laysBack_0 17 rfl rfl)
theorem dX4_laysBack_20 : decode cX4_laysBack 20 = .ok (.iload_n 1, 1) := dk_27 (dk_at dksX4_laysBack_0 20 rfl rfl)
theorem dX4_laysBack_21 : decode cX4_laysBack 21 = .ok (.iaload, 1) := dk_46 (dk_at dksX4_laysBack_0 21 rfl rfl)
theorem dX4_laysBack_22 : decode cX4_laysBack 22 = .ok (.iastore, 1) := dk_79 (dk_at dksX4_laysBack_0 22 rfl rfl)
theorem dX4_laysBack_23 : decode cX4_laysBack 23 = .ok (.iinc 1 1, 3) := dk_132 1 1 (dk_at dksX4_laysBack_1 0 rfl rfl)
theorem dX4_laysBack_26 : decode cX4_laysBack 26 = .ok (.goto (-24), 3) := dk_167 255 232 (dk_at dksX4_laysBack_1 3 rfl rfl)
theorem dX4_laysBack_29 : decode cX4_laysBack 29 = .ok (.return_, 1) := dk_177 (dk_at dksX4_laysBack_1 6 rfl rfl)
abbrev cX4_stays : ByteArray := prog_19_method_82_code
def yX4_stays : MethodName := ⟨RX4, "stays", "(I)I"⟩
def dkwX4_stays_3 : List UInt8 := [100, 28, 2, 130, 126, 172]
abbrev dktX4_stays_3 : List UInt8 := dkwX4_stays_3 ++ []
def dkwX4_stays_2 : List UInt8 := [182, 1, 84, 128, 61, 132, 3, 1, 167, 255, 236, 42, 182, 1, 132, 4, 42, 180, 0, 39, 5, 46, 120, 4]
abbrev dktX4_stays_2 : List UInt8 := dkwX4_stays_2 ++ dktX4_stays_3
def dkwX4_stays_1 : List UInt8 := [182, 1, 84, 61, 42, 182, 1, 129, 3, 62, 29, 27, 162, 0, 21, 42, 182, 1, 116, 87, 28, 42]
abbrev dktX4_stays_1 : List UInt8 := dkwX4_stays_1 ++ dktX4_stays_2
def dkwX4_stays_0 : List UInt8 := [42, 182, 1, 110, 153, 0, 15, 27, 133, 10, 20, 1, 135, 184, 0, 124, 154, 0, 5, 2, 172, 42]
abbrev dktX4_stays_0 : List UInt8 := dkwX4_stays_0 ++ dktX4_stays_1
theorem dksX4_stays_0 : cX4_stays.data.toList.drop 0 = dktX4_stays_0 := by decide +kernel
theorem dksX4_stays_1 : cX4_stays.data.toList.drop 22 = dktX4_stays_1 := dk_seg dksX4_stays_0 22 rfl rfl
theorem dksX4_stays_2 : cX4_stays.data.toList.drop 44 = dktX4_stays_2 := dk_seg dksX4_stays_1 22 rfl rfl
theorem dksX4_stays_3 : cX4_stays.data.toList.drop 68 = dktX4_stays_3 := dk_seg dksX4_stays_2 24 rfl rfl
theorem dX4_stays_0 : decode cX4_stays 0 = .ok (.aload_n 0, 1) := dk_42 (dk_at dksX4_stays_0 0 rfl rfl)
theorem dX4_stays_1 : decode cX4_stays 1 = .ok (.invokevirtual 366, 3) := dk_182 1 110 (dk_at dksX4_stays_0 1 rfl rfl)
theorem dX4_stays_4 : decode cX4_stays 4 = .ok (.ifCond .eq 15, 3) := dk_153 0 15 (dk_at dksX4_stays_0 4 rfl rfl)
theorem dX4_stays_7 : decode cX4_stays 7 = .ok (.iload_n 1, 1) := dk_27 (dk_at dksX4_stays_0 7 rfl rfl)
theorem dX4_stays_8 : decode cX4_stays 8 = .ok (.i2l, 1) := dk_133 (dk_at dksX4_stays_0 8 rfl rfl)
theorem dX4_stays_9 : decode cX4_stays 9 = .ok (.lconst 1, 1) := dk_10 (dk_at dksX4_stays_0 9 rfl rfl)
theorem dX4_stays_10 : decode cX4_stays 10 = .ok (.ldc2_w 391, 3) := dk_20 1 135 (dk_at dksX4_stays_0 10 rfl rfl)
theorem dX4_stays_13 : decode cX4_stays 13 = .ok (.invokestatic 124, 3) := dk_184 0 124 (dk_at dksX4_stays_0 13 rfl rfl)
theorem dX4_stays_16 : decode cX4_stays 16 = .ok (.ifCond .ne 5, 3) := dk_154 0 5 (dk_at dksX4_stays_0 16 rfl rfl)
theorem dX4_stays_19 : decode cX4_stays 19 = .ok (.iconst (-1), 1) := dk_2 (dk_at dksX4_stays_0 19 rfl rfl)
theorem dX4_stays_20 : decode cX4_stays 20 = .ok (.ireturn, 1) := dk_172 (dk_at dksX4_stays_0 20 rfl rfl)
theorem dX4_stays_21 : decode cX4_stays 21 = .ok (.aload_n 0, 1) := dk_42 (dk_at dksX4_stays_0 21 rfl rfl)
theorem dX4_stays_22 : decode cX4_stays 22 = .ok (.invokevirtual 340, 3) := dk_182 1 84 (dk_at dksX4_stays_1 0 rfl rfl)
theorem dX4_stays_25 : decode cX4_stays 25 = .ok (.istore_n 2, 1) := dk_61 (dk_at dksX4_stays_1 3 rfl rfl)
theorem dX4_stays_26 : decode cX4_stays 26 = .ok (.aload_n 0, 1) := dk_42 (dk_at dksX4_stays_1 4 rfl rfl)
theorem dX4_stays_27 : decode cX4_stays 27 = .ok (.invokevirtual 385, 3) := dk_182 1 129 (dk_at dksX4_stays_1 5 rfl rfl)
theorem dX4_stays_30 : decode cX4_stays 30 = .ok (.iconst 0, 1) := dk_3 (dk_at dksX4_stays_1 8 rfl rfl)
theorem dX4_stays_31 : decode cX4_stays 31 = .ok (.istore_n 3, 1) := dk_62 (dk_at dksX4_stays_1 9 rfl rfl)
theorem dX4_stays_32 : decode cX4_stays 32 = .ok (.iload_n 3, 1) := dk_29 (dk_at dksX4_stays_1 10 rfl rfl)
theorem dX4_stays_33 : decode cX4_stays 33 = .ok (.iload_n 1, 1) := dk_27 (dk_at dksX4_stays_1 11 rfl rfl)
theorem dX4_stays_34 : decode cX4_stays 34 = .ok (.if_icmp .ge 21, 3) := dk_162 0 21 (dk_at dksX4_stays_1 12 rfl rfl)
theorem dX4_stays_37 : decode cX4_stays 37 = .ok (.aload_n 0, 1) := dk_42 (dk_at dksX4_stays_1 15 rfl rfl)
theorem dX4_stays_38 : decode cX4_stays 38 = .ok (.invokevirtual 372, 3) := dk_182 1 116 (dk_at dksX4_stays_1 16 rfl rfl)
theorem dX4_stays_41 : decode cX4_stays 41 = .ok (.pop, 1) := dk_87 (dk_at dksX4_stays_1 19 rfl rfl)
theorem dX4_stays_42 : decode cX4_stays 42 = .ok (.iload_n 2, 1) := dk_28 (dk_at dksX4_stays_1 20 rfl rfl)
theorem dX4_stays_43 : decode cX4_stays 43 = .ok (.aload_n 0, 1) := dk_42 (dk_at dksX4_stays_1 21 rfl rfl)
theorem dX4_stays_44 : decode cX4_stays 44 = .ok (.invokevirtual 340, 3) := dk_182 1 84 (dk_at dksX4_stays_2 0 rfl rfl)
theorem dX4_stays_47 : decode cX4_stays 47 = .ok (.ior, 1) := dk_128 (dk_at dksX4_stays_2 3 rfl rfl)
theorem dX4_stays_48 : decode cX4_stays 48 = .ok (.istore_n 2, 1) := dk_61 (dk_at dksX4_stays_2 4 rfl rfl)
theorem dX4_stays_49 : decode cX4_stays 49 = .ok (.iinc 3 1, 3) := dk_132 3 1 (dk_at dksX4_stays_2 5 rfl rfl)
theorem dX4_stays_52 : decode cX4_stays 52 = .ok (.goto (-20), 3) := dk_167 255 236 (dk_at dksX4_stays_2 8 rfl rfl)
theorem dX4_stays_55 : decode cX4_stays 55 = .ok (.aload_n 0, 1) := dk_42 (dk_at dksX4_stays_2 11 rfl rfl)
theorem dX4_stays_56 : decode cX4_stays 56 = .ok (.invokevirtual 388, 3) := dk_182 1 132 (dk_at dksX4_stays_2 12 rfl rfl)
theorem dX4_stays_59 : decode cX4_stays 59 = .ok (.iconst 1, 1) := dk_4 (dk_at dksX4_stays_2 15 rfl rfl)
theorem dX4_stays_60 : decode cX4_stays 60 = .ok (.aload_n 0, 1) := dk_42 (dk_at dksX4_stays_2 16 rfl rfl)
theorem dX4_stays_61 : decode cX4_stays 61 = .ok (.getfield 39, 3) := dk_180 0 39 (dk_at dksX4_stays_2 17 rfl rfl)
theorem dX4_stays_64 : decode cX4_stays 64 = .ok (.iconst 2, 1) := dk_5 (dk_at dksX4_stays_2 20 rfl rfl)
theorem dX4_stays_65 : decode cX4_stays 65 = .ok (.iaload, 1) := dk_46 (dk_at dksX4_stays_2 21 rfl rfl)
theorem dX4_stays_66 : decode cX4_stays 66 = .ok (.ishl, 1) := dk_120 (dk_at dksX4_stays_2 22 rfl rfl)
theorem dX4_stays_67 : decode cX4_stays 67 = .ok (.iconst 1, 1) := dk_4 (dk_at dksX4_stays_2 23 rfl rfl)
theorem dX4_stays_68 : decode cX4_stays 68 = .ok (.isub, 1) := dk_100 (dk_at dksX4_stays_3 0 rfl rfl)
theorem dX4_stays_69 : decode cX4_stays 69 = .ok (.iload_n 2, 1) := dk_28 (dk_at dksX4_stays_3 1 rfl rfl)
theorem dX4_stays_70 : decode cX4_stays 70 = .ok (.iconst (-1), 1) := dk_2 (dk_at dksX4_stays_3 2 rfl rfl)
theorem dX4_stays_71 : decode cX4_stays 71 = .ok (.ixor, 1) := dk_130 (dk_at dksX4_stays_3 3 rfl rfl)
theorem dX4_stays_72 : decode cX4_stays 72 = .ok (.iand, 1) := dk_126 (dk_at dksX4_stays_3 4 rfl rfl)
theorem dX4_stays_73 : decode cX4_stays 73 = .ok (.ireturn, 1) := dk_172 (dk_at dksX4_stays_3 5 rfl rfl)
abbrev cX4_closes_2 : ByteArray := prog_19_method_83_code
def yX4_closes_2 : MethodName := ⟨RX4, "closes", "(I)I"⟩
def dkwX4_closes_2_2 : List UInt8 := [182, 1, 116, 87, 132, 3, 1, 167, 255, 222, 42, 182, 1, 132, 28, 172]
abbrev dktX4_closes_2_2 : List UInt8 := dkwX4_closes_2_2 ++ []
def dkwX4_closes_2_1 : List UInt8 := [162, 0, 34, 28, 156, 0, 30, 42, 27, 182, 1, 51, 153, 0, 11, 42, 180, 0, 39, 16, 10, 46, 61, 42]
abbrev dktX4_closes_2_1 : List UInt8 := dkwX4_closes_2_1 ++ dktX4_closes_2_2
def dkwX4_closes_2_0 : List UInt8 := [42, 27, 182, 1, 57, 154, 0, 5, 2, 172, 16, 254, 61, 42, 182, 1, 129, 3, 62, 29, 16, 100]
abbrev dktX4_closes_2_0 : List UInt8 := dkwX4_closes_2_0 ++ dktX4_closes_2_1
theorem dksX4_closes_2_0 : cX4_closes_2.data.toList.drop 0 = dktX4_closes_2_0 := by decide +kernel
theorem dksX4_closes_2_1 : cX4_closes_2.data.toList.drop 22 = dktX4_closes_2_1 := dk_seg dksX4_closes_2_0 22 rfl rfl
theorem dksX4_closes_2_2 : cX4_closes_2.data.toList.drop 46 = dktX4_closes_2_2 := dk_seg dksX4_closes_2_1 24 rfl rfl
theorem dX4_closes_2_0 : decode cX4_closes_2 0 = .ok (.aload_n 0, 1) := dk_42 (dk_at dksX4_closes_2_0 0 rfl rfl)
theorem dX4_closes_2_1 : decode cX4_closes_2 1 = .ok (.iload_n 1, 1) := dk_27 (dk_at dksX4_closes_2_0 1 rfl rfl)
theorem dX4_closes_2_2 : decode cX4_closes_2 2 = .ok (.invokevirtual 313, 3) := dk_182 1 57 (dk_at dksX4_closes_2_0 2 rfl rfl)
theorem dX4_closes_2_5 : decode cX4_closes_2 5 = .ok (.ifCond .ne 5, 3) := dk_154 0 5 (dk_at dksX4_closes_2_0 5 rfl rfl)
theorem dX4_closes_2_8 : decode cX4_closes_2 8 = .ok (.iconst (-1), 1) := dk_2 (dk_at dksX4_closes_2_0 8 rfl rfl)
theorem dX4_closes_2_9 : decode cX4_closes_2 9 = .ok (.ireturn, 1) := dk_172 (dk_at dksX4_closes_2_0 9 rfl rfl)
theorem dX4_closes_2_10 : decode cX4_closes_2 10 = .ok (.bipush (-2), 2) := dk_16 254 (dk_at dksX4_closes_2_0 10 rfl rfl)
theorem dX4_closes_2_12 : decode cX4_closes_2 12 = .ok (.istore_n 2, 1) := dk_61 (dk_at dksX4_closes_2_0 12 rfl rfl)
theorem dX4_closes_2_13 : decode cX4_closes_2 13 = .ok (.aload_n 0, 1) := dk_42 (dk_at dksX4_closes_2_0 13 rfl rfl)
theorem dX4_closes_2_14 : decode cX4_closes_2 14 = .ok (.invokevirtual 385, 3) := dk_182 1 129 (dk_at dksX4_closes_2_0 14 rfl rfl)
theorem dX4_closes_2_17 : decode cX4_closes_2 17 = .ok (.iconst 0, 1) := dk_3 (dk_at dksX4_closes_2_0 17 rfl rfl)
theorem dX4_closes_2_18 : decode cX4_closes_2 18 = .ok (.istore_n 3, 1) := dk_62 (dk_at dksX4_closes_2_0 18 rfl rfl)
theorem dX4_closes_2_19 : decode cX4_closes_2 19 = .ok (.iload_n 3, 1) := dk_29 (dk_at dksX4_closes_2_0 19 rfl rfl)
theorem dX4_closes_2_20 : decode cX4_closes_2 20 = .ok (.bipush 100, 2) := dk_16 100 (dk_at dksX4_closes_2_0 20 rfl rfl)
theorem dX4_closes_2_22 : decode cX4_closes_2 22 = .ok (.if_icmp .ge 34, 3) := dk_162 0 34 (dk_at dksX4_closes_2_1 0 rfl rfl)
theorem dX4_closes_2_25 : decode cX4_closes_2 25 = .ok (.iload_n 2, 1) := dk_28 (dk_at dksX4_closes_2_1 3 rfl rfl)
theorem dX4_closes_2_26 : decode cX4_closes_2 26 = .ok (.ifCond .ge 30, 3) := dk_156 0 30 (dk_at dksX4_closes_2_1 4 rfl rfl)
theorem dX4_closes_2_29 : decode cX4_closes_2 29 = .ok (.aload_n 0, 1) := dk_42 (dk_at dksX4_closes_2_1 7 rfl rfl)
theorem dX4_closes_2_30 : decode cX4_closes_2 30 = .ok (.iload_n 1, 1) := dk_27 (dk_at dksX4_closes_2_1 8 rfl rfl)
theorem dX4_closes_2_31 : decode cX4_closes_2 31 = .ok (.invokevirtual 307, 3) := dk_182 1 51 (dk_at dksX4_closes_2_1 9 rfl rfl)
theorem dX4_closes_2_34 : decode cX4_closes_2 34 = .ok (.ifCond .eq 11, 3) := dk_153 0 11 (dk_at dksX4_closes_2_1 12 rfl rfl)
theorem dX4_closes_2_37 : decode cX4_closes_2 37 = .ok (.aload_n 0, 1) := dk_42 (dk_at dksX4_closes_2_1 15 rfl rfl)
theorem dX4_closes_2_38 : decode cX4_closes_2 38 = .ok (.getfield 39, 3) := dk_180 0 39 (dk_at dksX4_closes_2_1 16 rfl rfl)
theorem dX4_closes_2_41 : decode cX4_closes_2 41 = .ok (.bipush 10, 2) := dk_16 10 (dk_at dksX4_closes_2_1 19 rfl rfl)
theorem dX4_closes_2_43 : decode cX4_closes_2 43 = .ok (.iaload, 1) := dk_46 (dk_at dksX4_closes_2_1 21 rfl rfl)
theorem dX4_closes_2_44 : decode cX4_closes_2 44 = .ok (.istore_n 2, 1) := dk_61 (dk_at dksX4_closes_2_1 22 rfl rfl)
theorem dX4_closes_2_45 : decode cX4_closes_2 45 = .ok (.aload_n 0, 1) := dk_42 (dk_at dksX4_closes_2_1 23 rfl rfl)
theorem dX4_closes_2_46 : decode cX4_closes_2 46 = .ok (.invokevirtual 372, 3) := dk_182 1 116 (dk_at dksX4_closes_2_2 0 rfl rfl)
theorem dX4_closes_2_49 : decode cX4_closes_2 49 = .ok (.pop, 1) := dk_87 (dk_at dksX4_closes_2_2 3 rfl rfl)
theorem dX4_closes_2_50 : decode cX4_closes_2 50 = .ok (.iinc 3 1, 3) := dk_132 3 1 (dk_at dksX4_closes_2_2 4 rfl rfl)
theorem dX4_closes_2_53 : decode cX4_closes_2 53 = .ok (.goto (-34), 3) := dk_167 255 222 (dk_at dksX4_closes_2_2 7 rfl rfl)
theorem dX4_closes_2_56 : decode cX4_closes_2 56 = .ok (.aload_n 0, 1) := dk_42 (dk_at dksX4_closes_2_2 10 rfl rfl)
theorem dX4_closes_2_57 : decode cX4_closes_2 57 = .ok (.invokevirtual 388, 3) := dk_182 1 132 (dk_at dksX4_closes_2_2 11 rfl rfl)
theorem dX4_closes_2_60 : decode cX4_closes_2 60 = .ok (.iload_n 2, 1) := dk_28 (dk_at dksX4_closes_2_2 14 rfl rfl)
theorem dX4_closes_2_61 : decode cX4_closes_2 61 = .ok (.ireturn, 1) := dk_172 (dk_at dksX4_closes_2_2 15 rfl rfl)
abbrev cX4_ring : ByteArray := prog_19_method_85_code
def yX4_ring : MethodName := ⟨RX4, "ring", "(I)I"⟩
def dkwX4_ring_6 : List UInt8 := [172]
abbrev dktX4_ring_6 : List UInt8 := dkwX4_ring_6 ++ []
def dkwX4_ring_5 : List UInt8 := [46, 28, 96, 167, 0, 6, 29, 28, 100, 172, 132, 3, 1, 167, 255, 218, 132, 2, 1, 167, 255, 202, 16, 254]
abbrev dktX4_ring_5 : List UInt8 := dkwX4_ring_5 ++ dktX4_ring_6
def dkwX4_ring_4 : List UInt8 := [16, 60, 163, 0, 38, 42, 28, 29, 182, 1, 137, 153, 0, 23, 27, 154, 0, 15, 42, 180, 0, 39, 16, 10]
abbrev dktX4_ring_4 : List UInt8 := dkwX4_ring_4 ++ dktX4_ring_5
def dkwX4_ring_3 : List UInt8 := [132, 2, 1, 167, 255, 208, 42, 182, 1, 132, 3, 61, 28, 16, 60, 162, 0, 54, 28, 4, 96, 62, 29]
abbrev dktX4_ring_3 : List UInt8 := dkwX4_ring_3 ++ dktX4_ring_4
def dkwX4_ring_2 : List UInt8 := [96, 42, 180, 0, 39, 16, 14, 29, 96, 46, 79, 132, 3, 1, 167, 255, 227, 42, 182, 1, 116, 87]
abbrev dktX4_ring_2 : List UInt8 := dkwX4_ring_2 ++ dktX4_ring_3
def dkwX4_ring_1 : List UInt8 := [61, 28, 16, 60, 163, 0, 48, 3, 62, 29, 16, 8, 162, 0, 29, 42, 180, 0, 58, 16, 8, 28, 104, 29]
abbrev dktX4_ring_1 : List UInt8 := dkwX4_ring_1 ++ dktX4_ring_2
def dkwX4_ring_0 : List UInt8 := [42, 182, 1, 110, 153, 0, 13, 27, 133, 9, 10, 184, 0, 124, 154, 0, 5, 2, 172, 42, 182, 1, 129, 3]
abbrev dktX4_ring_0 : List UInt8 := dkwX4_ring_0 ++ dktX4_ring_1
theorem dksX4_ring_0 : cX4_ring.data.toList.drop 0 = dktX4_ring_0 := by decide +kernel
theorem dksX4_ring_1 : cX4_ring.data.toList.drop 24 = dktX4_ring_1 := dk_seg dksX4_ring_0 24 rfl rfl
theorem dksX4_ring_2 : cX4_ring.data.toList.drop 48 = dktX4_ring_2 := dk_seg dksX4_ring_1 24 rfl rfl
theorem dksX4_ring_3 : cX4_ring.data.toList.drop 70 = dktX4_ring_3 := dk_seg dksX4_ring_2 22 rfl rfl
theorem dksX4_ring_4 : cX4_ring.data.toList.drop 93 = dktX4_ring_4 := dk_seg dksX4_ring_3 23 rfl rfl
theorem dksX4_ring_5 : cX4_ring.data.toList.drop 117 = dktX4_ring_5 := dk_seg dksX4_ring_4 24 rfl rfl
theorem dksX4_ring_6 : cX4_ring.data.toList.drop 141 = dktX4_ring_6 := dk_seg dksX4_ring_5 24 rfl rfl
theorem dX4_ring_0 : decode cX4_ring 0 = .ok (.aload_n 0, 1) := dk_42 (dk_at dksX4_ring_0 0 rfl rfl)
theorem dX4_ring_1 : decode cX4_ring 1 = .ok (.invokevirtual 366, 3) := dk_182 1 110 (dk_at dksX4_ring_0 1 rfl rfl)
theorem dX4_ring_4 : decode cX4_ring 4 = .ok (.ifCond .eq 13, 3) := dk_153 0 13 (dk_at dksX4_ring_0 4 rfl rfl)
theorem dX4_ring_7 : decode cX4_ring 7 = .ok (.iload_n 1, 1) := dk_27 (dk_at dksX4_ring_0 7 rfl rfl)
theorem dX4_ring_8 : decode cX4_ring 8 = .ok (.i2l, 1) := dk_133 (dk_at dksX4_ring_0 8 rfl rfl)
theorem dX4_ring_9 : decode cX4_ring 9 = .ok (.lconst 0, 1) := dk_9 (dk_at dksX4_ring_0 9 rfl rfl)
theorem dX4_ring_10 : decode cX4_ring 10 = .ok (.lconst 1, 1) := dk_10 (dk_at dksX4_ring_0 10 rfl rfl)
theorem dX4_ring_11 : decode cX4_ring 11 = .ok (.invokestatic 124, 3) := dk_184 0 124 (dk_at dksX4_ring_0 11 rfl rfl)
theorem dX4_ring_14 : decode cX4_ring 14 = .ok (.ifCond .ne 5, 3) := dk_154 0 5 (dk_at dksX4_ring_0 14 rfl rfl)
theorem dX4_ring_17 : decode cX4_ring 17 = .ok (.iconst (-1), 1) := dk_2 (dk_at dksX4_ring_0 17 rfl rfl)
theorem dX4_ring_18 : decode cX4_ring 18 = .ok (.ireturn, 1) := dk_172 (dk_at dksX4_ring_0 18 rfl rfl)
theorem dX4_ring_19 : decode cX4_ring 19 = .ok (.aload_n 0, 1) := dk_42 (dk_at dksX4_ring_0 19 rfl rfl)
theorem dX4_ring_20 : decode cX4_ring 20 = .ok (.invokevirtual 385, 3) := dk_182 1 129 (dk_at dksX4_ring_0 20 rfl rfl)
theorem dX4_ring_23 : decode cX4_ring 23 = .ok (.iconst 0, 1) := dk_3 (dk_at dksX4_ring_0 23 rfl rfl)
theorem dX4_ring_24 : decode cX4_ring 24 = .ok (.istore_n 2, 1) := dk_61 (dk_at dksX4_ring_1 0 rfl rfl)
theorem dX4_ring_25 : decode cX4_ring 25 = .ok (.iload_n 2, 1) := dk_28 (dk_at dksX4_ring_1 1 rfl rfl)
theorem dX4_ring_26 : decode cX4_ring 26 = .ok (.bipush 60, 2) := dk_16 60 (dk_at dksX4_ring_1 2 rfl rfl)
theorem dX4_ring_28 : decode cX4_ring 28 = .ok (.if_icmp .gt 48, 3) := dk_163 0 48 (dk_at dksX4_ring_1 4 rfl rfl)
theorem dX4_ring_31 : decode cX4_ring 31 = .ok (.iconst 0, 1) := dk_3 (dk_at dksX4_ring_1 7 rfl rfl)
theorem dX4_ring_32 : decode cX4_ring 32 = .ok (.istore_n 3, 1) := dk_62 (dk_at dksX4_ring_1 8 rfl rfl)
theorem dX4_ring_33 : decode cX4_ring 33 = .ok (.iload_n 3, 1) := dk_29 (dk_at dksX4_ring_1 9 rfl rfl)
theorem dX4_ring_34 : decode cX4_ring 34 = .ok (.bipush 8, 2) := dk_16 8 (dk_at dksX4_ring_1 10 rfl rfl)
theorem dX4_ring_36 : decode cX4_ring 36 = .ok (.if_icmp .ge 29, 3) := dk_162 0 29 (dk_at dksX4_ring_1 12 rfl rfl)
theorem dX4_ring_39 : decode cX4_ring 39 = .ok (.aload_n 0, 1) := dk_42 (dk_at dksX4_ring_1 15 rfl rfl)
theorem dX4_ring_40 : decode cX4_ring 40 = .ok (.getfield 58, 3) := dk_180 0 58 (dk_at dksX4_ring_1 16 rfl rfl)
theorem dX4_ring_43 : decode cX4_ring 43 = .ok (.bipush 8, 2) := dk_16 8 (dk_at dksX4_ring_1 19 rfl rfl)
theorem dX4_ring_45 : decode cX4_ring 45 = .ok (.iload_n 2, 1) := dk_28 (dk_at dksX4_ring_1 21 rfl rfl)
theorem dX4_ring_46 : decode cX4_ring 46 = .ok (.imul, 1) := dk_104 (dk_at dksX4_ring_1 22 rfl rfl)
theorem dX4_ring_47 : decode cX4_ring 47 = .ok (.iload_n 3, 1) := dk_29 (dk_at dksX4_ring_1 23 rfl rfl)
theorem dX4_ring_48 : decode cX4_ring 48 = .ok (.iadd, 1) := dk_96 (dk_at dksX4_ring_2 0 rfl rfl)
theorem dX4_ring_49 : decode cX4_ring 49 = .ok (.aload_n 0, 1) := dk_42 (dk_at dksX4_ring_2 1 rfl rfl)
theorem dX4_ring_50 : decode cX4_ring 50 = .ok (.getfield 39, 3) := dk_180 0 39 (dk_at dksX4_ring_2 2 rfl rfl)
theorem dX4_ring_53 : decode cX4_ring 53 = .ok (.bipush 14, 2) := dk_16 14 (dk_at dksX4_ring_2 5 rfl rfl)
theorem dX4_ring_55 : decode cX4_ring 55 = .ok (.iload_n 3, 1) := dk_29 (dk_at dksX4_ring_2 7 rfl rfl)
theorem dX4_ring_56 : decode cX4_ring 56 = .ok (.iadd, 1) := dk_96 (dk_at dksX4_ring_2 8 rfl rfl)
theorem dX4_ring_57 : decode cX4_ring 57 = .ok (.iaload, 1) := dk_46 (dk_at dksX4_ring_2 9 rfl rfl)
theorem dX4_ring_58 : decode cX4_ring 58 = .ok (.iastore, 1) := dk_79 (dk_at dksX4_ring_2 10 rfl rfl)
theorem dX4_ring_59 : decode cX4_ring 59 = .ok (.iinc 3 1, 3) := dk_132 3 1 (dk_at dksX4_ring_2 11 rfl rfl)
theorem dX4_ring_62 : decode cX4_ring 62 = .ok (.goto (-29), 3) := dk_167 255 227 (dk_at dksX4_ring_2 14 rfl rfl)
theorem dX4_ring_65 : decode cX4_ring 65 = .ok (.aload_n 0, 1) := dk_42 (dk_at dksX4_ring_2 17 rfl rfl)
theorem dX4_ring_66 : decode cX4_ring 66 = .ok (.invokevirtual 372, 3) := dk_182 1 116 (dk_at dksX4_ring_2 18 rfl rfl)
theorem dX4_ring_69 : decode cX4_ring 69 = .ok (.pop, 1) := dk_87 (dk_at dksX4_ring_2 21 rfl rfl)
theorem dX4_ring_70 : decode cX4_ring 70 = .ok (.iinc 2 1, 3) := dk_132 2 1 (dk_at dksX4_ring_3 0 rfl rfl)
theorem dX4_ring_73 : decode cX4_ring 73 = .ok (.goto (-48), 3) := dk_167 255 208 (dk_at dksX4_ring_3 3 rfl rfl)
theorem dX4_ring_76 : decode cX4_ring 76 = .ok (.aload_n 0, 1) := dk_42 (dk_at dksX4_ring_3 6 rfl rfl)
theorem dX4_ring_77 : decode cX4_ring 77 = .ok (.invokevirtual 388, 3) := dk_182 1 132 (dk_at dksX4_ring_3 7 rfl rfl)
theorem dX4_ring_80 : decode cX4_ring 80 = .ok (.iconst 0, 1) := dk_3 (dk_at dksX4_ring_3 10 rfl rfl)
theorem dX4_ring_81 : decode cX4_ring 81 = .ok (.istore_n 2, 1) := dk_61 (dk_at dksX4_ring_3 11 rfl rfl)
theorem dX4_ring_82 : decode cX4_ring 82 = .ok (.iload_n 2, 1) := dk_28 (dk_at dksX4_ring_3 12 rfl rfl)
theorem dX4_ring_83 : decode cX4_ring 83 = .ok (.bipush 60, 2) := dk_16 60 (dk_at dksX4_ring_3 13 rfl rfl)
theorem dX4_ring_85 : decode cX4_ring 85 = .ok (.if_icmp .ge 54, 3) := dk_162 0 54 (dk_at dksX4_ring_3 15 rfl rfl)
theorem dX4_ring_88 : decode cX4_ring 88 = .ok (.iload_n 2, 1) := dk_28 (dk_at dksX4_ring_3 18 rfl rfl)
theorem dX4_ring_89 : decode cX4_ring 89 = .ok (.iconst 1, 1) := dk_4 (dk_at dksX4_ring_3 19 rfl rfl)
theorem dX4_ring_90 : decode cX4_ring 90 = .ok (.iadd, 1) := dk_96 (dk_at dksX4_ring_3 20 rfl rfl)
theorem dX4_ring_91 : decode cX4_ring 91 = .ok (.istore_n 3, 1) := dk_62 (dk_at dksX4_ring_3 21 rfl rfl)
theorem dX4_ring_92 : decode cX4_ring 92 = .ok (.iload_n 3, 1) := dk_29 (dk_at dksX4_ring_3 22 rfl rfl)
theorem dX4_ring_93 : decode cX4_ring 93 = .ok (.bipush 60, 2) := dk_16 60 (dk_at dksX4_ring_4 0 rfl rfl)
theorem dX4_ring_95 : decode cX4_ring 95 = .ok (.if_icmp .gt 38, 3) := dk_163 0 38 (dk_at dksX4_ring_4 2 rfl rfl)
theorem dX4_ring_98 : decode cX4_ring 98 = .ok (.aload_n 0, 1) := dk_42 (dk_at dksX4_ring_4 5 rfl rfl)
theorem dX4_ring_99 : decode cX4_ring 99 = .ok (.iload_n 2, 1) := dk_28 (dk_at dksX4_ring_4 6 rfl rfl)
theorem dX4_ring_100 : decode cX4_ring 100 = .ok (.iload_n 3, 1) := dk_29 (dk_at dksX4_ring_4 7 rfl rfl)
theorem dX4_ring_101 : decode cX4_ring 101 = .ok (.invokevirtual 393, 3) := dk_182 1 137 (dk_at dksX4_ring_4 8 rfl rfl)
theorem dX4_ring_104 : decode cX4_ring 104 = .ok (.ifCond .eq 23, 3) := dk_153 0 23 (dk_at dksX4_ring_4 11 rfl rfl)
theorem dX4_ring_107 : decode cX4_ring 107 = .ok (.iload_n 1, 1) := dk_27 (dk_at dksX4_ring_4 14 rfl rfl)
theorem dX4_ring_108 : decode cX4_ring 108 = .ok (.ifCond .ne 15, 3) := dk_154 0 15 (dk_at dksX4_ring_4 15 rfl rfl)
theorem dX4_ring_111 : decode cX4_ring 111 = .ok (.aload_n 0, 1) := dk_42 (dk_at dksX4_ring_4 18 rfl rfl)
theorem dX4_ring_112 : decode cX4_ring 112 = .ok (.getfield 39, 3) := dk_180 0 39 (dk_at dksX4_ring_4 19 rfl rfl)
theorem dX4_ring_115 : decode cX4_ring 115 = .ok (.bipush 10, 2) := dk_16 10 (dk_at dksX4_ring_4 22 rfl rfl)
theorem dX4_ring_117 : decode cX4_ring 117 = .ok (.iaload, 1) := dk_46 (dk_at dksX4_ring_5 0 rfl rfl)
theorem dX4_ring_118 : decode cX4_ring 118 = .ok (.iload_n 2, 1) := dk_28 (dk_at dksX4_ring_5 1 rfl rfl)
theorem dX4_ring_119 : decode cX4_ring 119 = .ok (.iadd, 1) := dk_96 (dk_at dksX4_ring_5 2 rfl rfl)
theorem dX4_ring_120 : decode cX4_ring 120 = .ok (.goto 6, 3) := dk_167 0 6 (dk_at dksX4_ring_5 3 rfl rfl)
theorem dX4_ring_123 : decode cX4_ring 123 = .ok (.iload_n 3, 1) := dk_29 (dk_at dksX4_ring_5 6 rfl rfl)
theorem dX4_ring_124 : decode cX4_ring 124 = .ok (.iload_n 2, 1) := dk_28 (dk_at dksX4_ring_5 7 rfl rfl)
theorem dX4_ring_125 : decode cX4_ring 125 = .ok (.isub, 1) := dk_100 (dk_at dksX4_ring_5 8 rfl rfl)
theorem dX4_ring_126 : decode cX4_ring 126 = .ok (.ireturn, 1) := dk_172 (dk_at dksX4_ring_5 9 rfl rfl)
theorem dX4_ring_127 : decode cX4_ring 127 = .ok (.iinc 3 1, 3) := dk_132 3 1 (dk_at dksX4_ring_5 10 rfl rfl)
theorem dX4_ring_130 : decode cX4_ring 130 = .ok (.goto (-38), 3) := dk_167 255 218 (dk_at dksX4_ring_5 13 rfl rfl)
theorem dX4_ring_133 : decode cX4_ring 133 = .ok (.iinc 2 1, 3) := dk_132 2 1 (dk_at dksX4_ring_5 16 rfl rfl)
theorem dX4_ring_136 : decode cX4_ring 136 = .ok (.goto (-54), 3) := dk_167 255 202 (dk_at dksX4_ring_5 19 rfl rfl)
theorem dX4_ring_139 : decode cX4_ring 139 = .ok (.bipush (-2), 2) := dk_16 254 (dk_at dksX4_ring_5 22 rfl rfl)
theorem dX4_ring_141 : decode cX4_ring 141 = .ok (.ireturn, 1) := dk_172 (dk_at dksX4_ring_6 0 rfl rfl)
abbrev cX4_areAlike : ByteArray := prog_19_method_84_code
def yX4_areAlike : MethodName := ⟨RX4, "areAlike", "(II)Z"⟩
def dkwX4_areAlike_1 : List UInt8 := [180, 0, 58, 16, 8, 28, 104, 29, 96, 46, 159, 0, 5, 3, 172, 132, 3, 1, 167, 255, 216, 4, 172]
abbrev dktX4_areAlike_1 : List UInt8 := dkwX4_areAlike_1 ++ []
def dkwX4_areAlike_0 : List UInt8 := [3, 62, 29, 42, 180, 0, 39, 5, 46, 162, 0, 36, 42, 180, 0, 58, 16, 8, 27, 104, 29, 96, 46, 42]
abbrev dktX4_areAlike_0 : List UInt8 := dkwX4_areAlike_0 ++ dktX4_areAlike_1
theorem dksX4_areAlike_0 : cX4_areAlike.data.toList.drop 0 = dktX4_areAlike_0 := by decide +kernel
theorem dksX4_areAlike_1 : cX4_areAlike.data.toList.drop 24 = dktX4_areAlike_1 := dk_seg dksX4_areAlike_0 24 rfl rfl
theorem dX4_areAlike_0 : decode cX4_areAlike 0 = .ok (.iconst 0, 1) := dk_3 (dk_at dksX4_areAlike_0 0 rfl rfl)
theorem dX4_areAlike_1 : decode cX4_areAlike 1 = .ok (.istore_n 3, 1) := dk_62 (dk_at dksX4_areAlike_0 1 rfl rfl)
theorem dX4_areAlike_2 : decode cX4_areAlike 2 = .ok (.iload_n 3, 1) := dk_29 (dk_at dksX4_areAlike_0 2 rfl rfl)
theorem dX4_areAlike_3 : decode cX4_areAlike 3 = .ok (.aload_n 0, 1) := dk_42 (dk_at dksX4_areAlike_0 3 rfl rfl)
theorem dX4_areAlike_4 : decode cX4_areAlike 4 = .ok (.getfield 39, 3) := dk_180 0 39 (dk_at dksX4_areAlike_0 4 rfl rfl)
theorem dX4_areAlike_7 : decode cX4_areAlike 7 = .ok (.iconst 2, 1) := dk_5 (dk_at dksX4_areAlike_0 7 rfl rfl)
theorem dX4_areAlike_8 : decode cX4_areAlike 8 = .ok (.iaload, 1) := dk_46 (dk_at dksX4_areAlike_0 8 rfl rfl)
theorem dX4_areAlike_9 : decode cX4_areAlike 9 = .ok (.if_icmp .ge 36, 3) := dk_162 0 36 (dk_at dksX4_areAlike_0 9 rfl rfl)
theorem dX4_areAlike_12 : decode cX4_areAlike 12 = .ok (.aload_n 0, 1) := dk_42 (dk_at dksX4_areAlike_0 12 rfl rfl)
theorem dX4_areAlike_13 : decode cX4_areAlike 13 = .ok (.getfield 58, 3) := dk_180 0 58 (dk_at dksX4_areAlike_0 13 rfl rfl)
theorem dX4_areAlike_16 : decode cX4_areAlike 16 = .ok (.bipush 8, 2) := dk_16 8 (dk_at dksX4_areAlike_0 16 rfl rfl)
theorem dX4_areAlike_18 : decode cX4_areAlike 18 = .ok (.iload_n 1, 1) := dk_27 (dk_at dksX4_areAlike_0 18 rfl rfl)
theorem dX4_areAlike_19 : decode cX4_areAlike 19 = .ok (.imul, 1) := dk_104 (dk_at dksX4_areAlike_0 19 rfl rfl)
theorem dX4_areAlike_20 : decode cX4_areAlike 20 = .ok (.iload_n 3, 1) := dk_29 (dk_at dksX4_areAlike_0 20 rfl rfl)
theorem dX4_areAlike_21 : decode cX4_areAlike 21 = .ok (.iadd, 1) := dk_96 (dk_at dksX4_areAlike_0 21 rfl rfl)
theorem dX4_areAlike_22 : decode cX4_areAlike 22 = .ok (.iaload, 1) := dk_46 (dk_at dksX4_areAlike_0 22 rfl rfl)
theorem dX4_areAlike_23 : decode cX4_areAlike 23 = .ok (.aload_n 0, 1) := dk_42 (dk_at dksX4_areAlike_0 23 rfl rfl)
theorem dX4_areAlike_24 : decode cX4_areAlike 24 = .ok (.getfield 58, 3) := dk_180 0 58 (dk_at dksX4_areAlike_1 0 rfl rfl)
theorem dX4_areAlike_27 : decode cX4_areAlike 27 = .ok (.bipush 8, 2) := dk_16 8 (dk_at dksX4_areAlike_1 3 rfl rfl)
theorem dX4_areAlike_29 : decode cX4_areAlike 29 = .ok (.iload_n 2, 1) := dk_28 (dk_at dksX4_areAlike_1 5 rfl rfl)
theorem dX4_areAlike_30 : decode cX4_areAlike 30 = .ok (.imul, 1) := dk_104 (dk_at dksX4_areAlike_1 6 rfl rfl)
theorem dX4_areAlike_31 : decode cX4_areAlike 31 = .ok (.iload_n 3, 1) := dk_29 (dk_at dksX4_areAlike_1 7 rfl rfl)
theorem dX4_areAlike_32 : decode cX4_areAlike 32 = .ok (.iadd, 1) := dk_96 (dk_at dksX4_areAlike_1 8 rfl rfl)
theorem dX4_areAlike_33 : decode cX4_areAlike 33 = .ok (.iaload, 1) := dk_46 (dk_at dksX4_areAlike_1 9 rfl rfl)
theorem dX4_areAlike_34 : decode cX4_areAlike 34 = .ok (.if_icmp .eq 5, 3) := dk_159 0 5 (dk_at dksX4_areAlike_1 10 rfl rfl)
theorem dX4_areAlike_37 : decode cX4_areAlike 37 = .ok (.iconst 0, 1) := dk_3 (dk_at dksX4_areAlike_1 13 rfl rfl)
theorem dX4_areAlike_38 : decode cX4_areAlike 38 = .ok (.ireturn, 1) := dk_172 (dk_at dksX4_areAlike_1 14 rfl rfl)
theorem dX4_areAlike_39 : decode cX4_areAlike 39 = .ok (.iinc 3 1, 3) := dk_132 3 1 (dk_at dksX4_areAlike_1 15 rfl rfl)
theorem dX4_areAlike_42 : decode cX4_areAlike 42 = .ok (.goto (-40), 3) := dk_167 255 216 (dk_at dksX4_areAlike_1 18 rfl rfl)
theorem dX4_areAlike_45 : decode cX4_areAlike 45 = .ok (.iconst 1, 1) := dk_4 (dk_at dksX4_areAlike_1 21 rfl rfl)
theorem dX4_areAlike_46 : decode cX4_areAlike 46 = .ok (.ireturn, 1) := dk_172 (dk_at dksX4_areAlike_1 22 rfl rfl)
abbrev cX4_spare : ByteArray := prog_19_method_87_code
def yX4_spare : MethodName := ⟨RX4, "spare", "(III)I"⟩
def dkwX4_spare_4 : List UInt8 := [167, 0, 5, 21, 4, 172]
abbrev dktX4_spare_4 : List UInt8 := dkwX4_spare_4 ++ []
def dkwX4_spare_3 : List UInt8 := [153, 0, 7, 21, 5, 54, 4, 132, 5, 1, 167, 255, 212, 29, 154, 0, 11, 21, 4, 184, 1, 87]
abbrev dktX4_spare_3 : List UInt8 := dkwX4_spare_3 ++ dktX4_spare_4
def dkwX4_spare_2 : List UInt8 := [155, 0, 16, 21, 5, 184, 1, 87, 21, 4, 184, 1, 87, 162, 0, 18, 42, 27, 28, 21, 5, 182, 1, 142]
abbrev dktX4_spare_2 : List UInt8 := dkwX4_spare_2 ++ dktX4_spare_3
def dkwX4_spare_1 : List UInt8 := [184, 0, 124, 154, 0, 5, 2, 172, 2, 54, 4, 3, 54, 5, 21, 5, 4, 28, 120, 162, 0, 42, 21, 4]
abbrev dktX4_spare_1 : List UInt8 := dkwX4_spare_1 ++ dktX4_spare_2
def dkwX4_spare_0 : List UInt8 := [42, 27, 182, 1, 57, 153, 0, 25, 28, 133, 10, 20, 1, 140, 184, 0, 124, 153, 0, 13, 29, 133, 9, 10]
abbrev dktX4_spare_0 : List UInt8 := dkwX4_spare_0 ++ dktX4_spare_1
theorem dksX4_spare_0 : cX4_spare.data.toList.drop 0 = dktX4_spare_0 := by decide +kernel
theorem dksX4_spare_1 : cX4_spare.data.toList.drop 24 = dktX4_spare_1 := dk_seg dksX4_spare_0 24 rfl rfl
theorem dksX4_spare_2 : cX4_spare.data.toList.drop 48 = dktX4_spare_2 := dk_seg dksX4_spare_1 24 rfl rfl
theorem dksX4_spare_3 : cX4_spare.data.toList.drop 72 = dktX4_spare_3 := dk_seg dksX4_spare_2 24 rfl rfl
theorem dksX4_spare_4 : cX4_spare.data.toList.drop 94 = dktX4_spare_4 := dk_seg dksX4_spare_3 22 rfl rfl
theorem dX4_spare_0 : decode cX4_spare 0 = .ok (.aload_n 0, 1) := dk_42 (dk_at dksX4_spare_0 0 rfl rfl)
theorem dX4_spare_1 : decode cX4_spare 1 = .ok (.iload_n 1, 1) := dk_27 (dk_at dksX4_spare_0 1 rfl rfl)
theorem dX4_spare_2 : decode cX4_spare 2 = .ok (.invokevirtual 313, 3) := dk_182 1 57 (dk_at dksX4_spare_0 2 rfl rfl)
theorem dX4_spare_5 : decode cX4_spare 5 = .ok (.ifCond .eq 25, 3) := dk_153 0 25 (dk_at dksX4_spare_0 5 rfl rfl)
theorem dX4_spare_8 : decode cX4_spare 8 = .ok (.iload_n 2, 1) := dk_28 (dk_at dksX4_spare_0 8 rfl rfl)
theorem dX4_spare_9 : decode cX4_spare 9 = .ok (.i2l, 1) := dk_133 (dk_at dksX4_spare_0 9 rfl rfl)
theorem dX4_spare_10 : decode cX4_spare 10 = .ok (.lconst 1, 1) := dk_10 (dk_at dksX4_spare_0 10 rfl rfl)
theorem dX4_spare_11 : decode cX4_spare 11 = .ok (.ldc2_w 396, 3) := dk_20 1 140 (dk_at dksX4_spare_0 11 rfl rfl)
theorem dX4_spare_14 : decode cX4_spare 14 = .ok (.invokestatic 124, 3) := dk_184 0 124 (dk_at dksX4_spare_0 14 rfl rfl)
theorem dX4_spare_17 : decode cX4_spare 17 = .ok (.ifCond .eq 13, 3) := dk_153 0 13 (dk_at dksX4_spare_0 17 rfl rfl)
theorem dX4_spare_20 : decode cX4_spare 20 = .ok (.iload_n 3, 1) := dk_29 (dk_at dksX4_spare_0 20 rfl rfl)
theorem dX4_spare_21 : decode cX4_spare 21 = .ok (.i2l, 1) := dk_133 (dk_at dksX4_spare_0 21 rfl rfl)
theorem dX4_spare_22 : decode cX4_spare 22 = .ok (.lconst 0, 1) := dk_9 (dk_at dksX4_spare_0 22 rfl rfl)
theorem dX4_spare_23 : decode cX4_spare 23 = .ok (.lconst 1, 1) := dk_10 (dk_at dksX4_spare_0 23 rfl rfl)
theorem dX4_spare_24 : decode cX4_spare 24 = .ok (.invokestatic 124, 3) := dk_184 0 124 (dk_at dksX4_spare_1 0 rfl rfl)
theorem dX4_spare_27 : decode cX4_spare 27 = .ok (.ifCond .ne 5, 3) := dk_154 0 5 (dk_at dksX4_spare_1 3 rfl rfl)
theorem dX4_spare_30 : decode cX4_spare 30 = .ok (.iconst (-1), 1) := dk_2 (dk_at dksX4_spare_1 6 rfl rfl)
theorem dX4_spare_31 : decode cX4_spare 31 = .ok (.ireturn, 1) := dk_172 (dk_at dksX4_spare_1 7 rfl rfl)
theorem dX4_spare_32 : decode cX4_spare 32 = .ok (.iconst (-1), 1) := dk_2 (dk_at dksX4_spare_1 8 rfl rfl)
theorem dX4_spare_33 : decode cX4_spare 33 = .ok (.istore 4, 2) := dk_54 4 (dk_at dksX4_spare_1 9 rfl rfl)
theorem dX4_spare_35 : decode cX4_spare 35 = .ok (.iconst 0, 1) := dk_3 (dk_at dksX4_spare_1 11 rfl rfl)
theorem dX4_spare_36 : decode cX4_spare 36 = .ok (.istore 5, 2) := dk_54 5 (dk_at dksX4_spare_1 12 rfl rfl)
theorem dX4_spare_38 : decode cX4_spare 38 = .ok (.iload 5, 2) := dk_21 5 (dk_at dksX4_spare_1 14 rfl rfl)
theorem dX4_spare_40 : decode cX4_spare 40 = .ok (.iconst 1, 1) := dk_4 (dk_at dksX4_spare_1 16 rfl rfl)
theorem dX4_spare_41 : decode cX4_spare 41 = .ok (.iload_n 2, 1) := dk_28 (dk_at dksX4_spare_1 17 rfl rfl)
theorem dX4_spare_42 : decode cX4_spare 42 = .ok (.ishl, 1) := dk_120 (dk_at dksX4_spare_1 18 rfl rfl)
theorem dX4_spare_43 : decode cX4_spare 43 = .ok (.if_icmp .ge 42, 3) := dk_162 0 42 (dk_at dksX4_spare_1 19 rfl rfl)
theorem dX4_spare_46 : decode cX4_spare 46 = .ok (.iload 4, 2) := dk_21 4 (dk_at dksX4_spare_1 22 rfl rfl)
theorem dX4_spare_48 : decode cX4_spare 48 = .ok (.ifCond .lt 16, 3) := dk_155 0 16 (dk_at dksX4_spare_2 0 rfl rfl)
theorem dX4_spare_51 : decode cX4_spare 51 = .ok (.iload 5, 2) := dk_21 5 (dk_at dksX4_spare_2 3 rfl rfl)
theorem dX4_spare_53 : decode cX4_spare 53 = .ok (.invokestatic 343, 3) := dk_184 1 87 (dk_at dksX4_spare_2 5 rfl rfl)
theorem dX4_spare_56 : decode cX4_spare 56 = .ok (.iload 4, 2) := dk_21 4 (dk_at dksX4_spare_2 8 rfl rfl)
theorem dX4_spare_58 : decode cX4_spare 58 = .ok (.invokestatic 343, 3) := dk_184 1 87 (dk_at dksX4_spare_2 10 rfl rfl)
theorem dX4_spare_61 : decode cX4_spare 61 = .ok (.if_icmp .ge 18, 3) := dk_162 0 18 (dk_at dksX4_spare_2 13 rfl rfl)
theorem dX4_spare_64 : decode cX4_spare 64 = .ok (.aload_n 0, 1) := dk_42 (dk_at dksX4_spare_2 16 rfl rfl)
theorem dX4_spare_65 : decode cX4_spare 65 = .ok (.iload_n 1, 1) := dk_27 (dk_at dksX4_spare_2 17 rfl rfl)
theorem dX4_spare_66 : decode cX4_spare 66 = .ok (.iload_n 2, 1) := dk_28 (dk_at dksX4_spare_2 18 rfl rfl)
theorem dX4_spare_67 : decode cX4_spare 67 = .ok (.iload 5, 2) := dk_21 5 (dk_at dksX4_spare_2 19 rfl rfl)
theorem dX4_spare_69 : decode cX4_spare 69 = .ok (.invokevirtual 398, 3) := dk_182 1 142 (dk_at dksX4_spare_2 21 rfl rfl)
theorem dX4_spare_72 : decode cX4_spare 72 = .ok (.ifCond .eq 7, 3) := dk_153 0 7 (dk_at dksX4_spare_3 0 rfl rfl)
theorem dX4_spare_75 : decode cX4_spare 75 = .ok (.iload 5, 2) := dk_21 5 (dk_at dksX4_spare_3 3 rfl rfl)
theorem dX4_spare_77 : decode cX4_spare 77 = .ok (.istore 4, 2) := dk_54 4 (dk_at dksX4_spare_3 5 rfl rfl)
theorem dX4_spare_79 : decode cX4_spare 79 = .ok (.iinc 5 1, 3) := dk_132 5 1 (dk_at dksX4_spare_3 7 rfl rfl)
theorem dX4_spare_82 : decode cX4_spare 82 = .ok (.goto (-44), 3) := dk_167 255 212 (dk_at dksX4_spare_3 10 rfl rfl)
theorem dX4_spare_85 : decode cX4_spare 85 = .ok (.iload_n 3, 1) := dk_29 (dk_at dksX4_spare_3 13 rfl rfl)
theorem dX4_spare_86 : decode cX4_spare 86 = .ok (.ifCond .ne 11, 3) := dk_154 0 11 (dk_at dksX4_spare_3 14 rfl rfl)
theorem dX4_spare_89 : decode cX4_spare 89 = .ok (.iload 4, 2) := dk_21 4 (dk_at dksX4_spare_3 17 rfl rfl)
theorem dX4_spare_91 : decode cX4_spare 91 = .ok (.invokestatic 343, 3) := dk_184 1 87 (dk_at dksX4_spare_3 19 rfl rfl)
theorem dX4_spare_94 : decode cX4_spare 94 = .ok (.goto 5, 3) := dk_167 0 5 (dk_at dksX4_spare_4 0 rfl rfl)
theorem dX4_spare_97 : decode cX4_spare 97 = .ok (.iload 4, 2) := dk_21 4 (dk_at dksX4_spare_4 3 rfl rfl)
theorem dX4_spare_99 : decode cX4_spare 99 = .ok (.ireturn, 1) := dk_172 (dk_at dksX4_spare_4 5 rfl rfl)
abbrev cX4_isSpared : ByteArray := prog_19_method_86_code
def yX4_isSpared : MethodName := ⟨RX4, "isSpared", "(III)Z"⟩
def dkwX4_isSpared_4 : List UInt8 := [172]
abbrev dktX4_isSpared_4 : List UInt8 := dkwX4_isSpared_4 ++ []
def dkwX4_isSpared_3 : List UInt8 := [184, 1, 60, 153, 0, 14, 21, 4, 42, 180, 0, 39, 3, 46, 96, 54, 4, 132, 5, 1, 167, 255, 181, 4]
abbrev dktX4_isSpared_3 : List UInt8 := dkwX4_isSpared_3 ++ dktX4_isSpared_4
def dkwX4_isSpared_2 : List UInt8 := [184, 1, 60, 153, 0, 16, 21, 4, 42, 180, 0, 39, 4, 46, 161, 0, 5, 3, 172, 29, 21, 5]
abbrev dktX4_isSpared_2 : List UInt8 := dkwX4_isSpared_2 ++ dktX4_isSpared_3
def dkwX4_isSpared_1 : List UInt8 := [184, 1, 60, 153, 0, 6, 3, 54, 4, 42, 42, 180, 0, 39, 16, 10, 46, 21, 5, 96, 182, 1, 63, 27]
abbrev dktX4_isSpared_1 : List UInt8 := dkwX4_isSpared_1 ++ dktX4_isSpared_2
def dkwX4_isSpared_0 : List UInt8 := [42, 180, 0, 39, 16, 14, 27, 96, 46, 54, 4, 3, 54, 5, 21, 5, 28, 162, 0, 75, 29, 21, 5]
abbrev dktX4_isSpared_0 : List UInt8 := dkwX4_isSpared_0 ++ dktX4_isSpared_1
theorem dksX4_isSpared_0 : cX4_isSpared.data.toList.drop 0 = dktX4_isSpared_0 := by decide +kernel
theorem dksX4_isSpared_1 : cX4_isSpared.data.toList.drop 23 = dktX4_isSpared_1 := dk_seg dksX4_isSpared_0 23 rfl rfl
theorem dksX4_isSpared_2 : cX4_isSpared.data.toList.drop 47 = dktX4_isSpared_2 := dk_seg dksX4_isSpared_1 24 rfl rfl
theorem dksX4_isSpared_3 : cX4_isSpared.data.toList.drop 69 = dktX4_isSpared_3 := dk_seg dksX4_isSpared_2 22 rfl rfl
theorem dksX4_isSpared_4 : cX4_isSpared.data.toList.drop 93 = dktX4_isSpared_4 := dk_seg dksX4_isSpared_3 24 rfl rfl
theorem dX4_isSpared_0 : decode cX4_isSpared 0 = .ok (.aload_n 0, 1) := dk_42 (dk_at dksX4_isSpared_0 0 rfl rfl)
theorem dX4_isSpared_1 : decode cX4_isSpared 1 = .ok (.getfield 39, 3) := dk_180 0 39 (dk_at dksX4_isSpared_0 1 rfl rfl)
theorem dX4_isSpared_4 : decode cX4_isSpared 4 = .ok (.bipush 14, 2) := dk_16 14 (dk_at dksX4_isSpared_0 4 rfl rfl)
theorem dX4_isSpared_6 : decode cX4_isSpared 6 = .ok (.iload_n 1, 1) := dk_27 (dk_at dksX4_isSpared_0 6 rfl rfl)
theorem dX4_isSpared_7 : decode cX4_isSpared 7 = .ok (.iadd, 1) := dk_96 (dk_at dksX4_isSpared_0 7 rfl rfl)
theorem dX4_isSpared_8 : decode cX4_isSpared 8 = .ok (.iaload, 1) := dk_46 (dk_at dksX4_isSpared_0 8 rfl rfl)
theorem dX4_isSpared_9 : decode cX4_isSpared 9 = .ok (.istore 4, 2) := dk_54 4 (dk_at dksX4_isSpared_0 9 rfl rfl)
theorem dX4_isSpared_11 : decode cX4_isSpared 11 = .ok (.iconst 0, 1) := dk_3 (dk_at dksX4_isSpared_0 11 rfl rfl)
theorem dX4_isSpared_12 : decode cX4_isSpared 12 = .ok (.istore 5, 2) := dk_54 5 (dk_at dksX4_isSpared_0 12 rfl rfl)
theorem dX4_isSpared_14 : decode cX4_isSpared 14 = .ok (.iload 5, 2) := dk_21 5 (dk_at dksX4_isSpared_0 14 rfl rfl)
theorem dX4_isSpared_16 : decode cX4_isSpared 16 = .ok (.iload_n 2, 1) := dk_28 (dk_at dksX4_isSpared_0 16 rfl rfl)
theorem dX4_isSpared_17 : decode cX4_isSpared 17 = .ok (.if_icmp .ge 75, 3) := dk_162 0 75 (dk_at dksX4_isSpared_0 17 rfl rfl)
theorem dX4_isSpared_20 : decode cX4_isSpared 20 = .ok (.iload_n 3, 1) := dk_29 (dk_at dksX4_isSpared_0 20 rfl rfl)
theorem dX4_isSpared_21 : decode cX4_isSpared 21 = .ok (.iload 5, 2) := dk_21 5 (dk_at dksX4_isSpared_0 21 rfl rfl)
theorem dX4_isSpared_23 : decode cX4_isSpared 23 = .ok (.invokestatic 316, 3) := dk_184 1 60 (dk_at dksX4_isSpared_1 0 rfl rfl)
theorem dX4_isSpared_26 : decode cX4_isSpared 26 = .ok (.ifCond .eq 6, 3) := dk_153 0 6 (dk_at dksX4_isSpared_1 3 rfl rfl)
theorem dX4_isSpared_29 : decode cX4_isSpared 29 = .ok (.iconst 0, 1) := dk_3 (dk_at dksX4_isSpared_1 6 rfl rfl)
theorem dX4_isSpared_30 : decode cX4_isSpared 30 = .ok (.istore 4, 2) := dk_54 4 (dk_at dksX4_isSpared_1 7 rfl rfl)
theorem dX4_isSpared_32 : decode cX4_isSpared 32 = .ok (.aload_n 0, 1) := dk_42 (dk_at dksX4_isSpared_1 9 rfl rfl)
theorem dX4_isSpared_33 : decode cX4_isSpared 33 = .ok (.aload_n 0, 1) := dk_42 (dk_at dksX4_isSpared_1 10 rfl rfl)
theorem dX4_isSpared_34 : decode cX4_isSpared 34 = .ok (.getfield 39, 3) := dk_180 0 39 (dk_at dksX4_isSpared_1 11 rfl rfl)
theorem dX4_isSpared_37 : decode cX4_isSpared 37 = .ok (.bipush 10, 2) := dk_16 10 (dk_at dksX4_isSpared_1 14 rfl rfl)
theorem dX4_isSpared_39 : decode cX4_isSpared 39 = .ok (.iaload, 1) := dk_46 (dk_at dksX4_isSpared_1 16 rfl rfl)
theorem dX4_isSpared_40 : decode cX4_isSpared 40 = .ok (.iload 5, 2) := dk_21 5 (dk_at dksX4_isSpared_1 17 rfl rfl)
theorem dX4_isSpared_42 : decode cX4_isSpared 42 = .ok (.iadd, 1) := dk_96 (dk_at dksX4_isSpared_1 19 rfl rfl)
theorem dX4_isSpared_43 : decode cX4_isSpared 43 = .ok (.invokevirtual 319, 3) := dk_182 1 63 (dk_at dksX4_isSpared_1 20 rfl rfl)
theorem dX4_isSpared_46 : decode cX4_isSpared 46 = .ok (.iload_n 1, 1) := dk_27 (dk_at dksX4_isSpared_1 23 rfl rfl)
theorem dX4_isSpared_47 : decode cX4_isSpared 47 = .ok (.invokestatic 316, 3) := dk_184 1 60 (dk_at dksX4_isSpared_2 0 rfl rfl)
theorem dX4_isSpared_50 : decode cX4_isSpared 50 = .ok (.ifCond .eq 16, 3) := dk_153 0 16 (dk_at dksX4_isSpared_2 3 rfl rfl)
theorem dX4_isSpared_53 : decode cX4_isSpared 53 = .ok (.iload 4, 2) := dk_21 4 (dk_at dksX4_isSpared_2 6 rfl rfl)
theorem dX4_isSpared_55 : decode cX4_isSpared 55 = .ok (.aload_n 0, 1) := dk_42 (dk_at dksX4_isSpared_2 8 rfl rfl)
theorem dX4_isSpared_56 : decode cX4_isSpared 56 = .ok (.getfield 39, 3) := dk_180 0 39 (dk_at dksX4_isSpared_2 9 rfl rfl)
theorem dX4_isSpared_59 : decode cX4_isSpared 59 = .ok (.iconst 1, 1) := dk_4 (dk_at dksX4_isSpared_2 12 rfl rfl)
theorem dX4_isSpared_60 : decode cX4_isSpared 60 = .ok (.iaload, 1) := dk_46 (dk_at dksX4_isSpared_2 13 rfl rfl)
theorem dX4_isSpared_61 : decode cX4_isSpared 61 = .ok (.if_icmp .lt 5, 3) := dk_161 0 5 (dk_at dksX4_isSpared_2 14 rfl rfl)
theorem dX4_isSpared_64 : decode cX4_isSpared 64 = .ok (.iconst 0, 1) := dk_3 (dk_at dksX4_isSpared_2 17 rfl rfl)
theorem dX4_isSpared_65 : decode cX4_isSpared 65 = .ok (.ireturn, 1) := dk_172 (dk_at dksX4_isSpared_2 18 rfl rfl)
theorem dX4_isSpared_66 : decode cX4_isSpared 66 = .ok (.iload_n 3, 1) := dk_29 (dk_at dksX4_isSpared_2 19 rfl rfl)
theorem dX4_isSpared_67 : decode cX4_isSpared 67 = .ok (.iload 5, 2) := dk_21 5 (dk_at dksX4_isSpared_2 20 rfl rfl)
theorem dX4_isSpared_69 : decode cX4_isSpared 69 = .ok (.invokestatic 316, 3) := dk_184 1 60 (dk_at dksX4_isSpared_3 0 rfl rfl)
theorem dX4_isSpared_72 : decode cX4_isSpared 72 = .ok (.ifCond .eq 14, 3) := dk_153 0 14 (dk_at dksX4_isSpared_3 3 rfl rfl)
theorem dX4_isSpared_75 : decode cX4_isSpared 75 = .ok (.iload 4, 2) := dk_21 4 (dk_at dksX4_isSpared_3 6 rfl rfl)
theorem dX4_isSpared_77 : decode cX4_isSpared 77 = .ok (.aload_n 0, 1) := dk_42 (dk_at dksX4_isSpared_3 8 rfl rfl)
theorem dX4_isSpared_78 : decode cX4_isSpared 78 = .ok (.getfield 39, 3) := dk_180 0 39 (dk_at dksX4_isSpared_3 9 rfl rfl)
theorem dX4_isSpared_81 : decode cX4_isSpared 81 = .ok (.iconst 0, 1) := dk_3 (dk_at dksX4_isSpared_3 12 rfl rfl)
theorem dX4_isSpared_82 : decode cX4_isSpared 82 = .ok (.iaload, 1) := dk_46 (dk_at dksX4_isSpared_3 13 rfl rfl)
theorem dX4_isSpared_83 : decode cX4_isSpared 83 = .ok (.iadd, 1) := dk_96 (dk_at dksX4_isSpared_3 14 rfl rfl)
theorem dX4_isSpared_84 : decode cX4_isSpared 84 = .ok (.istore 4, 2) := dk_54 4 (dk_at dksX4_isSpared_3 15 rfl rfl)
theorem dX4_isSpared_86 : decode cX4_isSpared 86 = .ok (.iinc 5 1, 3) := dk_132 5 1 (dk_at dksX4_isSpared_3 17 rfl rfl)
theorem dX4_isSpared_89 : decode cX4_isSpared 89 = .ok (.goto (-75), 3) := dk_167 255 181 (dk_at dksX4_isSpared_3 20 rfl rfl)
theorem dX4_isSpared_92 : decode cX4_isSpared 92 = .ok (.iconst 1, 1) := dk_4 (dk_at dksX4_isSpared_3 23 rfl rfl)
theorem dX4_isSpared_93 : decode cX4_isSpared 93 = .ok (.ireturn, 1) := dk_172 (dk_at dksX4_isSpared_4 0 rfl rfl)
abbrev cX4_figure : ByteArray := prog_19_method_89_code
def yX4_figure : MethodName := ⟨RX4, "figure", "(II)I"⟩
def dkwX4_figure_7 : List UInt8 := [154, 0, 11, 21, 4, 184, 1, 87, 167, 0, 5, 21, 4, 172]
abbrev dktX4_figure_7 : List UInt8 := dkwX4_figure_7 ++ []
def dkwX4_figure_6 : List UInt8 := [160, 0, 7, 21, 5, 54, 4, 132, 5, 1, 167, 255, 196, 21, 4, 156, 0, 8, 16, 254, 167, 0, 17, 28]
abbrev dktX4_figure_6 : List UInt8 := dkwX4_figure_6 ++ dktX4_figure_7
def dkwX4_figure_5 : List UInt8 := [21, 5, 184, 1, 87, 21, 4, 184, 1, 87, 161, 0, 6, 167, 0, 17, 42, 21, 5, 182, 1, 145, 27]
abbrev dktX4_figure_5 : List UInt8 := dkwX4_figure_5 ++ dktX4_figure_6
def dkwX4_figure_4 : List UInt8 := [180, 0, 39, 5, 46, 120, 162, 0, 53, 21, 5, 29, 2, 130, 126, 154, 0, 38, 21, 4, 155, 0, 19]
abbrev dktX4_figure_4 : List UInt8 := dkwX4_figure_4 ++ dktX4_figure_5
def dkwX4_figure_3 : List UInt8 := [21, 5, 120, 167, 0, 4, 3, 128, 62, 132, 5, 1, 167, 255, 218, 3, 54, 5, 21, 5, 4, 42]
abbrev dktX4_figure_3 : List UInt8 := dkwX4_figure_3 ++ dktX4_figure_4
def dkwX4_figure_2 : List UInt8 := [180, 0, 39, 5, 46, 162, 0, 33, 29, 42, 180, 0, 39, 16, 14, 21, 5, 96, 46, 158, 0, 10, 4]
abbrev dktX4_figure_2 : List UInt8 := dkwX4_figure_2 ++ dktX4_figure_3
def dkwX4_figure_1 : List UInt8 := [133, 9, 10, 184, 0, 124, 154, 0, 5, 2, 172, 3, 62, 2, 54, 4, 3, 54, 5, 21, 5, 42]
abbrev dktX4_figure_1 : List UInt8 := dkwX4_figure_1 ++ dktX4_figure_2
def dkwX4_figure_0 : List UInt8 := [42, 182, 1, 110, 153, 0, 29, 27, 155, 0, 25, 27, 4, 42, 180, 0, 39, 5, 46, 120, 162, 0, 13, 28]
abbrev dktX4_figure_0 : List UInt8 := dkwX4_figure_0 ++ dktX4_figure_1
theorem dksX4_figure_0 : cX4_figure.data.toList.drop 0 = dktX4_figure_0 := by decide +kernel
theorem dksX4_figure_1 : cX4_figure.data.toList.drop 24 = dktX4_figure_1 := dk_seg dksX4_figure_0 24 rfl rfl
theorem dksX4_figure_2 : cX4_figure.data.toList.drop 46 = dktX4_figure_2 := dk_seg dksX4_figure_1 22 rfl rfl
theorem dksX4_figure_3 : cX4_figure.data.toList.drop 69 = dktX4_figure_3 := dk_seg dksX4_figure_2 23 rfl rfl
theorem dksX4_figure_4 : cX4_figure.data.toList.drop 91 = dktX4_figure_4 := dk_seg dksX4_figure_3 22 rfl rfl
theorem dksX4_figure_5 : cX4_figure.data.toList.drop 114 = dktX4_figure_5 := dk_seg dksX4_figure_4 23 rfl rfl
theorem dksX4_figure_6 : cX4_figure.data.toList.drop 137 = dktX4_figure_6 := dk_seg dksX4_figure_5 23 rfl rfl
theorem dksX4_figure_7 : cX4_figure.data.toList.drop 161 = dktX4_figure_7 := dk_seg dksX4_figure_6 24 rfl rfl
theorem dX4_figure_0 : decode cX4_figure 0 = .ok (.aload_n 0, 1) := dk_42 (dk_at dksX4_figure_0 0 rfl rfl)
theorem dX4_figure_1 : decode cX4_figure 1 = .ok (.invokevirtual 366, 3) := dk_182 1 110 (dk_at dksX4_figure_0 1 rfl rfl)
theorem dX4_figure_4 : decode cX4_figure 4 = .ok (.ifCond .eq 29, 3) := dk_153 0 29 (dk_at dksX4_figure_0 4 rfl rfl)
theorem dX4_figure_7 : decode cX4_figure 7 = .ok (.iload_n 1, 1) := dk_27 (dk_at dksX4_figure_0 7 rfl rfl)
theorem dX4_figure_8 : decode cX4_figure 8 = .ok (.ifCond .lt 25, 3) := dk_155 0 25 (dk_at dksX4_figure_0 8 rfl rfl)
theorem dX4_figure_11 : decode cX4_figure 11 = .ok (.iload_n 1, 1) := dk_27 (dk_at dksX4_figure_0 11 rfl rfl)
theorem dX4_figure_12 : decode cX4_figure 12 = .ok (.iconst 1, 1) := dk_4 (dk_at dksX4_figure_0 12 rfl rfl)
theorem dX4_figure_13 : decode cX4_figure 13 = .ok (.aload_n 0, 1) := dk_42 (dk_at dksX4_figure_0 13 rfl rfl)
theorem dX4_figure_14 : decode cX4_figure 14 = .ok (.getfield 39, 3) := dk_180 0 39 (dk_at dksX4_figure_0 14 rfl rfl)
theorem dX4_figure_17 : decode cX4_figure 17 = .ok (.iconst 2, 1) := dk_5 (dk_at dksX4_figure_0 17 rfl rfl)
theorem dX4_figure_18 : decode cX4_figure 18 = .ok (.iaload, 1) := dk_46 (dk_at dksX4_figure_0 18 rfl rfl)
theorem dX4_figure_19 : decode cX4_figure 19 = .ok (.ishl, 1) := dk_120 (dk_at dksX4_figure_0 19 rfl rfl)
theorem dX4_figure_20 : decode cX4_figure 20 = .ok (.if_icmp .ge 13, 3) := dk_162 0 13 (dk_at dksX4_figure_0 20 rfl rfl)
theorem dX4_figure_23 : decode cX4_figure 23 = .ok (.iload_n 2, 1) := dk_28 (dk_at dksX4_figure_0 23 rfl rfl)
theorem dX4_figure_24 : decode cX4_figure 24 = .ok (.i2l, 1) := dk_133 (dk_at dksX4_figure_1 0 rfl rfl)
theorem dX4_figure_25 : decode cX4_figure 25 = .ok (.lconst 0, 1) := dk_9 (dk_at dksX4_figure_1 1 rfl rfl)
theorem dX4_figure_26 : decode cX4_figure 26 = .ok (.lconst 1, 1) := dk_10 (dk_at dksX4_figure_1 2 rfl rfl)
theorem dX4_figure_27 : decode cX4_figure 27 = .ok (.invokestatic 124, 3) := dk_184 0 124 (dk_at dksX4_figure_1 3 rfl rfl)
theorem dX4_figure_30 : decode cX4_figure 30 = .ok (.ifCond .ne 5, 3) := dk_154 0 5 (dk_at dksX4_figure_1 6 rfl rfl)
theorem dX4_figure_33 : decode cX4_figure 33 = .ok (.iconst (-1), 1) := dk_2 (dk_at dksX4_figure_1 9 rfl rfl)
theorem dX4_figure_34 : decode cX4_figure 34 = .ok (.ireturn, 1) := dk_172 (dk_at dksX4_figure_1 10 rfl rfl)
theorem dX4_figure_35 : decode cX4_figure 35 = .ok (.iconst 0, 1) := dk_3 (dk_at dksX4_figure_1 11 rfl rfl)
theorem dX4_figure_36 : decode cX4_figure 36 = .ok (.istore_n 3, 1) := dk_62 (dk_at dksX4_figure_1 12 rfl rfl)
theorem dX4_figure_37 : decode cX4_figure 37 = .ok (.iconst (-1), 1) := dk_2 (dk_at dksX4_figure_1 13 rfl rfl)
theorem dX4_figure_38 : decode cX4_figure 38 = .ok (.istore 4, 2) := dk_54 4 (dk_at dksX4_figure_1 14 rfl rfl)
theorem dX4_figure_40 : decode cX4_figure 40 = .ok (.iconst 0, 1) := dk_3 (dk_at dksX4_figure_1 16 rfl rfl)
theorem dX4_figure_41 : decode cX4_figure 41 = .ok (.istore 5, 2) := dk_54 5 (dk_at dksX4_figure_1 17 rfl rfl)
theorem dX4_figure_43 : decode cX4_figure 43 = .ok (.iload 5, 2) := dk_21 5 (dk_at dksX4_figure_1 19 rfl rfl)
theorem dX4_figure_45 : decode cX4_figure 45 = .ok (.aload_n 0, 1) := dk_42 (dk_at dksX4_figure_1 21 rfl rfl)
theorem dX4_figure_46 : decode cX4_figure 46 = .ok (.getfield 39, 3) := dk_180 0 39 (dk_at dksX4_figure_2 0 rfl rfl)
theorem dX4_figure_49 : decode cX4_figure 49 = .ok (.iconst 2, 1) := dk_5 (dk_at dksX4_figure_2 3 rfl rfl)
theorem dX4_figure_50 : decode cX4_figure 50 = .ok (.iaload, 1) := dk_46 (dk_at dksX4_figure_2 4 rfl rfl)
theorem dX4_figure_51 : decode cX4_figure 51 = .ok (.if_icmp .ge 33, 3) := dk_162 0 33 (dk_at dksX4_figure_2 5 rfl rfl)
theorem dX4_figure_54 : decode cX4_figure 54 = .ok (.iload_n 3, 1) := dk_29 (dk_at dksX4_figure_2 8 rfl rfl)
theorem dX4_figure_55 : decode cX4_figure 55 = .ok (.aload_n 0, 1) := dk_42 (dk_at dksX4_figure_2 9 rfl rfl)
theorem dX4_figure_56 : decode cX4_figure 56 = .ok (.getfield 39, 3) := dk_180 0 39 (dk_at dksX4_figure_2 10 rfl rfl)
theorem dX4_figure_59 : decode cX4_figure 59 = .ok (.bipush 14, 2) := dk_16 14 (dk_at dksX4_figure_2 13 rfl rfl)
theorem dX4_figure_61 : decode cX4_figure 61 = .ok (.iload 5, 2) := dk_21 5 (dk_at dksX4_figure_2 15 rfl rfl)
theorem dX4_figure_63 : decode cX4_figure 63 = .ok (.iadd, 1) := dk_96 (dk_at dksX4_figure_2 17 rfl rfl)
theorem dX4_figure_64 : decode cX4_figure 64 = .ok (.iaload, 1) := dk_46 (dk_at dksX4_figure_2 18 rfl rfl)
theorem dX4_figure_65 : decode cX4_figure 65 = .ok (.ifCond .le 10, 3) := dk_158 0 10 (dk_at dksX4_figure_2 19 rfl rfl)
theorem dX4_figure_68 : decode cX4_figure 68 = .ok (.iconst 1, 1) := dk_4 (dk_at dksX4_figure_2 22 rfl rfl)
theorem dX4_figure_69 : decode cX4_figure 69 = .ok (.iload 5, 2) := dk_21 5 (dk_at dksX4_figure_3 0 rfl rfl)
theorem dX4_figure_71 : decode cX4_figure 71 = .ok (.ishl, 1) := dk_120 (dk_at dksX4_figure_3 2 rfl rfl)
theorem dX4_figure_72 : decode cX4_figure 72 = .ok (.goto 4, 3) := dk_167 0 4 (dk_at dksX4_figure_3 3 rfl rfl)
theorem dX4_figure_75 : decode cX4_figure 75 = .ok (.iconst 0, 1) := dk_3 (dk_at dksX4_figure_3 6 rfl rfl)
theorem dX4_figure_76 : decode cX4_figure 76 = .ok (.ior, 1) := dk_128 (dk_at dksX4_figure_3 7 rfl rfl)
theorem dX4_figure_77 : decode cX4_figure 77 = .ok (.istore_n 3, 1) := dk_62 (dk_at dksX4_figure_3 8 rfl rfl)
theorem dX4_figure_78 : decode cX4_figure 78 = .ok (.iinc 5 1, 3) := dk_132 5 1 (dk_at dksX4_figure_3 9 rfl rfl)
theorem dX4_figure_81 : decode cX4_figure 81 = .ok (.goto (-38), 3) := dk_167 255 218 (dk_at dksX4_figure_3 12 rfl rfl)
theorem dX4_figure_84 : decode cX4_figure 84 = .ok (.iconst 0, 1) := dk_3 (dk_at dksX4_figure_3 15 rfl rfl)
theorem dX4_figure_85 : decode cX4_figure 85 = .ok (.istore 5, 2) := dk_54 5 (dk_at dksX4_figure_3 16 rfl rfl)
theorem dX4_figure_87 : decode cX4_figure 87 = .ok (.iload 5, 2) := dk_21 5 (dk_at dksX4_figure_3 18 rfl rfl)
theorem dX4_figure_89 : decode cX4_figure 89 = .ok (.iconst 1, 1) := dk_4 (dk_at dksX4_figure_3 20 rfl rfl)
theorem dX4_figure_90 : decode cX4_figure 90 = .ok (.aload_n 0, 1) := dk_42 (dk_at dksX4_figure_3 21 rfl rfl)
theorem dX4_figure_91 : decode cX4_figure 91 = .ok (.getfield 39, 3) := dk_180 0 39 (dk_at dksX4_figure_4 0 rfl rfl)
theorem dX4_figure_94 : decode cX4_figure 94 = .ok (.iconst 2, 1) := dk_5 (dk_at dksX4_figure_4 3 rfl rfl)
theorem dX4_figure_95 : decode cX4_figure 95 = .ok (.iaload, 1) := dk_46 (dk_at dksX4_figure_4 4 rfl rfl)
theorem dX4_figure_96 : decode cX4_figure 96 = .ok (.ishl, 1) := dk_120 (dk_at dksX4_figure_4 5 rfl rfl)
theorem dX4_figure_97 : decode cX4_figure 97 = .ok (.if_icmp .ge 53, 3) := dk_162 0 53 (dk_at dksX4_figure_4 6 rfl rfl)
theorem dX4_figure_100 : decode cX4_figure 100 = .ok (.iload 5, 2) := dk_21 5 (dk_at dksX4_figure_4 9 rfl rfl)
theorem dX4_figure_102 : decode cX4_figure 102 = .ok (.iload_n 3, 1) := dk_29 (dk_at dksX4_figure_4 11 rfl rfl)
theorem dX4_figure_103 : decode cX4_figure 103 = .ok (.iconst (-1), 1) := dk_2 (dk_at dksX4_figure_4 12 rfl rfl)
theorem dX4_figure_104 : decode cX4_figure 104 = .ok (.ixor, 1) := dk_130 (dk_at dksX4_figure_4 13 rfl rfl)
theorem dX4_figure_105 : decode cX4_figure 105 = .ok (.iand, 1) := dk_126 (dk_at dksX4_figure_4 14 rfl rfl)
theorem dX4_figure_106 : decode cX4_figure 106 = .ok (.ifCond .ne 38, 3) := dk_154 0 38 (dk_at dksX4_figure_4 15 rfl rfl)
theorem dX4_figure_109 : decode cX4_figure 109 = .ok (.iload 4, 2) := dk_21 4 (dk_at dksX4_figure_4 18 rfl rfl)
theorem dX4_figure_111 : decode cX4_figure 111 = .ok (.ifCond .lt 19, 3) := dk_155 0 19 (dk_at dksX4_figure_4 20 rfl rfl)
theorem dX4_figure_114 : decode cX4_figure 114 = .ok (.iload 5, 2) := dk_21 5 (dk_at dksX4_figure_5 0 rfl rfl)
theorem dX4_figure_116 : decode cX4_figure 116 = .ok (.invokestatic 343, 3) := dk_184 1 87 (dk_at dksX4_figure_5 2 rfl rfl)
theorem dX4_figure_119 : decode cX4_figure 119 = .ok (.iload 4, 2) := dk_21 4 (dk_at dksX4_figure_5 5 rfl rfl)
theorem dX4_figure_121 : decode cX4_figure 121 = .ok (.invokestatic 343, 3) := dk_184 1 87 (dk_at dksX4_figure_5 7 rfl rfl)
theorem dX4_figure_124 : decode cX4_figure 124 = .ok (.if_icmp .lt 6, 3) := dk_161 0 6 (dk_at dksX4_figure_5 10 rfl rfl)
theorem dX4_figure_127 : decode cX4_figure 127 = .ok (.goto 17, 3) := dk_167 0 17 (dk_at dksX4_figure_5 13 rfl rfl)
theorem dX4_figure_130 : decode cX4_figure 130 = .ok (.aload_n 0, 1) := dk_42 (dk_at dksX4_figure_5 16 rfl rfl)
theorem dX4_figure_131 : decode cX4_figure 131 = .ok (.iload 5, 2) := dk_21 5 (dk_at dksX4_figure_5 17 rfl rfl)
theorem dX4_figure_133 : decode cX4_figure 133 = .ok (.invokevirtual 401, 3) := dk_182 1 145 (dk_at dksX4_figure_5 19 rfl rfl)
theorem dX4_figure_136 : decode cX4_figure 136 = .ok (.iload_n 1, 1) := dk_27 (dk_at dksX4_figure_5 22 rfl rfl)
theorem dX4_figure_137 : decode cX4_figure 137 = .ok (.if_icmp .ne 7, 3) := dk_160 0 7 (dk_at dksX4_figure_6 0 rfl rfl)
theorem dX4_figure_140 : decode cX4_figure 140 = .ok (.iload 5, 2) := dk_21 5 (dk_at dksX4_figure_6 3 rfl rfl)
theorem dX4_figure_142 : decode cX4_figure 142 = .ok (.istore 4, 2) := dk_54 4 (dk_at dksX4_figure_6 5 rfl rfl)
theorem dX4_figure_144 : decode cX4_figure 144 = .ok (.iinc 5 1, 3) := dk_132 5 1 (dk_at dksX4_figure_6 7 rfl rfl)
theorem dX4_figure_147 : decode cX4_figure 147 = .ok (.goto (-60), 3) := dk_167 255 196 (dk_at dksX4_figure_6 10 rfl rfl)
theorem dX4_figure_150 : decode cX4_figure 150 = .ok (.iload 4, 2) := dk_21 4 (dk_at dksX4_figure_6 13 rfl rfl)
theorem dX4_figure_152 : decode cX4_figure 152 = .ok (.ifCond .ge 8, 3) := dk_156 0 8 (dk_at dksX4_figure_6 15 rfl rfl)
theorem dX4_figure_155 : decode cX4_figure 155 = .ok (.bipush (-2), 2) := dk_16 254 (dk_at dksX4_figure_6 18 rfl rfl)
theorem dX4_figure_157 : decode cX4_figure 157 = .ok (.goto 17, 3) := dk_167 0 17 (dk_at dksX4_figure_6 20 rfl rfl)
theorem dX4_figure_160 : decode cX4_figure 160 = .ok (.iload_n 2, 1) := dk_28 (dk_at dksX4_figure_6 23 rfl rfl)
theorem dX4_figure_161 : decode cX4_figure 161 = .ok (.ifCond .ne 11, 3) := dk_154 0 11 (dk_at dksX4_figure_7 0 rfl rfl)
theorem dX4_figure_164 : decode cX4_figure 164 = .ok (.iload 4, 2) := dk_21 4 (dk_at dksX4_figure_7 3 rfl rfl)
theorem dX4_figure_166 : decode cX4_figure 166 = .ok (.invokestatic 343, 3) := dk_184 1 87 (dk_at dksX4_figure_7 5 rfl rfl)
theorem dX4_figure_169 : decode cX4_figure 169 = .ok (.goto 5, 3) := dk_167 0 5 (dk_at dksX4_figure_7 8 rfl rfl)
theorem dX4_figure_172 : decode cX4_figure 172 = .ok (.iload 4, 2) := dk_21 4 (dk_at dksX4_figure_7 11 rfl rfl)
theorem dX4_figure_174 : decode cX4_figure 174 = .ok (.ireturn, 1) := dk_172 (dk_at dksX4_figure_7 13 rfl rfl)
abbrev cX4_closedBy : ByteArray := prog_19_method_88_code
def yX4_closedBy : MethodName := ⟨RX4, "closedBy", "(I)I"⟩
def dkwX4_closedBy_6 : List UInt8 := [167, 0, 4, 3, 128, 61, 132, 3, 1, 167, 255, 110, 28, 172]
abbrev dktX4_closedBy_6 : List UInt8 := dkwX4_closedBy_6 ++ []
def dkwX4_closedBy_5 : List UInt8 := [42, 180, 0, 39, 3, 46, 96, 54, 4, 28, 21, 4, 42, 180, 0, 39, 4, 46, 161, 0, 9, 4, 29, 120]
abbrev dktX4_closedBy_5 : List UInt8 := dkwX4_closedBy_5 ++ dktX4_closedBy_6
def dkwX4_closedBy_4 : List UInt8 := [132, 5, 1, 167, 255, 200, 27, 42, 180, 0, 39, 16, 11, 46, 128, 29, 184, 1, 60, 153, 0, 14, 21, 4]
abbrev dktX4_closedBy_4 : List UInt8 := dkwX4_closedBy_4 ++ dktX4_closedBy_5
def dkwX4_closedBy_3 : List UInt8 := [46, 29, 160, 0, 16, 42, 180, 0, 39, 16, 14, 21, 5, 96, 46, 167, 0, 4, 3, 96, 54, 4]
abbrev dktX4_closedBy_3 : List UInt8 := dkwX4_closedBy_3 ++ dktX4_closedBy_4
def dkwX4_closedBy_2 : List UInt8 := [46, 162, 0, 51, 21, 4, 27, 21, 5, 184, 1, 60, 153, 0, 30, 42, 180, 0, 39, 16, 22, 21, 5, 96]
abbrev dktX4_closedBy_2 : List UInt8 := dkwX4_closedBy_2 ++ dktX4_closedBy_3
def dkwX4_closedBy_1 : List UInt8 := [167, 0, 12, 42, 180, 0, 39, 16, 14, 29, 96, 46, 54, 4, 3, 54, 5, 21, 5, 42, 180, 0, 39, 5]
abbrev dktX4_closedBy_1 : List UInt8 := dkwX4_closedBy_1 ++ dktX4_closedBy_2
def dkwX4_closedBy_0 : List UInt8 := [3, 61, 3, 62, 29, 42, 180, 0, 39, 5, 46, 162, 0, 142, 27, 29, 184, 1, 60, 153, 0, 7, 3]
abbrev dktX4_closedBy_0 : List UInt8 := dkwX4_closedBy_0 ++ dktX4_closedBy_1
theorem dksX4_closedBy_0 : cX4_closedBy.data.toList.drop 0 = dktX4_closedBy_0 := by decide +kernel
theorem dksX4_closedBy_1 : cX4_closedBy.data.toList.drop 23 = dktX4_closedBy_1 := dk_seg dksX4_closedBy_0 23 rfl rfl
theorem dksX4_closedBy_2 : cX4_closedBy.data.toList.drop 47 = dktX4_closedBy_2 := dk_seg dksX4_closedBy_1 24 rfl rfl
theorem dksX4_closedBy_3 : cX4_closedBy.data.toList.drop 71 = dktX4_closedBy_3 := dk_seg dksX4_closedBy_2 24 rfl rfl
theorem dksX4_closedBy_4 : cX4_closedBy.data.toList.drop 93 = dktX4_closedBy_4 := dk_seg dksX4_closedBy_3 22 rfl rfl
theorem dksX4_closedBy_5 : cX4_closedBy.data.toList.drop 117 = dktX4_closedBy_5 := dk_seg dksX4_closedBy_4 24 rfl rfl
theorem dksX4_closedBy_6 : cX4_closedBy.data.toList.drop 141 = dktX4_closedBy_6 := dk_seg dksX4_closedBy_5 24 rfl rfl
theorem dX4_closedBy_0 : decode cX4_closedBy 0 = .ok (.iconst 0, 1) := dk_3 (dk_at dksX4_closedBy_0 0 rfl rfl)
theorem dX4_closedBy_1 : decode cX4_closedBy 1 = .ok (.istore_n 2, 1) := dk_61 (dk_at dksX4_closedBy_0 1 rfl rfl)
theorem dX4_closedBy_2 : decode cX4_closedBy 2 = .ok (.iconst 0, 1) := dk_3 (dk_at dksX4_closedBy_0 2 rfl rfl)
theorem dX4_closedBy_3 : decode cX4_closedBy 3 = .ok (.istore_n 3, 1) := dk_62 (dk_at dksX4_closedBy_0 3 rfl rfl)
theorem dX4_closedBy_4 : decode cX4_closedBy 4 = .ok (.iload_n 3, 1) := dk_29 (dk_at dksX4_closedBy_0 4 rfl rfl)
theorem dX4_closedBy_5 : decode cX4_closedBy 5 = .ok (.aload_n 0, 1) := dk_42 (dk_at dksX4_closedBy_0 5 rfl rfl)
theorem dX4_closedBy_6 : decode cX4_closedBy 6 = .ok (.getfield 39, 3) := dk_180 0 39 (dk_at dksX4_closedBy_0 6 rfl rfl)
theorem dX4_closedBy_9 : decode cX4_closedBy 9 = .ok (.iconst 2, 1) := dk_5 (dk_at dksX4_closedBy_0 9 rfl rfl)
theorem dX4_closedBy_10 : decode cX4_closedBy 10 = .ok (.iaload, 1) := dk_46 (dk_at dksX4_closedBy_0 10 rfl rfl)
theorem dX4_closedBy_11 : decode cX4_closedBy 11 = .ok (.if_icmp .ge 142, 3) := dk_162 0 142 (dk_at dksX4_closedBy_0 11 rfl rfl)
theorem dX4_closedBy_14 : decode cX4_closedBy 14 = .ok (.iload_n 1, 1) := dk_27 (dk_at dksX4_closedBy_0 14 rfl rfl)
theorem dX4_closedBy_15 : decode cX4_closedBy 15 = .ok (.iload_n 3, 1) := dk_29 (dk_at dksX4_closedBy_0 15 rfl rfl)
theorem dX4_closedBy_16 : decode cX4_closedBy 16 = .ok (.invokestatic 316, 3) := dk_184 1 60 (dk_at dksX4_closedBy_0 16 rfl rfl)
theorem dX4_closedBy_19 : decode cX4_closedBy 19 = .ok (.ifCond .eq 7, 3) := dk_153 0 7 (dk_at dksX4_closedBy_0 19 rfl rfl)
theorem dX4_closedBy_22 : decode cX4_closedBy 22 = .ok (.iconst 0, 1) := dk_3 (dk_at dksX4_closedBy_0 22 rfl rfl)
theorem dX4_closedBy_23 : decode cX4_closedBy 23 = .ok (.goto 12, 3) := dk_167 0 12 (dk_at dksX4_closedBy_1 0 rfl rfl)
theorem dX4_closedBy_26 : decode cX4_closedBy 26 = .ok (.aload_n 0, 1) := dk_42 (dk_at dksX4_closedBy_1 3 rfl rfl)
theorem dX4_closedBy_27 : decode cX4_closedBy 27 = .ok (.getfield 39, 3) := dk_180 0 39 (dk_at dksX4_closedBy_1 4 rfl rfl)
theorem dX4_closedBy_30 : decode cX4_closedBy 30 = .ok (.bipush 14, 2) := dk_16 14 (dk_at dksX4_closedBy_1 7 rfl rfl)
theorem dX4_closedBy_32 : decode cX4_closedBy 32 = .ok (.iload_n 3, 1) := dk_29 (dk_at dksX4_closedBy_1 9 rfl rfl)
theorem dX4_closedBy_33 : decode cX4_closedBy 33 = .ok (.iadd, 1) := dk_96 (dk_at dksX4_closedBy_1 10 rfl rfl)
theorem dX4_closedBy_34 : decode cX4_closedBy 34 = .ok (.iaload, 1) := dk_46 (dk_at dksX4_closedBy_1 11 rfl rfl)
theorem dX4_closedBy_35 : decode cX4_closedBy 35 = .ok (.istore 4, 2) := dk_54 4 (dk_at dksX4_closedBy_1 12 rfl rfl)
theorem dX4_closedBy_37 : decode cX4_closedBy 37 = .ok (.iconst 0, 1) := dk_3 (dk_at dksX4_closedBy_1 14 rfl rfl)
theorem dX4_closedBy_38 : decode cX4_closedBy 38 = .ok (.istore 5, 2) := dk_54 5 (dk_at dksX4_closedBy_1 15 rfl rfl)
theorem dX4_closedBy_40 : decode cX4_closedBy 40 = .ok (.iload 5, 2) := dk_21 5 (dk_at dksX4_closedBy_1 17 rfl rfl)
theorem dX4_closedBy_42 : decode cX4_closedBy 42 = .ok (.aload_n 0, 1) := dk_42 (dk_at dksX4_closedBy_1 19 rfl rfl)
theorem dX4_closedBy_43 : decode cX4_closedBy 43 = .ok (.getfield 39, 3) := dk_180 0 39 (dk_at dksX4_closedBy_1 20 rfl rfl)
theorem dX4_closedBy_46 : decode cX4_closedBy 46 = .ok (.iconst 2, 1) := dk_5 (dk_at dksX4_closedBy_1 23 rfl rfl)
theorem dX4_closedBy_47 : decode cX4_closedBy 47 = .ok (.iaload, 1) := dk_46 (dk_at dksX4_closedBy_2 0 rfl rfl)
theorem dX4_closedBy_48 : decode cX4_closedBy 48 = .ok (.if_icmp .ge 51, 3) := dk_162 0 51 (dk_at dksX4_closedBy_2 1 rfl rfl)
theorem dX4_closedBy_51 : decode cX4_closedBy 51 = .ok (.iload 4, 2) := dk_21 4 (dk_at dksX4_closedBy_2 4 rfl rfl)
theorem dX4_closedBy_53 : decode cX4_closedBy 53 = .ok (.iload_n 1, 1) := dk_27 (dk_at dksX4_closedBy_2 6 rfl rfl)
theorem dX4_closedBy_54 : decode cX4_closedBy 54 = .ok (.iload 5, 2) := dk_21 5 (dk_at dksX4_closedBy_2 7 rfl rfl)
theorem dX4_closedBy_56 : decode cX4_closedBy 56 = .ok (.invokestatic 316, 3) := dk_184 1 60 (dk_at dksX4_closedBy_2 9 rfl rfl)
theorem dX4_closedBy_59 : decode cX4_closedBy 59 = .ok (.ifCond .eq 30, 3) := dk_153 0 30 (dk_at dksX4_closedBy_2 12 rfl rfl)
theorem dX4_closedBy_62 : decode cX4_closedBy 62 = .ok (.aload_n 0, 1) := dk_42 (dk_at dksX4_closedBy_2 15 rfl rfl)
theorem dX4_closedBy_63 : decode cX4_closedBy 63 = .ok (.getfield 39, 3) := dk_180 0 39 (dk_at dksX4_closedBy_2 16 rfl rfl)
theorem dX4_closedBy_66 : decode cX4_closedBy 66 = .ok (.bipush 22, 2) := dk_16 22 (dk_at dksX4_closedBy_2 19 rfl rfl)
theorem dX4_closedBy_68 : decode cX4_closedBy 68 = .ok (.iload 5, 2) := dk_21 5 (dk_at dksX4_closedBy_2 21 rfl rfl)
theorem dX4_closedBy_70 : decode cX4_closedBy 70 = .ok (.iadd, 1) := dk_96 (dk_at dksX4_closedBy_2 23 rfl rfl)
theorem dX4_closedBy_71 : decode cX4_closedBy 71 = .ok (.iaload, 1) := dk_46 (dk_at dksX4_closedBy_3 0 rfl rfl)
theorem dX4_closedBy_72 : decode cX4_closedBy 72 = .ok (.iload_n 3, 1) := dk_29 (dk_at dksX4_closedBy_3 1 rfl rfl)
theorem dX4_closedBy_73 : decode cX4_closedBy 73 = .ok (.if_icmp .ne 16, 3) := dk_160 0 16 (dk_at dksX4_closedBy_3 2 rfl rfl)
theorem dX4_closedBy_76 : decode cX4_closedBy 76 = .ok (.aload_n 0, 1) := dk_42 (dk_at dksX4_closedBy_3 5 rfl rfl)
theorem dX4_closedBy_77 : decode cX4_closedBy 77 = .ok (.getfield 39, 3) := dk_180 0 39 (dk_at dksX4_closedBy_3 6 rfl rfl)
theorem dX4_closedBy_80 : decode cX4_closedBy 80 = .ok (.bipush 14, 2) := dk_16 14 (dk_at dksX4_closedBy_3 9 rfl rfl)
theorem dX4_closedBy_82 : decode cX4_closedBy 82 = .ok (.iload 5, 2) := dk_21 5 (dk_at dksX4_closedBy_3 11 rfl rfl)
theorem dX4_closedBy_84 : decode cX4_closedBy 84 = .ok (.iadd, 1) := dk_96 (dk_at dksX4_closedBy_3 13 rfl rfl)
theorem dX4_closedBy_85 : decode cX4_closedBy 85 = .ok (.iaload, 1) := dk_46 (dk_at dksX4_closedBy_3 14 rfl rfl)
theorem dX4_closedBy_86 : decode cX4_closedBy 86 = .ok (.goto 4, 3) := dk_167 0 4 (dk_at dksX4_closedBy_3 15 rfl rfl)
theorem dX4_closedBy_89 : decode cX4_closedBy 89 = .ok (.iconst 0, 1) := dk_3 (dk_at dksX4_closedBy_3 18 rfl rfl)
theorem dX4_closedBy_90 : decode cX4_closedBy 90 = .ok (.iadd, 1) := dk_96 (dk_at dksX4_closedBy_3 19 rfl rfl)
theorem dX4_closedBy_91 : decode cX4_closedBy 91 = .ok (.istore 4, 2) := dk_54 4 (dk_at dksX4_closedBy_3 20 rfl rfl)
theorem dX4_closedBy_93 : decode cX4_closedBy 93 = .ok (.iinc 5 1, 3) := dk_132 5 1 (dk_at dksX4_closedBy_4 0 rfl rfl)
theorem dX4_closedBy_96 : decode cX4_closedBy 96 = .ok (.goto (-56), 3) := dk_167 255 200 (dk_at dksX4_closedBy_4 3 rfl rfl)
theorem dX4_closedBy_99 : decode cX4_closedBy 99 = .ok (.iload_n 1, 1) := dk_27 (dk_at dksX4_closedBy_4 6 rfl rfl)
theorem dX4_closedBy_100 : decode cX4_closedBy 100 = .ok (.aload_n 0, 1) := dk_42 (dk_at dksX4_closedBy_4 7 rfl rfl)
theorem dX4_closedBy_101 : decode cX4_closedBy 101 = .ok (.getfield 39, 3) := dk_180 0 39 (dk_at dksX4_closedBy_4 8 rfl rfl)
theorem dX4_closedBy_104 : decode cX4_closedBy 104 = .ok (.bipush 11, 2) := dk_16 11 (dk_at dksX4_closedBy_4 11 rfl rfl)
theorem dX4_closedBy_106 : decode cX4_closedBy 106 = .ok (.iaload, 1) := dk_46 (dk_at dksX4_closedBy_4 13 rfl rfl)
theorem dX4_closedBy_107 : decode cX4_closedBy 107 = .ok (.ior, 1) := dk_128 (dk_at dksX4_closedBy_4 14 rfl rfl)
theorem dX4_closedBy_108 : decode cX4_closedBy 108 = .ok (.iload_n 3, 1) := dk_29 (dk_at dksX4_closedBy_4 15 rfl rfl)
theorem dX4_closedBy_109 : decode cX4_closedBy 109 = .ok (.invokestatic 316, 3) := dk_184 1 60 (dk_at dksX4_closedBy_4 16 rfl rfl)
theorem dX4_closedBy_112 : decode cX4_closedBy 112 = .ok (.ifCond .eq 14, 3) := dk_153 0 14 (dk_at dksX4_closedBy_4 19 rfl rfl)
theorem dX4_closedBy_115 : decode cX4_closedBy 115 = .ok (.iload 4, 2) := dk_21 4 (dk_at dksX4_closedBy_4 22 rfl rfl)
theorem dX4_closedBy_117 : decode cX4_closedBy 117 = .ok (.aload_n 0, 1) := dk_42 (dk_at dksX4_closedBy_5 0 rfl rfl)
theorem dX4_closedBy_118 : decode cX4_closedBy 118 = .ok (.getfield 39, 3) := dk_180 0 39 (dk_at dksX4_closedBy_5 1 rfl rfl)
theorem dX4_closedBy_121 : decode cX4_closedBy 121 = .ok (.iconst 0, 1) := dk_3 (dk_at dksX4_closedBy_5 4 rfl rfl)
theorem dX4_closedBy_122 : decode cX4_closedBy 122 = .ok (.iaload, 1) := dk_46 (dk_at dksX4_closedBy_5 5 rfl rfl)
theorem dX4_closedBy_123 : decode cX4_closedBy 123 = .ok (.iadd, 1) := dk_96 (dk_at dksX4_closedBy_5 6 rfl rfl)
theorem dX4_closedBy_124 : decode cX4_closedBy 124 = .ok (.istore 4, 2) := dk_54 4 (dk_at dksX4_closedBy_5 7 rfl rfl)
theorem dX4_closedBy_126 : decode cX4_closedBy 126 = .ok (.iload_n 2, 1) := dk_28 (dk_at dksX4_closedBy_5 9 rfl rfl)
theorem dX4_closedBy_127 : decode cX4_closedBy 127 = .ok (.iload 4, 2) := dk_21 4 (dk_at dksX4_closedBy_5 10 rfl rfl)
theorem dX4_closedBy_129 : decode cX4_closedBy 129 = .ok (.aload_n 0, 1) := dk_42 (dk_at dksX4_closedBy_5 12 rfl rfl)
theorem dX4_closedBy_130 : decode cX4_closedBy 130 = .ok (.getfield 39, 3) := dk_180 0 39 (dk_at dksX4_closedBy_5 13 rfl rfl)
theorem dX4_closedBy_133 : decode cX4_closedBy 133 = .ok (.iconst 1, 1) := dk_4 (dk_at dksX4_closedBy_5 16 rfl rfl)
theorem dX4_closedBy_134 : decode cX4_closedBy 134 = .ok (.iaload, 1) := dk_46 (dk_at dksX4_closedBy_5 17 rfl rfl)
theorem dX4_closedBy_135 : decode cX4_closedBy 135 = .ok (.if_icmp .lt 9, 3) := dk_161 0 9 (dk_at dksX4_closedBy_5 18 rfl rfl)
theorem dX4_closedBy_138 : decode cX4_closedBy 138 = .ok (.iconst 1, 1) := dk_4 (dk_at dksX4_closedBy_5 21 rfl rfl)
theorem dX4_closedBy_139 : decode cX4_closedBy 139 = .ok (.iload_n 3, 1) := dk_29 (dk_at dksX4_closedBy_5 22 rfl rfl)
theorem dX4_closedBy_140 : decode cX4_closedBy 140 = .ok (.ishl, 1) := dk_120 (dk_at dksX4_closedBy_5 23 rfl rfl)
theorem dX4_closedBy_141 : decode cX4_closedBy 141 = .ok (.goto 4, 3) := dk_167 0 4 (dk_at dksX4_closedBy_6 0 rfl rfl)
theorem dX4_closedBy_144 : decode cX4_closedBy 144 = .ok (.iconst 0, 1) := dk_3 (dk_at dksX4_closedBy_6 3 rfl rfl)
theorem dX4_closedBy_145 : decode cX4_closedBy 145 = .ok (.ior, 1) := dk_128 (dk_at dksX4_closedBy_6 4 rfl rfl)
theorem dX4_closedBy_146 : decode cX4_closedBy 146 = .ok (.istore_n 2, 1) := dk_61 (dk_at dksX4_closedBy_6 5 rfl rfl)
theorem dX4_closedBy_147 : decode cX4_closedBy 147 = .ok (.iinc 3 1, 3) := dk_132 3 1 (dk_at dksX4_closedBy_6 6 rfl rfl)
theorem dX4_closedBy_150 : decode cX4_closedBy 150 = .ok (.goto (-146), 3) := dk_167 255 110 (dk_at dksX4_closedBy_6 9 rfl rfl)
theorem dX4_closedBy_153 : decode cX4_closedBy 153 = .ok (.iload_n 2, 1) := dk_28 (dk_at dksX4_closedBy_6 12 rfl rfl)
theorem dX4_closedBy_154 : decode cX4_closedBy 154 = .ok (.ireturn, 1) := dk_172 (dk_at dksX4_closedBy_6 13 rfl rfl)
abbrev cX4_way : ByteArray := prog_19_method_93_code
def yX4_way : MethodName := ⟨RX4, "way", "(III)I"⟩
def dkwX4_way_4 : List UInt8 := [42, 27, 182, 1, 151, 172]
abbrev dktX4_way_4 : List UInt8 := dkwX4_way_4 ++ []
def dkwX4_way_3 : List UInt8 := [160, 0, 15, 42, 180, 0, 61, 27, 46, 16, 100, 112, 167, 0, 17, 27, 28, 160, 0, 7, 2, 167, 0, 8]
abbrev dktX4_way_3 : List UInt8 := dkwX4_way_3 ++ dktX4_way_4
def dkwX4_way_2 : List UInt8 := [161, 0, 6, 16, 254, 172, 29, 154, 0, 15, 42, 180, 0, 61, 27, 46, 16, 100, 108, 167, 0, 34, 29, 4]
abbrev dktX4_way_2 : List UInt8 := dkwX4_way_2 ++ dktX4_way_3
def dkwX4_way_1 : List UInt8 := [184, 0, 124, 154, 0, 6, 16, 253, 172, 42, 28, 182, 1, 154, 42, 180, 0, 61, 27, 46, 17, 39, 15]
abbrev dktX4_way_1 : List UInt8 := dkwX4_way_1 ++ dktX4_way_2
def dkwX4_way_0 : List UInt8 := [42, 27, 182, 1, 57, 153, 0, 23, 42, 28, 182, 1, 57, 153, 0, 15, 29, 133, 9, 20, 1, 69]
abbrev dktX4_way_0 : List UInt8 := dkwX4_way_0 ++ dktX4_way_1
theorem dksX4_way_0 : cX4_way.data.toList.drop 0 = dktX4_way_0 := by decide +kernel
theorem dksX4_way_1 : cX4_way.data.toList.drop 22 = dktX4_way_1 := dk_seg dksX4_way_0 22 rfl rfl
theorem dksX4_way_2 : cX4_way.data.toList.drop 45 = dktX4_way_2 := dk_seg dksX4_way_1 23 rfl rfl
theorem dksX4_way_3 : cX4_way.data.toList.drop 69 = dktX4_way_3 := dk_seg dksX4_way_2 24 rfl rfl
theorem dksX4_way_4 : cX4_way.data.toList.drop 93 = dktX4_way_4 := dk_seg dksX4_way_3 24 rfl rfl
theorem dX4_way_0 : decode cX4_way 0 = .ok (.aload_n 0, 1) := dk_42 (dk_at dksX4_way_0 0 rfl rfl)
theorem dX4_way_1 : decode cX4_way 1 = .ok (.iload_n 1, 1) := dk_27 (dk_at dksX4_way_0 1 rfl rfl)
theorem dX4_way_2 : decode cX4_way 2 = .ok (.invokevirtual 313, 3) := dk_182 1 57 (dk_at dksX4_way_0 2 rfl rfl)
theorem dX4_way_5 : decode cX4_way 5 = .ok (.ifCond .eq 23, 3) := dk_153 0 23 (dk_at dksX4_way_0 5 rfl rfl)
theorem dX4_way_8 : decode cX4_way 8 = .ok (.aload_n 0, 1) := dk_42 (dk_at dksX4_way_0 8 rfl rfl)
theorem dX4_way_9 : decode cX4_way 9 = .ok (.iload_n 2, 1) := dk_28 (dk_at dksX4_way_0 9 rfl rfl)
theorem dX4_way_10 : decode cX4_way 10 = .ok (.invokevirtual 313, 3) := dk_182 1 57 (dk_at dksX4_way_0 10 rfl rfl)
theorem dX4_way_13 : decode cX4_way 13 = .ok (.ifCond .eq 15, 3) := dk_153 0 15 (dk_at dksX4_way_0 13 rfl rfl)
theorem dX4_way_16 : decode cX4_way 16 = .ok (.iload_n 3, 1) := dk_29 (dk_at dksX4_way_0 16 rfl rfl)
theorem dX4_way_17 : decode cX4_way 17 = .ok (.i2l, 1) := dk_133 (dk_at dksX4_way_0 17 rfl rfl)
theorem dX4_way_18 : decode cX4_way 18 = .ok (.lconst 0, 1) := dk_9 (dk_at dksX4_way_0 18 rfl rfl)
theorem dX4_way_19 : decode cX4_way 19 = .ok (.ldc2_w 325, 3) := dk_20 1 69 (dk_at dksX4_way_0 19 rfl rfl)
theorem dX4_way_22 : decode cX4_way 22 = .ok (.invokestatic 124, 3) := dk_184 0 124 (dk_at dksX4_way_1 0 rfl rfl)
theorem dX4_way_25 : decode cX4_way 25 = .ok (.ifCond .ne 6, 3) := dk_154 0 6 (dk_at dksX4_way_1 3 rfl rfl)
theorem dX4_way_28 : decode cX4_way 28 = .ok (.bipush (-3), 2) := dk_16 253 (dk_at dksX4_way_1 6 rfl rfl)
theorem dX4_way_30 : decode cX4_way 30 = .ok (.ireturn, 1) := dk_172 (dk_at dksX4_way_1 8 rfl rfl)
theorem dX4_way_31 : decode cX4_way 31 = .ok (.aload_n 0, 1) := dk_42 (dk_at dksX4_way_1 9 rfl rfl)
theorem dX4_way_32 : decode cX4_way 32 = .ok (.iload_n 2, 1) := dk_28 (dk_at dksX4_way_1 10 rfl rfl)
theorem dX4_way_33 : decode cX4_way 33 = .ok (.invokevirtual 410, 3) := dk_182 1 154 (dk_at dksX4_way_1 11 rfl rfl)
theorem dX4_way_36 : decode cX4_way 36 = .ok (.aload_n 0, 1) := dk_42 (dk_at dksX4_way_1 14 rfl rfl)
theorem dX4_way_37 : decode cX4_way 37 = .ok (.getfield 61, 3) := dk_180 0 61 (dk_at dksX4_way_1 15 rfl rfl)
theorem dX4_way_40 : decode cX4_way 40 = .ok (.iload_n 1, 1) := dk_27 (dk_at dksX4_way_1 18 rfl rfl)
theorem dX4_way_41 : decode cX4_way 41 = .ok (.iaload, 1) := dk_46 (dk_at dksX4_way_1 19 rfl rfl)
theorem dX4_way_42 : decode cX4_way 42 = .ok (.sipush 9999, 3) := dk_17 39 15 (dk_at dksX4_way_1 20 rfl rfl)
theorem dX4_way_45 : decode cX4_way 45 = .ok (.if_icmp .lt 6, 3) := dk_161 0 6 (dk_at dksX4_way_2 0 rfl rfl)
theorem dX4_way_48 : decode cX4_way 48 = .ok (.bipush (-2), 2) := dk_16 254 (dk_at dksX4_way_2 3 rfl rfl)
theorem dX4_way_50 : decode cX4_way 50 = .ok (.ireturn, 1) := dk_172 (dk_at dksX4_way_2 5 rfl rfl)
theorem dX4_way_51 : decode cX4_way 51 = .ok (.iload_n 3, 1) := dk_29 (dk_at dksX4_way_2 6 rfl rfl)
theorem dX4_way_52 : decode cX4_way 52 = .ok (.ifCond .ne 15, 3) := dk_154 0 15 (dk_at dksX4_way_2 7 rfl rfl)
theorem dX4_way_55 : decode cX4_way 55 = .ok (.aload_n 0, 1) := dk_42 (dk_at dksX4_way_2 10 rfl rfl)
theorem dX4_way_56 : decode cX4_way 56 = .ok (.getfield 61, 3) := dk_180 0 61 (dk_at dksX4_way_2 11 rfl rfl)
theorem dX4_way_59 : decode cX4_way 59 = .ok (.iload_n 1, 1) := dk_27 (dk_at dksX4_way_2 14 rfl rfl)
theorem dX4_way_60 : decode cX4_way 60 = .ok (.iaload, 1) := dk_46 (dk_at dksX4_way_2 15 rfl rfl)
theorem dX4_way_61 : decode cX4_way 61 = .ok (.bipush 100, 2) := dk_16 100 (dk_at dksX4_way_2 16 rfl rfl)
theorem dX4_way_63 : decode cX4_way 63 = .ok (.idiv, 1) := dk_108 (dk_at dksX4_way_2 18 rfl rfl)
theorem dX4_way_64 : decode cX4_way 64 = .ok (.goto 34, 3) := dk_167 0 34 (dk_at dksX4_way_2 19 rfl rfl)
theorem dX4_way_67 : decode cX4_way 67 = .ok (.iload_n 3, 1) := dk_29 (dk_at dksX4_way_2 22 rfl rfl)
theorem dX4_way_68 : decode cX4_way 68 = .ok (.iconst 1, 1) := dk_4 (dk_at dksX4_way_2 23 rfl rfl)
theorem dX4_way_69 : decode cX4_way 69 = .ok (.if_icmp .ne 15, 3) := dk_160 0 15 (dk_at dksX4_way_3 0 rfl rfl)
theorem dX4_way_72 : decode cX4_way 72 = .ok (.aload_n 0, 1) := dk_42 (dk_at dksX4_way_3 3 rfl rfl)
theorem dX4_way_73 : decode cX4_way 73 = .ok (.getfield 61, 3) := dk_180 0 61 (dk_at dksX4_way_3 4 rfl rfl)
theorem dX4_way_76 : decode cX4_way 76 = .ok (.iload_n 1, 1) := dk_27 (dk_at dksX4_way_3 7 rfl rfl)
theorem dX4_way_77 : decode cX4_way 77 = .ok (.iaload, 1) := dk_46 (dk_at dksX4_way_3 8 rfl rfl)
theorem dX4_way_78 : decode cX4_way 78 = .ok (.bipush 100, 2) := dk_16 100 (dk_at dksX4_way_3 9 rfl rfl)
theorem dX4_way_80 : decode cX4_way 80 = .ok (.irem, 1) := dk_112 (dk_at dksX4_way_3 11 rfl rfl)
theorem dX4_way_81 : decode cX4_way 81 = .ok (.goto 17, 3) := dk_167 0 17 (dk_at dksX4_way_3 12 rfl rfl)
theorem dX4_way_84 : decode cX4_way 84 = .ok (.iload_n 1, 1) := dk_27 (dk_at dksX4_way_3 15 rfl rfl)
theorem dX4_way_85 : decode cX4_way 85 = .ok (.iload_n 2, 1) := dk_28 (dk_at dksX4_way_3 16 rfl rfl)
theorem dX4_way_86 : decode cX4_way 86 = .ok (.if_icmp .ne 7, 3) := dk_160 0 7 (dk_at dksX4_way_3 17 rfl rfl)
theorem dX4_way_89 : decode cX4_way 89 = .ok (.iconst (-1), 1) := dk_2 (dk_at dksX4_way_3 20 rfl rfl)
theorem dX4_way_90 : decode cX4_way 90 = .ok (.goto 8, 3) := dk_167 0 8 (dk_at dksX4_way_3 21 rfl rfl)
theorem dX4_way_93 : decode cX4_way 93 = .ok (.aload_n 0, 1) := dk_42 (dk_at dksX4_way_4 0 rfl rfl)
theorem dX4_way_94 : decode cX4_way 94 = .ok (.iload_n 1, 1) := dk_27 (dk_at dksX4_way_4 1 rfl rfl)
theorem dX4_way_95 : decode cX4_way 95 = .ok (.invokevirtual 407, 3) := dk_182 1 151 (dk_at dksX4_way_4 2 rfl rfl)
theorem dX4_way_98 : decode cX4_way 98 = .ok (.ireturn, 1) := dk_172 (dk_at dksX4_way_4 5 rfl rfl)
abbrev cX4_fillsPrices : ByteArray := prog_19_method_92_code
def yX4_fillsPrices : MethodName := ⟨RX4, "fillsPrices", "(I)V"⟩
def dkwX4_fillsPrices_5 : List UInt8 := [167, 255, 185, 167, 255, 174, 177]
abbrev dktX4_fillsPrices_5 : List UInt8 := dkwX4_fillsPrices_5 ++ []
def dkwX4_fillsPrices_4 : List UInt8 := [180, 0, 61, 29, 42, 180, 0, 61, 21, 4, 46, 42, 29, 182, 1, 148, 96, 79, 4, 61, 132, 3, 1]
abbrev dktX4_fillsPrices_4 : List UInt8 := dkwX4_fillsPrices_4 ++ dktX4_fillsPrices_5
def dkwX4_fillsPrices_3 : List UInt8 := [21, 4, 46, 42, 29, 182, 1, 148, 96, 42, 180, 0, 61, 29, 46, 161, 0, 6, 167, 0, 24, 42]
abbrev dktX4_fillsPrices_3 : List UInt8 := dkwX4_fillsPrices_3 ++ dktX4_fillsPrices_4
def dkwX4_fillsPrices_2 : List UInt8 := [180, 0, 39, 5, 46, 162, 0, 67, 42, 29, 182, 1, 151, 54, 4, 21, 4, 155, 0, 49, 42, 180, 0, 61]
abbrev dktX4_fillsPrices_2 : List UInt8 := dkwX4_fillsPrices_2 ++ dktX4_fillsPrices_3
def dkwX4_fillsPrices_1 : List UInt8 := [180, 0, 61, 27, 42, 27, 182, 1, 148, 79, 4, 61, 28, 153, 0, 84, 3, 61, 3, 62, 29, 42]
abbrev dktX4_fillsPrices_1 : List UInt8 := dkwX4_fillsPrices_1 ++ dktX4_fillsPrices_2
def dkwX4_fillsPrices_0 : List UInt8 := [3, 61, 28, 16, 8, 162, 0, 18, 42, 180, 0, 61, 28, 17, 39, 15, 79, 132, 2, 1, 167, 255, 238, 42]
abbrev dktX4_fillsPrices_0 : List UInt8 := dkwX4_fillsPrices_0 ++ dktX4_fillsPrices_1
theorem dksX4_fillsPrices_0 : cX4_fillsPrices.data.toList.drop 0 = dktX4_fillsPrices_0 := by decide +kernel
theorem dksX4_fillsPrices_1 : cX4_fillsPrices.data.toList.drop 24 = dktX4_fillsPrices_1 := dk_seg dksX4_fillsPrices_0 24 rfl rfl
theorem dksX4_fillsPrices_2 : cX4_fillsPrices.data.toList.drop 46 = dktX4_fillsPrices_2 := dk_seg dksX4_fillsPrices_1 22 rfl rfl
theorem dksX4_fillsPrices_3 : cX4_fillsPrices.data.toList.drop 70 = dktX4_fillsPrices_3 := dk_seg dksX4_fillsPrices_2 24 rfl rfl
theorem dksX4_fillsPrices_4 : cX4_fillsPrices.data.toList.drop 92 = dktX4_fillsPrices_4 := dk_seg dksX4_fillsPrices_3 22 rfl rfl
theorem dksX4_fillsPrices_5 : cX4_fillsPrices.data.toList.drop 115 = dktX4_fillsPrices_5 := dk_seg dksX4_fillsPrices_4 23 rfl rfl
theorem dX4_fillsPrices_0 : decode cX4_fillsPrices 0 = .ok (.iconst 0, 1) := dk_3 (dk_at dksX4_fillsPrices_0 0 rfl rfl)
theorem dX4_fillsPrices_1 : decode cX4_fillsPrices 1 = .ok (.istore_n 2, 1) := dk_61 (dk_at dksX4_fillsPrices_0 1 rfl rfl)
theorem dX4_fillsPrices_2 : decode cX4_fillsPrices 2 = .ok (.iload_n 2, 1) := dk_28 (dk_at dksX4_fillsPrices_0 2 rfl rfl)
theorem dX4_fillsPrices_3 : decode cX4_fillsPrices 3 = .ok (.bipush 8, 2) := dk_16 8 (dk_at dksX4_fillsPrices_0 3 rfl rfl)
theorem dX4_fillsPrices_5 : decode cX4_fillsPrices 5 = .ok (.if_icmp .ge 18, 3) := dk_162 0 18 (dk_at dksX4_fillsPrices_0 5 rfl rfl)
theorem dX4_fillsPrices_8 : decode cX4_fillsPrices 8 = .ok (.aload_n 0, 1) := dk_42 (dk_at dksX4_fillsPrices_0 8 rfl rfl)
theorem dX4_fillsPrices_9 : decode cX4_fillsPrices 9 = .ok (.getfield 61, 3) := dk_180 0 61 (dk_at dksX4_fillsPrices_0 9 rfl rfl)
theorem dX4_fillsPrices_12 : decode cX4_fillsPrices 12 = .ok (.iload_n 2, 1) := dk_28 (dk_at dksX4_fillsPrices_0 12 rfl rfl)
theorem dX4_fillsPrices_13 : decode cX4_fillsPrices 13 = .ok (.sipush 9999, 3) := dk_17 39 15 (dk_at dksX4_fillsPrices_0 13 rfl rfl)
theorem dX4_fillsPrices_16 : decode cX4_fillsPrices 16 = .ok (.iastore, 1) := dk_79 (dk_at dksX4_fillsPrices_0 16 rfl rfl)
theorem dX4_fillsPrices_17 : decode cX4_fillsPrices 17 = .ok (.iinc 2 1, 3) := dk_132 2 1 (dk_at dksX4_fillsPrices_0 17 rfl rfl)
theorem dX4_fillsPrices_20 : decode cX4_fillsPrices 20 = .ok (.goto (-18), 3) := dk_167 255 238 (dk_at dksX4_fillsPrices_0 20 rfl rfl)
theorem dX4_fillsPrices_23 : decode cX4_fillsPrices 23 = .ok (.aload_n 0, 1) := dk_42 (dk_at dksX4_fillsPrices_0 23 rfl rfl)
theorem dX4_fillsPrices_24 : decode cX4_fillsPrices 24 = .ok (.getfield 61, 3) := dk_180 0 61 (dk_at dksX4_fillsPrices_1 0 rfl rfl)
theorem dX4_fillsPrices_27 : decode cX4_fillsPrices 27 = .ok (.iload_n 1, 1) := dk_27 (dk_at dksX4_fillsPrices_1 3 rfl rfl)
theorem dX4_fillsPrices_28 : decode cX4_fillsPrices 28 = .ok (.aload_n 0, 1) := dk_42 (dk_at dksX4_fillsPrices_1 4 rfl rfl)
theorem dX4_fillsPrices_29 : decode cX4_fillsPrices 29 = .ok (.iload_n 1, 1) := dk_27 (dk_at dksX4_fillsPrices_1 5 rfl rfl)
theorem dX4_fillsPrices_30 : decode cX4_fillsPrices 30 = .ok (.invokevirtual 404, 3) := dk_182 1 148 (dk_at dksX4_fillsPrices_1 6 rfl rfl)
theorem dX4_fillsPrices_33 : decode cX4_fillsPrices 33 = .ok (.iastore, 1) := dk_79 (dk_at dksX4_fillsPrices_1 9 rfl rfl)
theorem dX4_fillsPrices_34 : decode cX4_fillsPrices 34 = .ok (.iconst 1, 1) := dk_4 (dk_at dksX4_fillsPrices_1 10 rfl rfl)
theorem dX4_fillsPrices_35 : decode cX4_fillsPrices 35 = .ok (.istore_n 2, 1) := dk_61 (dk_at dksX4_fillsPrices_1 11 rfl rfl)
theorem dX4_fillsPrices_36 : decode cX4_fillsPrices 36 = .ok (.iload_n 2, 1) := dk_28 (dk_at dksX4_fillsPrices_1 12 rfl rfl)
theorem dX4_fillsPrices_37 : decode cX4_fillsPrices 37 = .ok (.ifCond .eq 84, 3) := dk_153 0 84 (dk_at dksX4_fillsPrices_1 13 rfl rfl)
theorem dX4_fillsPrices_40 : decode cX4_fillsPrices 40 = .ok (.iconst 0, 1) := dk_3 (dk_at dksX4_fillsPrices_1 16 rfl rfl)
theorem dX4_fillsPrices_41 : decode cX4_fillsPrices 41 = .ok (.istore_n 2, 1) := dk_61 (dk_at dksX4_fillsPrices_1 17 rfl rfl)
theorem dX4_fillsPrices_42 : decode cX4_fillsPrices 42 = .ok (.iconst 0, 1) := dk_3 (dk_at dksX4_fillsPrices_1 18 rfl rfl)
theorem dX4_fillsPrices_43 : decode cX4_fillsPrices 43 = .ok (.istore_n 3, 1) := dk_62 (dk_at dksX4_fillsPrices_1 19 rfl rfl)
theorem dX4_fillsPrices_44 : decode cX4_fillsPrices 44 = .ok (.iload_n 3, 1) := dk_29 (dk_at dksX4_fillsPrices_1 20 rfl rfl)
theorem dX4_fillsPrices_45 : decode cX4_fillsPrices 45 = .ok (.aload_n 0, 1) := dk_42 (dk_at dksX4_fillsPrices_1 21 rfl rfl)
theorem dX4_fillsPrices_46 : decode cX4_fillsPrices 46 = .ok (.getfield 39, 3) := dk_180 0 39 (dk_at dksX4_fillsPrices_2 0 rfl rfl)
theorem dX4_fillsPrices_49 : decode cX4_fillsPrices 49 = .ok (.iconst 2, 1) := dk_5 (dk_at dksX4_fillsPrices_2 3 rfl rfl)
theorem dX4_fillsPrices_50 : decode cX4_fillsPrices 50 = .ok (.iaload, 1) := dk_46 (dk_at dksX4_fillsPrices_2 4 rfl rfl)
theorem dX4_fillsPrices_51 : decode cX4_fillsPrices 51 = .ok (.if_icmp .ge 67, 3) := dk_162 0 67 (dk_at dksX4_fillsPrices_2 5 rfl rfl)
theorem dX4_fillsPrices_54 : decode cX4_fillsPrices 54 = .ok (.aload_n 0, 1) := dk_42 (dk_at dksX4_fillsPrices_2 8 rfl rfl)
theorem dX4_fillsPrices_55 : decode cX4_fillsPrices 55 = .ok (.iload_n 3, 1) := dk_29 (dk_at dksX4_fillsPrices_2 9 rfl rfl)
theorem dX4_fillsPrices_56 : decode cX4_fillsPrices 56 = .ok (.invokevirtual 407, 3) := dk_182 1 151 (dk_at dksX4_fillsPrices_2 10 rfl rfl)
theorem dX4_fillsPrices_59 : decode cX4_fillsPrices 59 = .ok (.istore 4, 2) := dk_54 4 (dk_at dksX4_fillsPrices_2 13 rfl rfl)
theorem dX4_fillsPrices_61 : decode cX4_fillsPrices 61 = .ok (.iload 4, 2) := dk_21 4 (dk_at dksX4_fillsPrices_2 15 rfl rfl)
theorem dX4_fillsPrices_63 : decode cX4_fillsPrices 63 = .ok (.ifCond .lt 49, 3) := dk_155 0 49 (dk_at dksX4_fillsPrices_2 17 rfl rfl)
theorem dX4_fillsPrices_66 : decode cX4_fillsPrices 66 = .ok (.aload_n 0, 1) := dk_42 (dk_at dksX4_fillsPrices_2 20 rfl rfl)
theorem dX4_fillsPrices_67 : decode cX4_fillsPrices 67 = .ok (.getfield 61, 3) := dk_180 0 61 (dk_at dksX4_fillsPrices_2 21 rfl rfl)
theorem dX4_fillsPrices_70 : decode cX4_fillsPrices 70 = .ok (.iload 4, 2) := dk_21 4 (dk_at dksX4_fillsPrices_3 0 rfl rfl)
theorem dX4_fillsPrices_72 : decode cX4_fillsPrices 72 = .ok (.iaload, 1) := dk_46 (dk_at dksX4_fillsPrices_3 2 rfl rfl)
theorem dX4_fillsPrices_73 : decode cX4_fillsPrices 73 = .ok (.aload_n 0, 1) := dk_42 (dk_at dksX4_fillsPrices_3 3 rfl rfl)
theorem dX4_fillsPrices_74 : decode cX4_fillsPrices 74 = .ok (.iload_n 3, 1) := dk_29 (dk_at dksX4_fillsPrices_3 4 rfl rfl)
theorem dX4_fillsPrices_75 : decode cX4_fillsPrices 75 = .ok (.invokevirtual 404, 3) := dk_182 1 148 (dk_at dksX4_fillsPrices_3 5 rfl rfl)
theorem dX4_fillsPrices_78 : decode cX4_fillsPrices 78 = .ok (.iadd, 1) := dk_96 (dk_at dksX4_fillsPrices_3 8 rfl rfl)
theorem dX4_fillsPrices_79 : decode cX4_fillsPrices 79 = .ok (.aload_n 0, 1) := dk_42 (dk_at dksX4_fillsPrices_3 9 rfl rfl)
theorem dX4_fillsPrices_80 : decode cX4_fillsPrices 80 = .ok (.getfield 61, 3) := dk_180 0 61 (dk_at dksX4_fillsPrices_3 10 rfl rfl)
theorem dX4_fillsPrices_83 : decode cX4_fillsPrices 83 = .ok (.iload_n 3, 1) := dk_29 (dk_at dksX4_fillsPrices_3 13 rfl rfl)
theorem dX4_fillsPrices_84 : decode cX4_fillsPrices 84 = .ok (.iaload, 1) := dk_46 (dk_at dksX4_fillsPrices_3 14 rfl rfl)
theorem dX4_fillsPrices_85 : decode cX4_fillsPrices 85 = .ok (.if_icmp .lt 6, 3) := dk_161 0 6 (dk_at dksX4_fillsPrices_3 15 rfl rfl)
theorem dX4_fillsPrices_88 : decode cX4_fillsPrices 88 = .ok (.goto 24, 3) := dk_167 0 24 (dk_at dksX4_fillsPrices_3 18 rfl rfl)
theorem dX4_fillsPrices_91 : decode cX4_fillsPrices 91 = .ok (.aload_n 0, 1) := dk_42 (dk_at dksX4_fillsPrices_3 21 rfl rfl)
theorem dX4_fillsPrices_92 : decode cX4_fillsPrices 92 = .ok (.getfield 61, 3) := dk_180 0 61 (dk_at dksX4_fillsPrices_4 0 rfl rfl)
theorem dX4_fillsPrices_95 : decode cX4_fillsPrices 95 = .ok (.iload_n 3, 1) := dk_29 (dk_at dksX4_fillsPrices_4 3 rfl rfl)
theorem dX4_fillsPrices_96 : decode cX4_fillsPrices 96 = .ok (.aload_n 0, 1) := dk_42 (dk_at dksX4_fillsPrices_4 4 rfl rfl)
theorem dX4_fillsPrices_97 : decode cX4_fillsPrices 97 = .ok (.getfield 61, 3) := dk_180 0 61 (dk_at dksX4_fillsPrices_4 5 rfl rfl)
theorem dX4_fillsPrices_100 : decode cX4_fillsPrices 100 = .ok (.iload 4, 2) := dk_21 4 (dk_at dksX4_fillsPrices_4 8 rfl rfl)
theorem dX4_fillsPrices_102 : decode cX4_fillsPrices 102 = .ok (.iaload, 1) := dk_46 (dk_at dksX4_fillsPrices_4 10 rfl rfl)
theorem dX4_fillsPrices_103 : decode cX4_fillsPrices 103 = .ok (.aload_n 0, 1) := dk_42 (dk_at dksX4_fillsPrices_4 11 rfl rfl)
theorem dX4_fillsPrices_104 : decode cX4_fillsPrices 104 = .ok (.iload_n 3, 1) := dk_29 (dk_at dksX4_fillsPrices_4 12 rfl rfl)
theorem dX4_fillsPrices_105 : decode cX4_fillsPrices 105 = .ok (.invokevirtual 404, 3) := dk_182 1 148 (dk_at dksX4_fillsPrices_4 13 rfl rfl)
theorem dX4_fillsPrices_108 : decode cX4_fillsPrices 108 = .ok (.iadd, 1) := dk_96 (dk_at dksX4_fillsPrices_4 16 rfl rfl)
theorem dX4_fillsPrices_109 : decode cX4_fillsPrices 109 = .ok (.iastore, 1) := dk_79 (dk_at dksX4_fillsPrices_4 17 rfl rfl)
theorem dX4_fillsPrices_110 : decode cX4_fillsPrices 110 = .ok (.iconst 1, 1) := dk_4 (dk_at dksX4_fillsPrices_4 18 rfl rfl)
theorem dX4_fillsPrices_111 : decode cX4_fillsPrices 111 = .ok (.istore_n 2, 1) := dk_61 (dk_at dksX4_fillsPrices_4 19 rfl rfl)
theorem dX4_fillsPrices_112 : decode cX4_fillsPrices 112 = .ok (.iinc 3 1, 3) := dk_132 3 1 (dk_at dksX4_fillsPrices_4 20 rfl rfl)
theorem dX4_fillsPrices_115 : decode cX4_fillsPrices 115 = .ok (.goto (-71), 3) := dk_167 255 185 (dk_at dksX4_fillsPrices_5 0 rfl rfl)
theorem dX4_fillsPrices_118 : decode cX4_fillsPrices 118 = .ok (.goto (-82), 3) := dk_167 255 174 (dk_at dksX4_fillsPrices_5 3 rfl rfl)
theorem dX4_fillsPrices_121 : decode cX4_fillsPrices 121 = .ok (.return_, 1) := dk_177 (dk_at dksX4_fillsPrices_5 6 rfl rfl)
abbrev cX4_priceOf : ByteArray := prog_19_method_90_code
def yX4_priceOf : MethodName := ⟨RX4, "priceOf", "(I)I"⟩
def dkwX4_priceOf_0 : List UInt8 := [42, 27, 182, 1, 51, 153, 0, 8, 16, 101, 167, 0, 4, 4, 172]
abbrev dktX4_priceOf_0 : List UInt8 := dkwX4_priceOf_0 ++ []
theorem dksX4_priceOf_0 : cX4_priceOf.data.toList.drop 0 = dktX4_priceOf_0 := by decide +kernel
theorem dX4_priceOf_0 : decode cX4_priceOf 0 = .ok (.aload_n 0, 1) := dk_42 (dk_at dksX4_priceOf_0 0 rfl rfl)
theorem dX4_priceOf_1 : decode cX4_priceOf 1 = .ok (.iload_n 1, 1) := dk_27 (dk_at dksX4_priceOf_0 1 rfl rfl)
theorem dX4_priceOf_2 : decode cX4_priceOf 2 = .ok (.invokevirtual 307, 3) := dk_182 1 51 (dk_at dksX4_priceOf_0 2 rfl rfl)
theorem dX4_priceOf_5 : decode cX4_priceOf 5 = .ok (.ifCond .eq 8, 3) := dk_153 0 8 (dk_at dksX4_priceOf_0 5 rfl rfl)
theorem dX4_priceOf_8 : decode cX4_priceOf 8 = .ok (.bipush 101, 2) := dk_16 101 (dk_at dksX4_priceOf_0 8 rfl rfl)
theorem dX4_priceOf_10 : decode cX4_priceOf 10 = .ok (.goto 4, 3) := dk_167 0 4 (dk_at dksX4_priceOf_0 10 rfl rfl)
theorem dX4_priceOf_13 : decode cX4_priceOf 13 = .ok (.iconst 1, 1) := dk_4 (dk_at dksX4_priceOf_0 13 rfl rfl)
theorem dX4_priceOf_14 : decode cX4_priceOf 14 = .ok (.ireturn, 1) := dk_172 (dk_at dksX4_priceOf_0 14 rfl rfl)
abbrev cX4_nextTo : ByteArray := prog_19_method_91_code
def yX4_nextTo : MethodName := ⟨RX4, "nextTo", "(I)I"⟩
def dkwX4_nextTo_2 : List UInt8 := [180, 0, 61, 29, 46, 42, 180, 0, 61, 28, 46, 162, 0, 5, 29, 61, 132, 3, 1, 167, 255, 194, 28, 172]
abbrev dktX4_nextTo_2 : List UInt8 := dkwX4_nextTo_2 ++ []
def dkwX4_nextTo_1 : List UInt8 := [184, 1, 60, 153, 0, 36, 42, 180, 0, 61, 29, 46, 17, 39, 15, 162, 0, 24, 28, 155, 0, 18, 42]
abbrev dktX4_nextTo_1 : List UInt8 := dkwX4_nextTo_1 ++ dktX4_nextTo_2
def dkwX4_nextTo_0 : List UInt8 := [2, 61, 3, 62, 29, 42, 180, 0, 39, 5, 46, 162, 0, 58, 42, 180, 0, 39, 16, 30, 27, 96, 46, 29]
abbrev dktX4_nextTo_0 : List UInt8 := dkwX4_nextTo_0 ++ dktX4_nextTo_1
theorem dksX4_nextTo_0 : cX4_nextTo.data.toList.drop 0 = dktX4_nextTo_0 := by decide +kernel
theorem dksX4_nextTo_1 : cX4_nextTo.data.toList.drop 24 = dktX4_nextTo_1 := dk_seg dksX4_nextTo_0 24 rfl rfl
theorem dksX4_nextTo_2 : cX4_nextTo.data.toList.drop 47 = dktX4_nextTo_2 := dk_seg dksX4_nextTo_1 23 rfl rfl
theorem dX4_nextTo_0 : decode cX4_nextTo 0 = .ok (.iconst (-1), 1) := dk_2 (dk_at dksX4_nextTo_0 0 rfl rfl)
theorem dX4_nextTo_1 : decode cX4_nextTo 1 = .ok (.istore_n 2, 1) := dk_61 (dk_at dksX4_nextTo_0 1 rfl rfl)
theorem dX4_nextTo_2 : decode cX4_nextTo 2 = .ok (.iconst 0, 1) := dk_3 (dk_at dksX4_nextTo_0 2 rfl rfl)
theorem dX4_nextTo_3 : decode cX4_nextTo 3 = .ok (.istore_n 3, 1) := dk_62 (dk_at dksX4_nextTo_0 3 rfl rfl)
theorem dX4_nextTo_4 : decode cX4_nextTo 4 = .ok (.iload_n 3, 1) := dk_29 (dk_at dksX4_nextTo_0 4 rfl rfl)
theorem dX4_nextTo_5 : decode cX4_nextTo 5 = .ok (.aload_n 0, 1) := dk_42 (dk_at dksX4_nextTo_0 5 rfl rfl)
theorem dX4_nextTo_6 : decode cX4_nextTo 6 = .ok (.getfield 39, 3) := dk_180 0 39 (dk_at dksX4_nextTo_0 6 rfl rfl)
theorem dX4_nextTo_9 : decode cX4_nextTo 9 = .ok (.iconst 2, 1) := dk_5 (dk_at dksX4_nextTo_0 9 rfl rfl)
theorem dX4_nextTo_10 : decode cX4_nextTo 10 = .ok (.iaload, 1) := dk_46 (dk_at dksX4_nextTo_0 10 rfl rfl)
theorem dX4_nextTo_11 : decode cX4_nextTo 11 = .ok (.if_icmp .ge 58, 3) := dk_162 0 58 (dk_at dksX4_nextTo_0 11 rfl rfl)
theorem dX4_nextTo_14 : decode cX4_nextTo 14 = .ok (.aload_n 0, 1) := dk_42 (dk_at dksX4_nextTo_0 14 rfl rfl)
theorem dX4_nextTo_15 : decode cX4_nextTo 15 = .ok (.getfield 39, 3) := dk_180 0 39 (dk_at dksX4_nextTo_0 15 rfl rfl)
theorem dX4_nextTo_18 : decode cX4_nextTo 18 = .ok (.bipush 30, 2) := dk_16 30 (dk_at dksX4_nextTo_0 18 rfl rfl)
theorem dX4_nextTo_20 : decode cX4_nextTo 20 = .ok (.iload_n 1, 1) := dk_27 (dk_at dksX4_nextTo_0 20 rfl rfl)
theorem dX4_nextTo_21 : decode cX4_nextTo 21 = .ok (.iadd, 1) := dk_96 (dk_at dksX4_nextTo_0 21 rfl rfl)
theorem dX4_nextTo_22 : decode cX4_nextTo 22 = .ok (.iaload, 1) := dk_46 (dk_at dksX4_nextTo_0 22 rfl rfl)
theorem dX4_nextTo_23 : decode cX4_nextTo 23 = .ok (.iload_n 3, 1) := dk_29 (dk_at dksX4_nextTo_0 23 rfl rfl)
theorem dX4_nextTo_24 : decode cX4_nextTo 24 = .ok (.invokestatic 316, 3) := dk_184 1 60 (dk_at dksX4_nextTo_1 0 rfl rfl)
theorem dX4_nextTo_27 : decode cX4_nextTo 27 = .ok (.ifCond .eq 36, 3) := dk_153 0 36 (dk_at dksX4_nextTo_1 3 rfl rfl)
theorem dX4_nextTo_30 : decode cX4_nextTo 30 = .ok (.aload_n 0, 1) := dk_42 (dk_at dksX4_nextTo_1 6 rfl rfl)
theorem dX4_nextTo_31 : decode cX4_nextTo 31 = .ok (.getfield 61, 3) := dk_180 0 61 (dk_at dksX4_nextTo_1 7 rfl rfl)
theorem dX4_nextTo_34 : decode cX4_nextTo 34 = .ok (.iload_n 3, 1) := dk_29 (dk_at dksX4_nextTo_1 10 rfl rfl)
theorem dX4_nextTo_35 : decode cX4_nextTo 35 = .ok (.iaload, 1) := dk_46 (dk_at dksX4_nextTo_1 11 rfl rfl)
theorem dX4_nextTo_36 : decode cX4_nextTo 36 = .ok (.sipush 9999, 3) := dk_17 39 15 (dk_at dksX4_nextTo_1 12 rfl rfl)
theorem dX4_nextTo_39 : decode cX4_nextTo 39 = .ok (.if_icmp .ge 24, 3) := dk_162 0 24 (dk_at dksX4_nextTo_1 15 rfl rfl)
theorem dX4_nextTo_42 : decode cX4_nextTo 42 = .ok (.iload_n 2, 1) := dk_28 (dk_at dksX4_nextTo_1 18 rfl rfl)
theorem dX4_nextTo_43 : decode cX4_nextTo 43 = .ok (.ifCond .lt 18, 3) := dk_155 0 18 (dk_at dksX4_nextTo_1 19 rfl rfl)
theorem dX4_nextTo_46 : decode cX4_nextTo 46 = .ok (.aload_n 0, 1) := dk_42 (dk_at dksX4_nextTo_1 22 rfl rfl)
theorem dX4_nextTo_47 : decode cX4_nextTo 47 = .ok (.getfield 61, 3) := dk_180 0 61 (dk_at dksX4_nextTo_2 0 rfl rfl)
theorem dX4_nextTo_50 : decode cX4_nextTo 50 = .ok (.iload_n 3, 1) := dk_29 (dk_at dksX4_nextTo_2 3 rfl rfl)
theorem dX4_nextTo_51 : decode cX4_nextTo 51 = .ok (.iaload, 1) := dk_46 (dk_at dksX4_nextTo_2 4 rfl rfl)
theorem dX4_nextTo_52 : decode cX4_nextTo 52 = .ok (.aload_n 0, 1) := dk_42 (dk_at dksX4_nextTo_2 5 rfl rfl)
theorem dX4_nextTo_53 : decode cX4_nextTo 53 = .ok (.getfield 61, 3) := dk_180 0 61 (dk_at dksX4_nextTo_2 6 rfl rfl)
theorem dX4_nextTo_56 : decode cX4_nextTo 56 = .ok (.iload_n 2, 1) := dk_28 (dk_at dksX4_nextTo_2 9 rfl rfl)
theorem dX4_nextTo_57 : decode cX4_nextTo 57 = .ok (.iaload, 1) := dk_46 (dk_at dksX4_nextTo_2 10 rfl rfl)
theorem dX4_nextTo_58 : decode cX4_nextTo 58 = .ok (.if_icmp .ge 5, 3) := dk_162 0 5 (dk_at dksX4_nextTo_2 11 rfl rfl)
theorem dX4_nextTo_61 : decode cX4_nextTo 61 = .ok (.iload_n 3, 1) := dk_29 (dk_at dksX4_nextTo_2 14 rfl rfl)
theorem dX4_nextTo_62 : decode cX4_nextTo 62 = .ok (.istore_n 2, 1) := dk_61 (dk_at dksX4_nextTo_2 15 rfl rfl)
theorem dX4_nextTo_63 : decode cX4_nextTo 63 = .ok (.iinc 3 1, 3) := dk_132 3 1 (dk_at dksX4_nextTo_2 16 rfl rfl)
theorem dX4_nextTo_66 : decode cX4_nextTo 66 = .ok (.goto (-62), 3) := dk_167 255 194 (dk_at dksX4_nextTo_2 19 rfl rfl)
theorem dX4_nextTo_69 : decode cX4_nextTo 69 = .ok (.iload_n 2, 1) := dk_28 (dk_at dksX4_nextTo_2 22 rfl rfl)
theorem dX4_nextTo_70 : decode cX4_nextTo 70 = .ok (.ireturn, 1) := dk_172 (dk_at dksX4_nextTo_2 23 rfl rfl)
abbrev cX4_pacts : ByteArray := prog_19_method_97_code
def yX4_pacts : MethodName := ⟨RX4, "pacts", "(II)I"⟩
def dkwX4_pacts_8 : List UInt8 := [160, 0, 8, 21, 5, 167, 0, 8, 21, 6, 21, 7, 100, 172]
abbrev dktX4_pacts_8 : List UInt8 := dkwX4_pacts_8 ++ []
def dkwX4_pacts_7 : List UInt8 := [54, 5, 132, 4, 1, 132, 8, 255, 167, 255, 181, 28, 154, 0, 8, 21, 4, 167, 0, 18, 28, 4]
abbrev dktX4_pacts_7 : List UInt8 := dkwX4_pacts_7 ++ dktX4_pacts_8
def dkwX4_pacts_6 : List UInt8 := [182, 1, 162, 167, 0, 5, 21, 7, 54, 7, 42, 21, 8, 182, 1, 165, 154, 0, 6, 167, 0, 10, 21, 8]
abbrev dktX4_pacts_6 : List UInt8 := dkwX4_pacts_6 ++ dktX4_pacts_7
def dkwX4_pacts_5 : List UInt8 := [182, 1, 162, 167, 0, 5, 21, 6, 54, 6, 42, 21, 8, 182, 1, 162, 21, 7, 162, 0, 12, 42, 21, 8]
abbrev dktX4_pacts_5 : List UInt8 := dkwX4_pacts_5 ++ dktX4_pacts_6
def dkwX4_pacts_4 : List UInt8 := [29, 4, 100, 54, 8, 21, 8, 155, 0, 76, 42, 21, 8, 182, 1, 162, 21, 6, 164, 0, 12, 42, 21, 8]
abbrev dktX4_pacts_4 : List UInt8 := dkwX4_pacts_4 ++ dktX4_pacts_5
def dkwX4_pacts_3 : List UInt8 := [167, 255, 236, 3, 54, 4, 16, 254, 54, 5, 42, 3, 182, 1, 162, 54, 6, 42, 3, 182, 1, 162, 54, 7]
abbrev dktX4_pacts_3 : List UInt8 := dkwX4_pacts_3 ++ dktX4_pacts_4
def dkwX4_pacts_2 : List UInt8 := [3, 54, 4, 21, 4, 29, 162, 0, 20, 42, 21, 4, 27, 182, 1, 159, 42, 182, 1, 132, 132, 4, 1]
abbrev dktX4_pacts_2 : List UInt8 := dkwX4_pacts_2 ++ dktX4_pacts_3
def dkwX4_pacts_1 : List UInt8 := [20, 1, 69, 184, 0, 124, 154, 0, 5, 2, 172, 4, 42, 180, 0, 39, 6, 46, 120, 62, 42, 182, 1, 129]
abbrev dktX4_pacts_1 : List UInt8 := dkwX4_pacts_1 ++ dktX4_pacts_2
def dkwX4_pacts_0 : List UInt8 := [42, 182, 1, 110, 153, 0, 27, 27, 133, 10, 20, 1, 157, 184, 0, 124, 153, 0, 15, 28, 133, 9]
abbrev dktX4_pacts_0 : List UInt8 := dkwX4_pacts_0 ++ dktX4_pacts_1
theorem dksX4_pacts_0 : cX4_pacts.data.toList.drop 0 = dktX4_pacts_0 := by decide +kernel
theorem dksX4_pacts_1 : cX4_pacts.data.toList.drop 22 = dktX4_pacts_1 := dk_seg dksX4_pacts_0 22 rfl rfl
theorem dksX4_pacts_2 : cX4_pacts.data.toList.drop 46 = dktX4_pacts_2 := dk_seg dksX4_pacts_1 24 rfl rfl
theorem dksX4_pacts_3 : cX4_pacts.data.toList.drop 69 = dktX4_pacts_3 := dk_seg dksX4_pacts_2 23 rfl rfl
theorem dksX4_pacts_4 : cX4_pacts.data.toList.drop 93 = dktX4_pacts_4 := dk_seg dksX4_pacts_3 24 rfl rfl
theorem dksX4_pacts_5 : cX4_pacts.data.toList.drop 117 = dktX4_pacts_5 := dk_seg dksX4_pacts_4 24 rfl rfl
theorem dksX4_pacts_6 : cX4_pacts.data.toList.drop 141 = dktX4_pacts_6 := dk_seg dksX4_pacts_5 24 rfl rfl
theorem dksX4_pacts_7 : cX4_pacts.data.toList.drop 165 = dktX4_pacts_7 := dk_seg dksX4_pacts_6 24 rfl rfl
theorem dksX4_pacts_8 : cX4_pacts.data.toList.drop 187 = dktX4_pacts_8 := dk_seg dksX4_pacts_7 22 rfl rfl
theorem dX4_pacts_0 : decode cX4_pacts 0 = .ok (.aload_n 0, 1) := dk_42 (dk_at dksX4_pacts_0 0 rfl rfl)
theorem dX4_pacts_1 : decode cX4_pacts 1 = .ok (.invokevirtual 366, 3) := dk_182 1 110 (dk_at dksX4_pacts_0 1 rfl rfl)
theorem dX4_pacts_4 : decode cX4_pacts 4 = .ok (.ifCond .eq 27, 3) := dk_153 0 27 (dk_at dksX4_pacts_0 4 rfl rfl)
theorem dX4_pacts_7 : decode cX4_pacts 7 = .ok (.iload_n 1, 1) := dk_27 (dk_at dksX4_pacts_0 7 rfl rfl)
theorem dX4_pacts_8 : decode cX4_pacts 8 = .ok (.i2l, 1) := dk_133 (dk_at dksX4_pacts_0 8 rfl rfl)
theorem dX4_pacts_9 : decode cX4_pacts 9 = .ok (.lconst 1, 1) := dk_10 (dk_at dksX4_pacts_0 9 rfl rfl)
theorem dX4_pacts_10 : decode cX4_pacts 10 = .ok (.ldc2_w 413, 3) := dk_20 1 157 (dk_at dksX4_pacts_0 10 rfl rfl)
theorem dX4_pacts_13 : decode cX4_pacts 13 = .ok (.invokestatic 124, 3) := dk_184 0 124 (dk_at dksX4_pacts_0 13 rfl rfl)
theorem dX4_pacts_16 : decode cX4_pacts 16 = .ok (.ifCond .eq 15, 3) := dk_153 0 15 (dk_at dksX4_pacts_0 16 rfl rfl)
theorem dX4_pacts_19 : decode cX4_pacts 19 = .ok (.iload_n 2, 1) := dk_28 (dk_at dksX4_pacts_0 19 rfl rfl)
theorem dX4_pacts_20 : decode cX4_pacts 20 = .ok (.i2l, 1) := dk_133 (dk_at dksX4_pacts_0 20 rfl rfl)
theorem dX4_pacts_21 : decode cX4_pacts 21 = .ok (.lconst 0, 1) := dk_9 (dk_at dksX4_pacts_0 21 rfl rfl)
theorem dX4_pacts_22 : decode cX4_pacts 22 = .ok (.ldc2_w 325, 3) := dk_20 1 69 (dk_at dksX4_pacts_1 0 rfl rfl)
theorem dX4_pacts_25 : decode cX4_pacts 25 = .ok (.invokestatic 124, 3) := dk_184 0 124 (dk_at dksX4_pacts_1 3 rfl rfl)
theorem dX4_pacts_28 : decode cX4_pacts 28 = .ok (.ifCond .ne 5, 3) := dk_154 0 5 (dk_at dksX4_pacts_1 6 rfl rfl)
theorem dX4_pacts_31 : decode cX4_pacts 31 = .ok (.iconst (-1), 1) := dk_2 (dk_at dksX4_pacts_1 9 rfl rfl)
theorem dX4_pacts_32 : decode cX4_pacts 32 = .ok (.ireturn, 1) := dk_172 (dk_at dksX4_pacts_1 10 rfl rfl)
theorem dX4_pacts_33 : decode cX4_pacts 33 = .ok (.iconst 1, 1) := dk_4 (dk_at dksX4_pacts_1 11 rfl rfl)
theorem dX4_pacts_34 : decode cX4_pacts 34 = .ok (.aload_n 0, 1) := dk_42 (dk_at dksX4_pacts_1 12 rfl rfl)
theorem dX4_pacts_35 : decode cX4_pacts 35 = .ok (.getfield 39, 3) := dk_180 0 39 (dk_at dksX4_pacts_1 13 rfl rfl)
theorem dX4_pacts_38 : decode cX4_pacts 38 = .ok (.iconst 3, 1) := dk_6 (dk_at dksX4_pacts_1 16 rfl rfl)
theorem dX4_pacts_39 : decode cX4_pacts 39 = .ok (.iaload, 1) := dk_46 (dk_at dksX4_pacts_1 17 rfl rfl)
theorem dX4_pacts_40 : decode cX4_pacts 40 = .ok (.ishl, 1) := dk_120 (dk_at dksX4_pacts_1 18 rfl rfl)
theorem dX4_pacts_41 : decode cX4_pacts 41 = .ok (.istore_n 3, 1) := dk_62 (dk_at dksX4_pacts_1 19 rfl rfl)
theorem dX4_pacts_42 : decode cX4_pacts 42 = .ok (.aload_n 0, 1) := dk_42 (dk_at dksX4_pacts_1 20 rfl rfl)
theorem dX4_pacts_43 : decode cX4_pacts 43 = .ok (.invokevirtual 385, 3) := dk_182 1 129 (dk_at dksX4_pacts_1 21 rfl rfl)
theorem dX4_pacts_46 : decode cX4_pacts 46 = .ok (.iconst 0, 1) := dk_3 (dk_at dksX4_pacts_2 0 rfl rfl)
theorem dX4_pacts_47 : decode cX4_pacts 47 = .ok (.istore 4, 2) := dk_54 4 (dk_at dksX4_pacts_2 1 rfl rfl)
theorem dX4_pacts_49 : decode cX4_pacts 49 = .ok (.iload 4, 2) := dk_21 4 (dk_at dksX4_pacts_2 3 rfl rfl)
theorem dX4_pacts_51 : decode cX4_pacts 51 = .ok (.iload_n 3, 1) := dk_29 (dk_at dksX4_pacts_2 5 rfl rfl)
theorem dX4_pacts_52 : decode cX4_pacts 52 = .ok (.if_icmp .ge 20, 3) := dk_162 0 20 (dk_at dksX4_pacts_2 6 rfl rfl)
theorem dX4_pacts_55 : decode cX4_pacts 55 = .ok (.aload_n 0, 1) := dk_42 (dk_at dksX4_pacts_2 9 rfl rfl)
theorem dX4_pacts_56 : decode cX4_pacts 56 = .ok (.iload 4, 2) := dk_21 4 (dk_at dksX4_pacts_2 10 rfl rfl)
theorem dX4_pacts_58 : decode cX4_pacts 58 = .ok (.iload_n 1, 1) := dk_27 (dk_at dksX4_pacts_2 12 rfl rfl)
theorem dX4_pacts_59 : decode cX4_pacts 59 = .ok (.invokevirtual 415, 3) := dk_182 1 159 (dk_at dksX4_pacts_2 13 rfl rfl)
theorem dX4_pacts_62 : decode cX4_pacts 62 = .ok (.aload_n 0, 1) := dk_42 (dk_at dksX4_pacts_2 16 rfl rfl)
theorem dX4_pacts_63 : decode cX4_pacts 63 = .ok (.invokevirtual 388, 3) := dk_182 1 132 (dk_at dksX4_pacts_2 17 rfl rfl)
theorem dX4_pacts_66 : decode cX4_pacts 66 = .ok (.iinc 4 1, 3) := dk_132 4 1 (dk_at dksX4_pacts_2 20 rfl rfl)
theorem dX4_pacts_69 : decode cX4_pacts 69 = .ok (.goto (-20), 3) := dk_167 255 236 (dk_at dksX4_pacts_3 0 rfl rfl)
theorem dX4_pacts_72 : decode cX4_pacts 72 = .ok (.iconst 0, 1) := dk_3 (dk_at dksX4_pacts_3 3 rfl rfl)
theorem dX4_pacts_73 : decode cX4_pacts 73 = .ok (.istore 4, 2) := dk_54 4 (dk_at dksX4_pacts_3 4 rfl rfl)
theorem dX4_pacts_75 : decode cX4_pacts 75 = .ok (.bipush (-2), 2) := dk_16 254 (dk_at dksX4_pacts_3 6 rfl rfl)
theorem dX4_pacts_77 : decode cX4_pacts 77 = .ok (.istore 5, 2) := dk_54 5 (dk_at dksX4_pacts_3 8 rfl rfl)
theorem dX4_pacts_79 : decode cX4_pacts 79 = .ok (.aload_n 0, 1) := dk_42 (dk_at dksX4_pacts_3 10 rfl rfl)
theorem dX4_pacts_80 : decode cX4_pacts 80 = .ok (.iconst 0, 1) := dk_3 (dk_at dksX4_pacts_3 11 rfl rfl)
theorem dX4_pacts_81 : decode cX4_pacts 81 = .ok (.invokevirtual 418, 3) := dk_182 1 162 (dk_at dksX4_pacts_3 12 rfl rfl)
theorem dX4_pacts_84 : decode cX4_pacts 84 = .ok (.istore 6, 2) := dk_54 6 (dk_at dksX4_pacts_3 15 rfl rfl)
theorem dX4_pacts_86 : decode cX4_pacts 86 = .ok (.aload_n 0, 1) := dk_42 (dk_at dksX4_pacts_3 17 rfl rfl)
theorem dX4_pacts_87 : decode cX4_pacts 87 = .ok (.iconst 0, 1) := dk_3 (dk_at dksX4_pacts_3 18 rfl rfl)
theorem dX4_pacts_88 : decode cX4_pacts 88 = .ok (.invokevirtual 418, 3) := dk_182 1 162 (dk_at dksX4_pacts_3 19 rfl rfl)
theorem dX4_pacts_91 : decode cX4_pacts 91 = .ok (.istore 7, 2) := dk_54 7 (dk_at dksX4_pacts_3 22 rfl rfl)
theorem dX4_pacts_93 : decode cX4_pacts 93 = .ok (.iload_n 3, 1) := dk_29 (dk_at dksX4_pacts_4 0 rfl rfl)
theorem dX4_pacts_94 : decode cX4_pacts 94 = .ok (.iconst 1, 1) := dk_4 (dk_at dksX4_pacts_4 1 rfl rfl)
theorem dX4_pacts_95 : decode cX4_pacts 95 = .ok (.isub, 1) := dk_100 (dk_at dksX4_pacts_4 2 rfl rfl)
theorem dX4_pacts_96 : decode cX4_pacts 96 = .ok (.istore 8, 2) := dk_54 8 (dk_at dksX4_pacts_4 3 rfl rfl)
theorem dX4_pacts_98 : decode cX4_pacts 98 = .ok (.iload 8, 2) := dk_21 8 (dk_at dksX4_pacts_4 5 rfl rfl)
theorem dX4_pacts_100 : decode cX4_pacts 100 = .ok (.ifCond .lt 76, 3) := dk_155 0 76 (dk_at dksX4_pacts_4 7 rfl rfl)
theorem dX4_pacts_103 : decode cX4_pacts 103 = .ok (.aload_n 0, 1) := dk_42 (dk_at dksX4_pacts_4 10 rfl rfl)
theorem dX4_pacts_104 : decode cX4_pacts 104 = .ok (.iload 8, 2) := dk_21 8 (dk_at dksX4_pacts_4 11 rfl rfl)
theorem dX4_pacts_106 : decode cX4_pacts 106 = .ok (.invokevirtual 418, 3) := dk_182 1 162 (dk_at dksX4_pacts_4 13 rfl rfl)
theorem dX4_pacts_109 : decode cX4_pacts 109 = .ok (.iload 6, 2) := dk_21 6 (dk_at dksX4_pacts_4 16 rfl rfl)
theorem dX4_pacts_111 : decode cX4_pacts 111 = .ok (.if_icmp .le 12, 3) := dk_164 0 12 (dk_at dksX4_pacts_4 18 rfl rfl)
theorem dX4_pacts_114 : decode cX4_pacts 114 = .ok (.aload_n 0, 1) := dk_42 (dk_at dksX4_pacts_4 21 rfl rfl)
theorem dX4_pacts_115 : decode cX4_pacts 115 = .ok (.iload 8, 2) := dk_21 8 (dk_at dksX4_pacts_4 22 rfl rfl)
theorem dX4_pacts_117 : decode cX4_pacts 117 = .ok (.invokevirtual 418, 3) := dk_182 1 162 (dk_at dksX4_pacts_5 0 rfl rfl)
theorem dX4_pacts_120 : decode cX4_pacts 120 = .ok (.goto 5, 3) := dk_167 0 5 (dk_at dksX4_pacts_5 3 rfl rfl)
theorem dX4_pacts_123 : decode cX4_pacts 123 = .ok (.iload 6, 2) := dk_21 6 (dk_at dksX4_pacts_5 6 rfl rfl)
theorem dX4_pacts_125 : decode cX4_pacts 125 = .ok (.istore 6, 2) := dk_54 6 (dk_at dksX4_pacts_5 8 rfl rfl)
theorem dX4_pacts_127 : decode cX4_pacts 127 = .ok (.aload_n 0, 1) := dk_42 (dk_at dksX4_pacts_5 10 rfl rfl)
theorem dX4_pacts_128 : decode cX4_pacts 128 = .ok (.iload 8, 2) := dk_21 8 (dk_at dksX4_pacts_5 11 rfl rfl)
theorem dX4_pacts_130 : decode cX4_pacts 130 = .ok (.invokevirtual 418, 3) := dk_182 1 162 (dk_at dksX4_pacts_5 13 rfl rfl)
theorem dX4_pacts_133 : decode cX4_pacts 133 = .ok (.iload 7, 2) := dk_21 7 (dk_at dksX4_pacts_5 16 rfl rfl)
theorem dX4_pacts_135 : decode cX4_pacts 135 = .ok (.if_icmp .ge 12, 3) := dk_162 0 12 (dk_at dksX4_pacts_5 18 rfl rfl)
theorem dX4_pacts_138 : decode cX4_pacts 138 = .ok (.aload_n 0, 1) := dk_42 (dk_at dksX4_pacts_5 21 rfl rfl)
theorem dX4_pacts_139 : decode cX4_pacts 139 = .ok (.iload 8, 2) := dk_21 8 (dk_at dksX4_pacts_5 22 rfl rfl)
theorem dX4_pacts_141 : decode cX4_pacts 141 = .ok (.invokevirtual 418, 3) := dk_182 1 162 (dk_at dksX4_pacts_6 0 rfl rfl)
theorem dX4_pacts_144 : decode cX4_pacts 144 = .ok (.goto 5, 3) := dk_167 0 5 (dk_at dksX4_pacts_6 3 rfl rfl)
theorem dX4_pacts_147 : decode cX4_pacts 147 = .ok (.iload 7, 2) := dk_21 7 (dk_at dksX4_pacts_6 6 rfl rfl)
theorem dX4_pacts_149 : decode cX4_pacts 149 = .ok (.istore 7, 2) := dk_54 7 (dk_at dksX4_pacts_6 8 rfl rfl)
theorem dX4_pacts_151 : decode cX4_pacts 151 = .ok (.aload_n 0, 1) := dk_42 (dk_at dksX4_pacts_6 10 rfl rfl)
theorem dX4_pacts_152 : decode cX4_pacts 152 = .ok (.iload 8, 2) := dk_21 8 (dk_at dksX4_pacts_6 11 rfl rfl)
theorem dX4_pacts_154 : decode cX4_pacts 154 = .ok (.invokevirtual 421, 3) := dk_182 1 165 (dk_at dksX4_pacts_6 13 rfl rfl)
theorem dX4_pacts_157 : decode cX4_pacts 157 = .ok (.ifCond .ne 6, 3) := dk_154 0 6 (dk_at dksX4_pacts_6 16 rfl rfl)
theorem dX4_pacts_160 : decode cX4_pacts 160 = .ok (.goto 10, 3) := dk_167 0 10 (dk_at dksX4_pacts_6 19 rfl rfl)
theorem dX4_pacts_163 : decode cX4_pacts 163 = .ok (.iload 8, 2) := dk_21 8 (dk_at dksX4_pacts_6 22 rfl rfl)
theorem dX4_pacts_165 : decode cX4_pacts 165 = .ok (.istore 5, 2) := dk_54 5 (dk_at dksX4_pacts_7 0 rfl rfl)
theorem dX4_pacts_167 : decode cX4_pacts 167 = .ok (.iinc 4 1, 3) := dk_132 4 1 (dk_at dksX4_pacts_7 2 rfl rfl)
theorem dX4_pacts_170 : decode cX4_pacts 170 = .ok (.iinc 8 (-1), 3) := dk_132 8 255 (dk_at dksX4_pacts_7 5 rfl rfl)
theorem dX4_pacts_173 : decode cX4_pacts 173 = .ok (.goto (-75), 3) := dk_167 255 181 (dk_at dksX4_pacts_7 8 rfl rfl)
theorem dX4_pacts_176 : decode cX4_pacts 176 = .ok (.iload_n 2, 1) := dk_28 (dk_at dksX4_pacts_7 11 rfl rfl)
theorem dX4_pacts_177 : decode cX4_pacts 177 = .ok (.ifCond .ne 8, 3) := dk_154 0 8 (dk_at dksX4_pacts_7 12 rfl rfl)
theorem dX4_pacts_180 : decode cX4_pacts 180 = .ok (.iload 4, 2) := dk_21 4 (dk_at dksX4_pacts_7 15 rfl rfl)
theorem dX4_pacts_182 : decode cX4_pacts 182 = .ok (.goto 18, 3) := dk_167 0 18 (dk_at dksX4_pacts_7 17 rfl rfl)
theorem dX4_pacts_185 : decode cX4_pacts 185 = .ok (.iload_n 2, 1) := dk_28 (dk_at dksX4_pacts_7 20 rfl rfl)
theorem dX4_pacts_186 : decode cX4_pacts 186 = .ok (.iconst 1, 1) := dk_4 (dk_at dksX4_pacts_7 21 rfl rfl)
theorem dX4_pacts_187 : decode cX4_pacts 187 = .ok (.if_icmp .ne 8, 3) := dk_160 0 8 (dk_at dksX4_pacts_8 0 rfl rfl)
theorem dX4_pacts_190 : decode cX4_pacts 190 = .ok (.iload 5, 2) := dk_21 5 (dk_at dksX4_pacts_8 3 rfl rfl)
theorem dX4_pacts_192 : decode cX4_pacts 192 = .ok (.goto 8, 3) := dk_167 0 8 (dk_at dksX4_pacts_8 5 rfl rfl)
theorem dX4_pacts_195 : decode cX4_pacts 195 = .ok (.iload 6, 2) := dk_21 6 (dk_at dksX4_pacts_8 8 rfl rfl)
theorem dX4_pacts_197 : decode cX4_pacts 197 = .ok (.iload 7, 2) := dk_21 7 (dk_at dksX4_pacts_8 10 rfl rfl)
theorem dX4_pacts_199 : decode cX4_pacts 199 = .ok (.isub, 1) := dk_100 (dk_at dksX4_pacts_8 12 rfl rfl)
theorem dX4_pacts_200 : decode cX4_pacts 200 = .ok (.ireturn, 1) := dk_172 (dk_at dksX4_pacts_8 13 rfl rfl)
abbrev cX4_fillsPact : ByteArray := prog_19_method_94_code
def yX4_fillsPact : MethodName := ⟨RX4, "fillsPact", "(II)V"⟩
def dkwX4_fillsPact_7 : List UInt8 := [132, 3, 1, 167, 255, 114, 177]
abbrev dktX4_fillsPact_7 : List UInt8 := dkwX4_fillsPact_7 ++ []
def dkwX4_fillsPact_6 : List UInt8 := [21, 4, 182, 1, 71, 182, 1, 51, 153, 0, 7, 3, 167, 0, 4, 5, 96, 79, 132, 4, 1, 167, 255, 210]
abbrev dktX4_fillsPact_6 : List UInt8 := dkwX4_fillsPact_6 ++ dktX4_fillsPact_7
def dkwX4_fillsPact_5 : List UInt8 := [42, 180, 0, 39, 6, 46, 162, 0, 41, 42, 180, 0, 64, 7, 27, 104, 21, 4, 96, 92, 46, 42, 42]
abbrev dktX4_fillsPact_5 : List UInt8 := dkwX4_fillsPact_5 ++ dktX4_fillsPact_6
def dkwX4_fillsPact_4 : List UInt8 := [21, 4, 96, 92, 46, 4, 100, 79, 132, 4, 1, 167, 255, 185, 42, 182, 1, 107, 87, 3, 54, 4, 21, 4]
abbrev dktX4_fillsPact_4 : List UInt8 := dkwX4_fillsPact_4 ++ dktX4_fillsPact_5
def dkwX4_fillsPact_3 : List UInt8 := [167, 0, 31, 42, 21, 4, 42, 21, 4, 182, 1, 71, 182, 1, 103, 87, 42, 180, 0, 64, 7, 27, 104]
abbrev dktX4_fillsPact_3 : List UInt8 := dkwX4_fillsPact_3 ++ dktX4_fillsPact_4
def dkwX4_fillsPact_2 : List UInt8 := [184, 1, 60, 153, 0, 51, 42, 180, 0, 39, 16, 14, 42, 21, 4, 182, 1, 71, 96, 46, 154, 0, 6]
abbrev dktX4_fillsPact_2 : List UInt8 := dkwX4_fillsPact_2 ++ dktX4_fillsPact_3
def dkwX4_fillsPact_1 : List UInt8 := [3, 62, 29, 28, 162, 0, 143, 3, 54, 4, 21, 4, 42, 180, 0, 39, 6, 46, 162, 0, 66, 27, 21, 4]
abbrev dktX4_fillsPact_1 : List UInt8 := dkwX4_fillsPact_1 ++ dktX4_fillsPact_2
def dkwX4_fillsPact_0 : List UInt8 := [3, 62, 29, 7, 162, 0, 20, 42, 180, 0, 64, 7, 27, 104, 29, 96, 3, 79, 132, 3, 1, 167, 255, 237]
abbrev dktX4_fillsPact_0 : List UInt8 := dkwX4_fillsPact_0 ++ dktX4_fillsPact_1
theorem dksX4_fillsPact_0 : cX4_fillsPact.data.toList.drop 0 = dktX4_fillsPact_0 := by decide +kernel
theorem dksX4_fillsPact_1 : cX4_fillsPact.data.toList.drop 24 = dktX4_fillsPact_1 := dk_seg dksX4_fillsPact_0 24 rfl rfl
theorem dksX4_fillsPact_2 : cX4_fillsPact.data.toList.drop 48 = dktX4_fillsPact_2 := dk_seg dksX4_fillsPact_1 24 rfl rfl
theorem dksX4_fillsPact_3 : cX4_fillsPact.data.toList.drop 71 = dktX4_fillsPact_3 := dk_seg dksX4_fillsPact_2 23 rfl rfl
theorem dksX4_fillsPact_4 : cX4_fillsPact.data.toList.drop 94 = dktX4_fillsPact_4 := dk_seg dksX4_fillsPact_3 23 rfl rfl
theorem dksX4_fillsPact_5 : cX4_fillsPact.data.toList.drop 118 = dktX4_fillsPact_5 := dk_seg dksX4_fillsPact_4 24 rfl rfl
theorem dksX4_fillsPact_6 : cX4_fillsPact.data.toList.drop 141 = dktX4_fillsPact_6 := dk_seg dksX4_fillsPact_5 23 rfl rfl
theorem dksX4_fillsPact_7 : cX4_fillsPact.data.toList.drop 165 = dktX4_fillsPact_7 := dk_seg dksX4_fillsPact_6 24 rfl rfl
theorem dX4_fillsPact_0 : decode cX4_fillsPact 0 = .ok (.iconst 0, 1) := dk_3 (dk_at dksX4_fillsPact_0 0 rfl rfl)
theorem dX4_fillsPact_1 : decode cX4_fillsPact 1 = .ok (.istore_n 3, 1) := dk_62 (dk_at dksX4_fillsPact_0 1 rfl rfl)
theorem dX4_fillsPact_2 : decode cX4_fillsPact 2 = .ok (.iload_n 3, 1) := dk_29 (dk_at dksX4_fillsPact_0 2 rfl rfl)
theorem dX4_fillsPact_3 : decode cX4_fillsPact 3 = .ok (.iconst 4, 1) := dk_7 (dk_at dksX4_fillsPact_0 3 rfl rfl)
theorem dX4_fillsPact_4 : decode cX4_fillsPact 4 = .ok (.if_icmp .ge 20, 3) := dk_162 0 20 (dk_at dksX4_fillsPact_0 4 rfl rfl)
theorem dX4_fillsPact_7 : decode cX4_fillsPact 7 = .ok (.aload_n 0, 1) := dk_42 (dk_at dksX4_fillsPact_0 7 rfl rfl)
theorem dX4_fillsPact_8 : decode cX4_fillsPact 8 = .ok (.getfield 64, 3) := dk_180 0 64 (dk_at dksX4_fillsPact_0 8 rfl rfl)
theorem dX4_fillsPact_11 : decode cX4_fillsPact 11 = .ok (.iconst 4, 1) := dk_7 (dk_at dksX4_fillsPact_0 11 rfl rfl)
theorem dX4_fillsPact_12 : decode cX4_fillsPact 12 = .ok (.iload_n 1, 1) := dk_27 (dk_at dksX4_fillsPact_0 12 rfl rfl)
theorem dX4_fillsPact_13 : decode cX4_fillsPact 13 = .ok (.imul, 1) := dk_104 (dk_at dksX4_fillsPact_0 13 rfl rfl)
theorem dX4_fillsPact_14 : decode cX4_fillsPact 14 = .ok (.iload_n 3, 1) := dk_29 (dk_at dksX4_fillsPact_0 14 rfl rfl)
theorem dX4_fillsPact_15 : decode cX4_fillsPact 15 = .ok (.iadd, 1) := dk_96 (dk_at dksX4_fillsPact_0 15 rfl rfl)
theorem dX4_fillsPact_16 : decode cX4_fillsPact 16 = .ok (.iconst 0, 1) := dk_3 (dk_at dksX4_fillsPact_0 16 rfl rfl)
theorem dX4_fillsPact_17 : decode cX4_fillsPact 17 = .ok (.iastore, 1) := dk_79 (dk_at dksX4_fillsPact_0 17 rfl rfl)
theorem dX4_fillsPact_18 : decode cX4_fillsPact 18 = .ok (.iinc 3 1, 3) := dk_132 3 1 (dk_at dksX4_fillsPact_0 18 rfl rfl)
theorem dX4_fillsPact_21 : decode cX4_fillsPact 21 = .ok (.goto (-19), 3) := dk_167 255 237 (dk_at dksX4_fillsPact_0 21 rfl rfl)
theorem dX4_fillsPact_24 : decode cX4_fillsPact 24 = .ok (.iconst 0, 1) := dk_3 (dk_at dksX4_fillsPact_1 0 rfl rfl)
theorem dX4_fillsPact_25 : decode cX4_fillsPact 25 = .ok (.istore_n 3, 1) := dk_62 (dk_at dksX4_fillsPact_1 1 rfl rfl)
theorem dX4_fillsPact_26 : decode cX4_fillsPact 26 = .ok (.iload_n 3, 1) := dk_29 (dk_at dksX4_fillsPact_1 2 rfl rfl)
theorem dX4_fillsPact_27 : decode cX4_fillsPact 27 = .ok (.iload_n 2, 1) := dk_28 (dk_at dksX4_fillsPact_1 3 rfl rfl)
theorem dX4_fillsPact_28 : decode cX4_fillsPact 28 = .ok (.if_icmp .ge 143, 3) := dk_162 0 143 (dk_at dksX4_fillsPact_1 4 rfl rfl)
theorem dX4_fillsPact_31 : decode cX4_fillsPact 31 = .ok (.iconst 0, 1) := dk_3 (dk_at dksX4_fillsPact_1 7 rfl rfl)
theorem dX4_fillsPact_32 : decode cX4_fillsPact 32 = .ok (.istore 4, 2) := dk_54 4 (dk_at dksX4_fillsPact_1 8 rfl rfl)
theorem dX4_fillsPact_34 : decode cX4_fillsPact 34 = .ok (.iload 4, 2) := dk_21 4 (dk_at dksX4_fillsPact_1 10 rfl rfl)
theorem dX4_fillsPact_36 : decode cX4_fillsPact 36 = .ok (.aload_n 0, 1) := dk_42 (dk_at dksX4_fillsPact_1 12 rfl rfl)
theorem dX4_fillsPact_37 : decode cX4_fillsPact 37 = .ok (.getfield 39, 3) := dk_180 0 39 (dk_at dksX4_fillsPact_1 13 rfl rfl)
theorem dX4_fillsPact_40 : decode cX4_fillsPact 40 = .ok (.iconst 3, 1) := dk_6 (dk_at dksX4_fillsPact_1 16 rfl rfl)
theorem dX4_fillsPact_41 : decode cX4_fillsPact 41 = .ok (.iaload, 1) := dk_46 (dk_at dksX4_fillsPact_1 17 rfl rfl)
theorem dX4_fillsPact_42 : decode cX4_fillsPact 42 = .ok (.if_icmp .ge 66, 3) := dk_162 0 66 (dk_at dksX4_fillsPact_1 18 rfl rfl)
theorem dX4_fillsPact_45 : decode cX4_fillsPact 45 = .ok (.iload_n 1, 1) := dk_27 (dk_at dksX4_fillsPact_1 21 rfl rfl)
theorem dX4_fillsPact_46 : decode cX4_fillsPact 46 = .ok (.iload 4, 2) := dk_21 4 (dk_at dksX4_fillsPact_1 22 rfl rfl)
theorem dX4_fillsPact_48 : decode cX4_fillsPact 48 = .ok (.invokestatic 316, 3) := dk_184 1 60 (dk_at dksX4_fillsPact_2 0 rfl rfl)
theorem dX4_fillsPact_51 : decode cX4_fillsPact 51 = .ok (.ifCond .eq 51, 3) := dk_153 0 51 (dk_at dksX4_fillsPact_2 3 rfl rfl)
theorem dX4_fillsPact_54 : decode cX4_fillsPact 54 = .ok (.aload_n 0, 1) := dk_42 (dk_at dksX4_fillsPact_2 6 rfl rfl)
theorem dX4_fillsPact_55 : decode cX4_fillsPact 55 = .ok (.getfield 39, 3) := dk_180 0 39 (dk_at dksX4_fillsPact_2 7 rfl rfl)
theorem dX4_fillsPact_58 : decode cX4_fillsPact 58 = .ok (.bipush 14, 2) := dk_16 14 (dk_at dksX4_fillsPact_2 10 rfl rfl)
theorem dX4_fillsPact_60 : decode cX4_fillsPact 60 = .ok (.aload_n 0, 1) := dk_42 (dk_at dksX4_fillsPact_2 12 rfl rfl)
theorem dX4_fillsPact_61 : decode cX4_fillsPact 61 = .ok (.iload 4, 2) := dk_21 4 (dk_at dksX4_fillsPact_2 13 rfl rfl)
theorem dX4_fillsPact_63 : decode cX4_fillsPact 63 = .ok (.invokevirtual 327, 3) := dk_182 1 71 (dk_at dksX4_fillsPact_2 15 rfl rfl)
theorem dX4_fillsPact_66 : decode cX4_fillsPact 66 = .ok (.iadd, 1) := dk_96 (dk_at dksX4_fillsPact_2 18 rfl rfl)
theorem dX4_fillsPact_67 : decode cX4_fillsPact 67 = .ok (.iaload, 1) := dk_46 (dk_at dksX4_fillsPact_2 19 rfl rfl)
theorem dX4_fillsPact_68 : decode cX4_fillsPact 68 = .ok (.ifCond .ne 6, 3) := dk_154 0 6 (dk_at dksX4_fillsPact_2 20 rfl rfl)
theorem dX4_fillsPact_71 : decode cX4_fillsPact 71 = .ok (.goto 31, 3) := dk_167 0 31 (dk_at dksX4_fillsPact_3 0 rfl rfl)
theorem dX4_fillsPact_74 : decode cX4_fillsPact 74 = .ok (.aload_n 0, 1) := dk_42 (dk_at dksX4_fillsPact_3 3 rfl rfl)
theorem dX4_fillsPact_75 : decode cX4_fillsPact 75 = .ok (.iload 4, 2) := dk_21 4 (dk_at dksX4_fillsPact_3 4 rfl rfl)
theorem dX4_fillsPact_77 : decode cX4_fillsPact 77 = .ok (.aload_n 0, 1) := dk_42 (dk_at dksX4_fillsPact_3 6 rfl rfl)
theorem dX4_fillsPact_78 : decode cX4_fillsPact 78 = .ok (.iload 4, 2) := dk_21 4 (dk_at dksX4_fillsPact_3 7 rfl rfl)
theorem dX4_fillsPact_80 : decode cX4_fillsPact 80 = .ok (.invokevirtual 327, 3) := dk_182 1 71 (dk_at dksX4_fillsPact_3 9 rfl rfl)
theorem dX4_fillsPact_83 : decode cX4_fillsPact 83 = .ok (.invokevirtual 359, 3) := dk_182 1 103 (dk_at dksX4_fillsPact_3 12 rfl rfl)
theorem dX4_fillsPact_86 : decode cX4_fillsPact 86 = .ok (.pop, 1) := dk_87 (dk_at dksX4_fillsPact_3 15 rfl rfl)
theorem dX4_fillsPact_87 : decode cX4_fillsPact 87 = .ok (.aload_n 0, 1) := dk_42 (dk_at dksX4_fillsPact_3 16 rfl rfl)
theorem dX4_fillsPact_88 : decode cX4_fillsPact 88 = .ok (.getfield 64, 3) := dk_180 0 64 (dk_at dksX4_fillsPact_3 17 rfl rfl)
theorem dX4_fillsPact_91 : decode cX4_fillsPact 91 = .ok (.iconst 4, 1) := dk_7 (dk_at dksX4_fillsPact_3 20 rfl rfl)
theorem dX4_fillsPact_92 : decode cX4_fillsPact 92 = .ok (.iload_n 1, 1) := dk_27 (dk_at dksX4_fillsPact_3 21 rfl rfl)
theorem dX4_fillsPact_93 : decode cX4_fillsPact 93 = .ok (.imul, 1) := dk_104 (dk_at dksX4_fillsPact_3 22 rfl rfl)
theorem dX4_fillsPact_94 : decode cX4_fillsPact 94 = .ok (.iload 4, 2) := dk_21 4 (dk_at dksX4_fillsPact_4 0 rfl rfl)
theorem dX4_fillsPact_96 : decode cX4_fillsPact 96 = .ok (.iadd, 1) := dk_96 (dk_at dksX4_fillsPact_4 2 rfl rfl)
theorem dX4_fillsPact_97 : decode cX4_fillsPact 97 = .ok (.dup2, 1) := dk_92 (dk_at dksX4_fillsPact_4 3 rfl rfl)
theorem dX4_fillsPact_98 : decode cX4_fillsPact 98 = .ok (.iaload, 1) := dk_46 (dk_at dksX4_fillsPact_4 4 rfl rfl)
theorem dX4_fillsPact_99 : decode cX4_fillsPact 99 = .ok (.iconst 1, 1) := dk_4 (dk_at dksX4_fillsPact_4 5 rfl rfl)
theorem dX4_fillsPact_100 : decode cX4_fillsPact 100 = .ok (.isub, 1) := dk_100 (dk_at dksX4_fillsPact_4 6 rfl rfl)
theorem dX4_fillsPact_101 : decode cX4_fillsPact 101 = .ok (.iastore, 1) := dk_79 (dk_at dksX4_fillsPact_4 7 rfl rfl)
theorem dX4_fillsPact_102 : decode cX4_fillsPact 102 = .ok (.iinc 4 1, 3) := dk_132 4 1 (dk_at dksX4_fillsPact_4 8 rfl rfl)
theorem dX4_fillsPact_105 : decode cX4_fillsPact 105 = .ok (.goto (-71), 3) := dk_167 255 185 (dk_at dksX4_fillsPact_4 11 rfl rfl)
theorem dX4_fillsPact_108 : decode cX4_fillsPact 108 = .ok (.aload_n 0, 1) := dk_42 (dk_at dksX4_fillsPact_4 14 rfl rfl)
theorem dX4_fillsPact_109 : decode cX4_fillsPact 109 = .ok (.invokevirtual 363, 3) := dk_182 1 107 (dk_at dksX4_fillsPact_4 15 rfl rfl)
theorem dX4_fillsPact_112 : decode cX4_fillsPact 112 = .ok (.pop, 1) := dk_87 (dk_at dksX4_fillsPact_4 18 rfl rfl)
theorem dX4_fillsPact_113 : decode cX4_fillsPact 113 = .ok (.iconst 0, 1) := dk_3 (dk_at dksX4_fillsPact_4 19 rfl rfl)
theorem dX4_fillsPact_114 : decode cX4_fillsPact 114 = .ok (.istore 4, 2) := dk_54 4 (dk_at dksX4_fillsPact_4 20 rfl rfl)
theorem dX4_fillsPact_116 : decode cX4_fillsPact 116 = .ok (.iload 4, 2) := dk_21 4 (dk_at dksX4_fillsPact_4 22 rfl rfl)
theorem dX4_fillsPact_118 : decode cX4_fillsPact 118 = .ok (.aload_n 0, 1) := dk_42 (dk_at dksX4_fillsPact_5 0 rfl rfl)
theorem dX4_fillsPact_119 : decode cX4_fillsPact 119 = .ok (.getfield 39, 3) := dk_180 0 39 (dk_at dksX4_fillsPact_5 1 rfl rfl)
theorem dX4_fillsPact_122 : decode cX4_fillsPact 122 = .ok (.iconst 3, 1) := dk_6 (dk_at dksX4_fillsPact_5 4 rfl rfl)
theorem dX4_fillsPact_123 : decode cX4_fillsPact 123 = .ok (.iaload, 1) := dk_46 (dk_at dksX4_fillsPact_5 5 rfl rfl)
theorem dX4_fillsPact_124 : decode cX4_fillsPact 124 = .ok (.if_icmp .ge 41, 3) := dk_162 0 41 (dk_at dksX4_fillsPact_5 6 rfl rfl)
theorem dX4_fillsPact_127 : decode cX4_fillsPact 127 = .ok (.aload_n 0, 1) := dk_42 (dk_at dksX4_fillsPact_5 9 rfl rfl)
theorem dX4_fillsPact_128 : decode cX4_fillsPact 128 = .ok (.getfield 64, 3) := dk_180 0 64 (dk_at dksX4_fillsPact_5 10 rfl rfl)
theorem dX4_fillsPact_131 : decode cX4_fillsPact 131 = .ok (.iconst 4, 1) := dk_7 (dk_at dksX4_fillsPact_5 13 rfl rfl)
theorem dX4_fillsPact_132 : decode cX4_fillsPact 132 = .ok (.iload_n 1, 1) := dk_27 (dk_at dksX4_fillsPact_5 14 rfl rfl)
theorem dX4_fillsPact_133 : decode cX4_fillsPact 133 = .ok (.imul, 1) := dk_104 (dk_at dksX4_fillsPact_5 15 rfl rfl)
theorem dX4_fillsPact_134 : decode cX4_fillsPact 134 = .ok (.iload 4, 2) := dk_21 4 (dk_at dksX4_fillsPact_5 16 rfl rfl)
theorem dX4_fillsPact_136 : decode cX4_fillsPact 136 = .ok (.iadd, 1) := dk_96 (dk_at dksX4_fillsPact_5 18 rfl rfl)
theorem dX4_fillsPact_137 : decode cX4_fillsPact 137 = .ok (.dup2, 1) := dk_92 (dk_at dksX4_fillsPact_5 19 rfl rfl)
theorem dX4_fillsPact_138 : decode cX4_fillsPact 138 = .ok (.iaload, 1) := dk_46 (dk_at dksX4_fillsPact_5 20 rfl rfl)
theorem dX4_fillsPact_139 : decode cX4_fillsPact 139 = .ok (.aload_n 0, 1) := dk_42 (dk_at dksX4_fillsPact_5 21 rfl rfl)
theorem dX4_fillsPact_140 : decode cX4_fillsPact 140 = .ok (.aload_n 0, 1) := dk_42 (dk_at dksX4_fillsPact_5 22 rfl rfl)
theorem dX4_fillsPact_141 : decode cX4_fillsPact 141 = .ok (.iload 4, 2) := dk_21 4 (dk_at dksX4_fillsPact_6 0 rfl rfl)
theorem dX4_fillsPact_143 : decode cX4_fillsPact 143 = .ok (.invokevirtual 327, 3) := dk_182 1 71 (dk_at dksX4_fillsPact_6 2 rfl rfl)
theorem dX4_fillsPact_146 : decode cX4_fillsPact 146 = .ok (.invokevirtual 307, 3) := dk_182 1 51 (dk_at dksX4_fillsPact_6 5 rfl rfl)
theorem dX4_fillsPact_149 : decode cX4_fillsPact 149 = .ok (.ifCond .eq 7, 3) := dk_153 0 7 (dk_at dksX4_fillsPact_6 8 rfl rfl)
theorem dX4_fillsPact_152 : decode cX4_fillsPact 152 = .ok (.iconst 0, 1) := dk_3 (dk_at dksX4_fillsPact_6 11 rfl rfl)
theorem dX4_fillsPact_153 : decode cX4_fillsPact 153 = .ok (.goto 4, 3) := dk_167 0 4 (dk_at dksX4_fillsPact_6 12 rfl rfl)
theorem dX4_fillsPact_156 : decode cX4_fillsPact 156 = .ok (.iconst 2, 1) := dk_5 (dk_at dksX4_fillsPact_6 15 rfl rfl)
theorem dX4_fillsPact_157 : decode cX4_fillsPact 157 = .ok (.iadd, 1) := dk_96 (dk_at dksX4_fillsPact_6 16 rfl rfl)
theorem dX4_fillsPact_158 : decode cX4_fillsPact 158 = .ok (.iastore, 1) := dk_79 (dk_at dksX4_fillsPact_6 17 rfl rfl)
theorem dX4_fillsPact_159 : decode cX4_fillsPact 159 = .ok (.iinc 4 1, 3) := dk_132 4 1 (dk_at dksX4_fillsPact_6 18 rfl rfl)
theorem dX4_fillsPact_162 : decode cX4_fillsPact 162 = .ok (.goto (-46), 3) := dk_167 255 210 (dk_at dksX4_fillsPact_6 21 rfl rfl)
theorem dX4_fillsPact_165 : decode cX4_fillsPact 165 = .ok (.iinc 3 1, 3) := dk_132 3 1 (dk_at dksX4_fillsPact_7 0 rfl rfl)
theorem dX4_fillsPact_168 : decode cX4_fillsPact 168 = .ok (.goto (-142), 3) := dk_167 255 114 (dk_at dksX4_fillsPact_7 3 rfl rfl)
theorem dX4_fillsPact_171 : decode cX4_fillsPact 171 = .ok (.return_, 1) := dk_177 (dk_at dksX4_fillsPact_7 6 rfl rfl)
abbrev cX4_allBy : ByteArray := prog_19_method_95_code
def yX4_allBy : MethodName := ⟨RX4, "allBy", "(I)I"⟩
def dkwX4_allBy_1 : List UInt8 := [46, 96, 61, 132, 3, 1, 167, 255, 230, 28, 172]
abbrev dktX4_allBy_1 : List UInt8 := dkwX4_allBy_1 ++ []
def dkwX4_allBy_0 : List UInt8 := [3, 61, 3, 62, 29, 42, 180, 0, 39, 6, 46, 162, 0, 22, 28, 42, 180, 0, 64, 7, 27, 104, 29, 96]
abbrev dktX4_allBy_0 : List UInt8 := dkwX4_allBy_0 ++ dktX4_allBy_1
theorem dksX4_allBy_0 : cX4_allBy.data.toList.drop 0 = dktX4_allBy_0 := by decide +kernel
theorem dksX4_allBy_1 : cX4_allBy.data.toList.drop 24 = dktX4_allBy_1 := dk_seg dksX4_allBy_0 24 rfl rfl
theorem dX4_allBy_0 : decode cX4_allBy 0 = .ok (.iconst 0, 1) := dk_3 (dk_at dksX4_allBy_0 0 rfl rfl)
theorem dX4_allBy_1 : decode cX4_allBy 1 = .ok (.istore_n 2, 1) := dk_61 (dk_at dksX4_allBy_0 1 rfl rfl)
theorem dX4_allBy_2 : decode cX4_allBy 2 = .ok (.iconst 0, 1) := dk_3 (dk_at dksX4_allBy_0 2 rfl rfl)
theorem dX4_allBy_3 : decode cX4_allBy 3 = .ok (.istore_n 3, 1) := dk_62 (dk_at dksX4_allBy_0 3 rfl rfl)
theorem dX4_allBy_4 : decode cX4_allBy 4 = .ok (.iload_n 3, 1) := dk_29 (dk_at dksX4_allBy_0 4 rfl rfl)
theorem dX4_allBy_5 : decode cX4_allBy 5 = .ok (.aload_n 0, 1) := dk_42 (dk_at dksX4_allBy_0 5 rfl rfl)
theorem dX4_allBy_6 : decode cX4_allBy 6 = .ok (.getfield 39, 3) := dk_180 0 39 (dk_at dksX4_allBy_0 6 rfl rfl)
theorem dX4_allBy_9 : decode cX4_allBy 9 = .ok (.iconst 3, 1) := dk_6 (dk_at dksX4_allBy_0 9 rfl rfl)
theorem dX4_allBy_10 : decode cX4_allBy 10 = .ok (.iaload, 1) := dk_46 (dk_at dksX4_allBy_0 10 rfl rfl)
theorem dX4_allBy_11 : decode cX4_allBy 11 = .ok (.if_icmp .ge 22, 3) := dk_162 0 22 (dk_at dksX4_allBy_0 11 rfl rfl)
theorem dX4_allBy_14 : decode cX4_allBy 14 = .ok (.iload_n 2, 1) := dk_28 (dk_at dksX4_allBy_0 14 rfl rfl)
theorem dX4_allBy_15 : decode cX4_allBy 15 = .ok (.aload_n 0, 1) := dk_42 (dk_at dksX4_allBy_0 15 rfl rfl)
theorem dX4_allBy_16 : decode cX4_allBy 16 = .ok (.getfield 64, 3) := dk_180 0 64 (dk_at dksX4_allBy_0 16 rfl rfl)
theorem dX4_allBy_19 : decode cX4_allBy 19 = .ok (.iconst 4, 1) := dk_7 (dk_at dksX4_allBy_0 19 rfl rfl)
theorem dX4_allBy_20 : decode cX4_allBy 20 = .ok (.iload_n 1, 1) := dk_27 (dk_at dksX4_allBy_0 20 rfl rfl)
theorem dX4_allBy_21 : decode cX4_allBy 21 = .ok (.imul, 1) := dk_104 (dk_at dksX4_allBy_0 21 rfl rfl)
theorem dX4_allBy_22 : decode cX4_allBy 22 = .ok (.iload_n 3, 1) := dk_29 (dk_at dksX4_allBy_0 22 rfl rfl)
theorem dX4_allBy_23 : decode cX4_allBy 23 = .ok (.iadd, 1) := dk_96 (dk_at dksX4_allBy_0 23 rfl rfl)
theorem dX4_allBy_24 : decode cX4_allBy 24 = .ok (.iaload, 1) := dk_46 (dk_at dksX4_allBy_1 0 rfl rfl)
theorem dX4_allBy_25 : decode cX4_allBy 25 = .ok (.iadd, 1) := dk_96 (dk_at dksX4_allBy_1 1 rfl rfl)
theorem dX4_allBy_26 : decode cX4_allBy 26 = .ok (.istore_n 2, 1) := dk_61 (dk_at dksX4_allBy_1 2 rfl rfl)
theorem dX4_allBy_27 : decode cX4_allBy 27 = .ok (.iinc 3 1, 3) := dk_132 3 1 (dk_at dksX4_allBy_1 3 rfl rfl)
theorem dX4_allBy_30 : decode cX4_allBy 30 = .ok (.goto (-26), 3) := dk_167 255 230 (dk_at dksX4_allBy_1 6 rfl rfl)
theorem dX4_allBy_33 : decode cX4_allBy 33 = .ok (.iload_n 2, 1) := dk_28 (dk_at dksX4_allBy_1 9 rfl rfl)
theorem dX4_allBy_34 : decode cX4_allBy 34 = .ok (.ireturn, 1) := dk_172 (dk_at dksX4_allBy_1 10 rfl rfl)
abbrev cX4_isPact : ByteArray := prog_19_method_96_code
def yX4_isPact : MethodName := ⟨RX4, "isPact", "(I)Z"⟩
def dkwX4_isPact_2 : List UInt8 := [172]
abbrev dktX4_isPact_2 : List UInt8 := dkwX4_isPact_2 ++ []
def dkwX4_isPact_1 : List UInt8 := [96, 46, 42, 180, 0, 64, 7, 27, 104, 28, 96, 46, 164, 0, 5, 3, 172, 132, 2, 1, 167, 255, 214, 4]
abbrev dktX4_isPact_1 : List UInt8 := dkwX4_isPact_1 ++ dktX4_isPact_2
def dkwX4_isPact_0 : List UInt8 := [3, 61, 28, 42, 180, 0, 39, 6, 46, 162, 0, 38, 42, 180, 0, 64, 7, 27, 4, 28, 120, 130, 104, 28]
abbrev dktX4_isPact_0 : List UInt8 := dkwX4_isPact_0 ++ dktX4_isPact_1
theorem dksX4_isPact_0 : cX4_isPact.data.toList.drop 0 = dktX4_isPact_0 := by decide +kernel
theorem dksX4_isPact_1 : cX4_isPact.data.toList.drop 24 = dktX4_isPact_1 := dk_seg dksX4_isPact_0 24 rfl rfl
theorem dksX4_isPact_2 : cX4_isPact.data.toList.drop 48 = dktX4_isPact_2 := dk_seg dksX4_isPact_1 24 rfl rfl
theorem dX4_isPact_0 : decode cX4_isPact 0 = .ok (.iconst 0, 1) := dk_3 (dk_at dksX4_isPact_0 0 rfl rfl)
theorem dX4_isPact_1 : decode cX4_isPact 1 = .ok (.istore_n 2, 1) := dk_61 (dk_at dksX4_isPact_0 1 rfl rfl)
theorem dX4_isPact_2 : decode cX4_isPact 2 = .ok (.iload_n 2, 1) := dk_28 (dk_at dksX4_isPact_0 2 rfl rfl)
theorem dX4_isPact_3 : decode cX4_isPact 3 = .ok (.aload_n 0, 1) := dk_42 (dk_at dksX4_isPact_0 3 rfl rfl)
theorem dX4_isPact_4 : decode cX4_isPact 4 = .ok (.getfield 39, 3) := dk_180 0 39 (dk_at dksX4_isPact_0 4 rfl rfl)
theorem dX4_isPact_7 : decode cX4_isPact 7 = .ok (.iconst 3, 1) := dk_6 (dk_at dksX4_isPact_0 7 rfl rfl)
theorem dX4_isPact_8 : decode cX4_isPact 8 = .ok (.iaload, 1) := dk_46 (dk_at dksX4_isPact_0 8 rfl rfl)
theorem dX4_isPact_9 : decode cX4_isPact 9 = .ok (.if_icmp .ge 38, 3) := dk_162 0 38 (dk_at dksX4_isPact_0 9 rfl rfl)
theorem dX4_isPact_12 : decode cX4_isPact 12 = .ok (.aload_n 0, 1) := dk_42 (dk_at dksX4_isPact_0 12 rfl rfl)
theorem dX4_isPact_13 : decode cX4_isPact 13 = .ok (.getfield 64, 3) := dk_180 0 64 (dk_at dksX4_isPact_0 13 rfl rfl)
theorem dX4_isPact_16 : decode cX4_isPact 16 = .ok (.iconst 4, 1) := dk_7 (dk_at dksX4_isPact_0 16 rfl rfl)
theorem dX4_isPact_17 : decode cX4_isPact 17 = .ok (.iload_n 1, 1) := dk_27 (dk_at dksX4_isPact_0 17 rfl rfl)
theorem dX4_isPact_18 : decode cX4_isPact 18 = .ok (.iconst 1, 1) := dk_4 (dk_at dksX4_isPact_0 18 rfl rfl)
theorem dX4_isPact_19 : decode cX4_isPact 19 = .ok (.iload_n 2, 1) := dk_28 (dk_at dksX4_isPact_0 19 rfl rfl)
theorem dX4_isPact_20 : decode cX4_isPact 20 = .ok (.ishl, 1) := dk_120 (dk_at dksX4_isPact_0 20 rfl rfl)
theorem dX4_isPact_21 : decode cX4_isPact 21 = .ok (.ixor, 1) := dk_130 (dk_at dksX4_isPact_0 21 rfl rfl)
theorem dX4_isPact_22 : decode cX4_isPact 22 = .ok (.imul, 1) := dk_104 (dk_at dksX4_isPact_0 22 rfl rfl)
theorem dX4_isPact_23 : decode cX4_isPact 23 = .ok (.iload_n 2, 1) := dk_28 (dk_at dksX4_isPact_0 23 rfl rfl)
theorem dX4_isPact_24 : decode cX4_isPact 24 = .ok (.iadd, 1) := dk_96 (dk_at dksX4_isPact_1 0 rfl rfl)
theorem dX4_isPact_25 : decode cX4_isPact 25 = .ok (.iaload, 1) := dk_46 (dk_at dksX4_isPact_1 1 rfl rfl)
theorem dX4_isPact_26 : decode cX4_isPact 26 = .ok (.aload_n 0, 1) := dk_42 (dk_at dksX4_isPact_1 2 rfl rfl)
theorem dX4_isPact_27 : decode cX4_isPact 27 = .ok (.getfield 64, 3) := dk_180 0 64 (dk_at dksX4_isPact_1 3 rfl rfl)
theorem dX4_isPact_30 : decode cX4_isPact 30 = .ok (.iconst 4, 1) := dk_7 (dk_at dksX4_isPact_1 6 rfl rfl)
theorem dX4_isPact_31 : decode cX4_isPact 31 = .ok (.iload_n 1, 1) := dk_27 (dk_at dksX4_isPact_1 7 rfl rfl)
theorem dX4_isPact_32 : decode cX4_isPact 32 = .ok (.imul, 1) := dk_104 (dk_at dksX4_isPact_1 8 rfl rfl)
theorem dX4_isPact_33 : decode cX4_isPact 33 = .ok (.iload_n 2, 1) := dk_28 (dk_at dksX4_isPact_1 9 rfl rfl)
theorem dX4_isPact_34 : decode cX4_isPact 34 = .ok (.iadd, 1) := dk_96 (dk_at dksX4_isPact_1 10 rfl rfl)
theorem dX4_isPact_35 : decode cX4_isPact 35 = .ok (.iaload, 1) := dk_46 (dk_at dksX4_isPact_1 11 rfl rfl)
theorem dX4_isPact_36 : decode cX4_isPact 36 = .ok (.if_icmp .le 5, 3) := dk_164 0 5 (dk_at dksX4_isPact_1 12 rfl rfl)
theorem dX4_isPact_39 : decode cX4_isPact 39 = .ok (.iconst 0, 1) := dk_3 (dk_at dksX4_isPact_1 15 rfl rfl)
theorem dX4_isPact_40 : decode cX4_isPact 40 = .ok (.ireturn, 1) := dk_172 (dk_at dksX4_isPact_1 16 rfl rfl)
theorem dX4_isPact_41 : decode cX4_isPact 41 = .ok (.iinc 2 1, 3) := dk_132 2 1 (dk_at dksX4_isPact_1 17 rfl rfl)
theorem dX4_isPact_44 : decode cX4_isPact 44 = .ok (.goto (-42), 3) := dk_167 255 214 (dk_at dksX4_isPact_1 20 rfl rfl)
theorem dX4_isPact_47 : decode cX4_isPact 47 = .ok (.iconst 1, 1) := dk_4 (dk_at dksX4_isPact_1 23 rfl rfl)
theorem dX4_isPact_48 : decode cX4_isPact 48 = .ok (.ireturn, 1) := dk_172 (dk_at dksX4_isPact_2 0 rfl rfl)
abbrev cX4_thrownOn : ByteArray := prog_19_method_98_code
def yX4_thrownOn : MethodName := ⟨RX4, "thrownOn", "(III)I"⟩
def dkwX4_thrownOn_3 : List UInt8 := [182, 1, 132, 29, 154, 0, 12, 42, 180, 0, 46, 27, 46, 167, 0, 9, 42, 180, 0, 49, 27, 46, 172]
abbrev dktX4_thrownOn_3 : List UInt8 := dkwX4_thrownOn_3 ++ []
def dkwX4_thrownOn_2 : List UInt8 := [3, 79, 3, 54, 4, 21, 4, 28, 162, 0, 14, 42, 182, 1, 116, 87, 132, 4, 1, 167, 255, 242, 42]
abbrev dktX4_thrownOn_2 : List UInt8 := dkwX4_thrownOn_2 ++ dktX4_thrownOn_3
def dkwX4_thrownOn_1 : List UInt8 := [184, 0, 124, 154, 0, 5, 2, 172, 42, 182, 1, 129, 42, 180, 0, 46, 27, 3, 79, 42, 180, 0, 49, 27]
abbrev dktX4_thrownOn_1 : List UInt8 := dkwX4_thrownOn_1 ++ dktX4_thrownOn_2
def dkwX4_thrownOn_0 : List UInt8 := [42, 27, 182, 1, 57, 153, 0, 25, 28, 133, 10, 20, 1, 135, 184, 0, 124, 153, 0, 13, 29, 133, 9, 10]
abbrev dktX4_thrownOn_0 : List UInt8 := dkwX4_thrownOn_0 ++ dktX4_thrownOn_1
theorem dksX4_thrownOn_0 : cX4_thrownOn.data.toList.drop 0 = dktX4_thrownOn_0 := by decide +kernel
theorem dksX4_thrownOn_1 : cX4_thrownOn.data.toList.drop 24 = dktX4_thrownOn_1 := dk_seg dksX4_thrownOn_0 24 rfl rfl
theorem dksX4_thrownOn_2 : cX4_thrownOn.data.toList.drop 48 = dktX4_thrownOn_2 := dk_seg dksX4_thrownOn_1 24 rfl rfl
theorem dksX4_thrownOn_3 : cX4_thrownOn.data.toList.drop 71 = dktX4_thrownOn_3 := dk_seg dksX4_thrownOn_2 23 rfl rfl
theorem dX4_thrownOn_0 : decode cX4_thrownOn 0 = .ok (.aload_n 0, 1) := dk_42 (dk_at dksX4_thrownOn_0 0 rfl rfl)
theorem dX4_thrownOn_1 : decode cX4_thrownOn 1 = .ok (.iload_n 1, 1) := dk_27 (dk_at dksX4_thrownOn_0 1 rfl rfl)
theorem dX4_thrownOn_2 : decode cX4_thrownOn 2 = .ok (.invokevirtual 313, 3) := dk_182 1 57 (dk_at dksX4_thrownOn_0 2 rfl rfl)
theorem dX4_thrownOn_5 : decode cX4_thrownOn 5 = .ok (.ifCond .eq 25, 3) := dk_153 0 25 (dk_at dksX4_thrownOn_0 5 rfl rfl)
theorem dX4_thrownOn_8 : decode cX4_thrownOn 8 = .ok (.iload_n 2, 1) := dk_28 (dk_at dksX4_thrownOn_0 8 rfl rfl)
theorem dX4_thrownOn_9 : decode cX4_thrownOn 9 = .ok (.i2l, 1) := dk_133 (dk_at dksX4_thrownOn_0 9 rfl rfl)
theorem dX4_thrownOn_10 : decode cX4_thrownOn 10 = .ok (.lconst 1, 1) := dk_10 (dk_at dksX4_thrownOn_0 10 rfl rfl)
theorem dX4_thrownOn_11 : decode cX4_thrownOn 11 = .ok (.ldc2_w 391, 3) := dk_20 1 135 (dk_at dksX4_thrownOn_0 11 rfl rfl)
theorem dX4_thrownOn_14 : decode cX4_thrownOn 14 = .ok (.invokestatic 124, 3) := dk_184 0 124 (dk_at dksX4_thrownOn_0 14 rfl rfl)
theorem dX4_thrownOn_17 : decode cX4_thrownOn 17 = .ok (.ifCond .eq 13, 3) := dk_153 0 13 (dk_at dksX4_thrownOn_0 17 rfl rfl)
theorem dX4_thrownOn_20 : decode cX4_thrownOn 20 = .ok (.iload_n 3, 1) := dk_29 (dk_at dksX4_thrownOn_0 20 rfl rfl)
theorem dX4_thrownOn_21 : decode cX4_thrownOn 21 = .ok (.i2l, 1) := dk_133 (dk_at dksX4_thrownOn_0 21 rfl rfl)
theorem dX4_thrownOn_22 : decode cX4_thrownOn 22 = .ok (.lconst 0, 1) := dk_9 (dk_at dksX4_thrownOn_0 22 rfl rfl)
theorem dX4_thrownOn_23 : decode cX4_thrownOn 23 = .ok (.lconst 1, 1) := dk_10 (dk_at dksX4_thrownOn_0 23 rfl rfl)
theorem dX4_thrownOn_24 : decode cX4_thrownOn 24 = .ok (.invokestatic 124, 3) := dk_184 0 124 (dk_at dksX4_thrownOn_1 0 rfl rfl)
theorem dX4_thrownOn_27 : decode cX4_thrownOn 27 = .ok (.ifCond .ne 5, 3) := dk_154 0 5 (dk_at dksX4_thrownOn_1 3 rfl rfl)
theorem dX4_thrownOn_30 : decode cX4_thrownOn 30 = .ok (.iconst (-1), 1) := dk_2 (dk_at dksX4_thrownOn_1 6 rfl rfl)
theorem dX4_thrownOn_31 : decode cX4_thrownOn 31 = .ok (.ireturn, 1) := dk_172 (dk_at dksX4_thrownOn_1 7 rfl rfl)
theorem dX4_thrownOn_32 : decode cX4_thrownOn 32 = .ok (.aload_n 0, 1) := dk_42 (dk_at dksX4_thrownOn_1 8 rfl rfl)
theorem dX4_thrownOn_33 : decode cX4_thrownOn 33 = .ok (.invokevirtual 385, 3) := dk_182 1 129 (dk_at dksX4_thrownOn_1 9 rfl rfl)
theorem dX4_thrownOn_36 : decode cX4_thrownOn 36 = .ok (.aload_n 0, 1) := dk_42 (dk_at dksX4_thrownOn_1 12 rfl rfl)
theorem dX4_thrownOn_37 : decode cX4_thrownOn 37 = .ok (.getfield 46, 3) := dk_180 0 46 (dk_at dksX4_thrownOn_1 13 rfl rfl)
theorem dX4_thrownOn_40 : decode cX4_thrownOn 40 = .ok (.iload_n 1, 1) := dk_27 (dk_at dksX4_thrownOn_1 16 rfl rfl)
theorem dX4_thrownOn_41 : decode cX4_thrownOn 41 = .ok (.iconst 0, 1) := dk_3 (dk_at dksX4_thrownOn_1 17 rfl rfl)
theorem dX4_thrownOn_42 : decode cX4_thrownOn 42 = .ok (.iastore, 1) := dk_79 (dk_at dksX4_thrownOn_1 18 rfl rfl)
theorem dX4_thrownOn_43 : decode cX4_thrownOn 43 = .ok (.aload_n 0, 1) := dk_42 (dk_at dksX4_thrownOn_1 19 rfl rfl)
theorem dX4_thrownOn_44 : decode cX4_thrownOn 44 = .ok (.getfield 49, 3) := dk_180 0 49 (dk_at dksX4_thrownOn_1 20 rfl rfl)
theorem dX4_thrownOn_47 : decode cX4_thrownOn 47 = .ok (.iload_n 1, 1) := dk_27 (dk_at dksX4_thrownOn_1 23 rfl rfl)
theorem dX4_thrownOn_48 : decode cX4_thrownOn 48 = .ok (.iconst 0, 1) := dk_3 (dk_at dksX4_thrownOn_2 0 rfl rfl)
theorem dX4_thrownOn_49 : decode cX4_thrownOn 49 = .ok (.iastore, 1) := dk_79 (dk_at dksX4_thrownOn_2 1 rfl rfl)
theorem dX4_thrownOn_50 : decode cX4_thrownOn 50 = .ok (.iconst 0, 1) := dk_3 (dk_at dksX4_thrownOn_2 2 rfl rfl)
theorem dX4_thrownOn_51 : decode cX4_thrownOn 51 = .ok (.istore 4, 2) := dk_54 4 (dk_at dksX4_thrownOn_2 3 rfl rfl)
theorem dX4_thrownOn_53 : decode cX4_thrownOn 53 = .ok (.iload 4, 2) := dk_21 4 (dk_at dksX4_thrownOn_2 5 rfl rfl)
theorem dX4_thrownOn_55 : decode cX4_thrownOn 55 = .ok (.iload_n 2, 1) := dk_28 (dk_at dksX4_thrownOn_2 7 rfl rfl)
theorem dX4_thrownOn_56 : decode cX4_thrownOn 56 = .ok (.if_icmp .ge 14, 3) := dk_162 0 14 (dk_at dksX4_thrownOn_2 8 rfl rfl)
theorem dX4_thrownOn_59 : decode cX4_thrownOn 59 = .ok (.aload_n 0, 1) := dk_42 (dk_at dksX4_thrownOn_2 11 rfl rfl)
theorem dX4_thrownOn_60 : decode cX4_thrownOn 60 = .ok (.invokevirtual 372, 3) := dk_182 1 116 (dk_at dksX4_thrownOn_2 12 rfl rfl)
theorem dX4_thrownOn_63 : decode cX4_thrownOn 63 = .ok (.pop, 1) := dk_87 (dk_at dksX4_thrownOn_2 15 rfl rfl)
theorem dX4_thrownOn_64 : decode cX4_thrownOn 64 = .ok (.iinc 4 1, 3) := dk_132 4 1 (dk_at dksX4_thrownOn_2 16 rfl rfl)
theorem dX4_thrownOn_67 : decode cX4_thrownOn 67 = .ok (.goto (-14), 3) := dk_167 255 242 (dk_at dksX4_thrownOn_2 19 rfl rfl)
theorem dX4_thrownOn_70 : decode cX4_thrownOn 70 = .ok (.aload_n 0, 1) := dk_42 (dk_at dksX4_thrownOn_2 22 rfl rfl)
theorem dX4_thrownOn_71 : decode cX4_thrownOn 71 = .ok (.invokevirtual 388, 3) := dk_182 1 132 (dk_at dksX4_thrownOn_3 0 rfl rfl)
theorem dX4_thrownOn_74 : decode cX4_thrownOn 74 = .ok (.iload_n 3, 1) := dk_29 (dk_at dksX4_thrownOn_3 3 rfl rfl)
theorem dX4_thrownOn_75 : decode cX4_thrownOn 75 = .ok (.ifCond .ne 12, 3) := dk_154 0 12 (dk_at dksX4_thrownOn_3 4 rfl rfl)
theorem dX4_thrownOn_78 : decode cX4_thrownOn 78 = .ok (.aload_n 0, 1) := dk_42 (dk_at dksX4_thrownOn_3 7 rfl rfl)
theorem dX4_thrownOn_79 : decode cX4_thrownOn 79 = .ok (.getfield 46, 3) := dk_180 0 46 (dk_at dksX4_thrownOn_3 8 rfl rfl)
theorem dX4_thrownOn_82 : decode cX4_thrownOn 82 = .ok (.iload_n 1, 1) := dk_27 (dk_at dksX4_thrownOn_3 11 rfl rfl)
theorem dX4_thrownOn_83 : decode cX4_thrownOn 83 = .ok (.iaload, 1) := dk_46 (dk_at dksX4_thrownOn_3 12 rfl rfl)
theorem dX4_thrownOn_84 : decode cX4_thrownOn 84 = .ok (.goto 9, 3) := dk_167 0 9 (dk_at dksX4_thrownOn_3 13 rfl rfl)
theorem dX4_thrownOn_87 : decode cX4_thrownOn 87 = .ok (.aload_n 0, 1) := dk_42 (dk_at dksX4_thrownOn_3 16 rfl rfl)
theorem dX4_thrownOn_88 : decode cX4_thrownOn 88 = .ok (.getfield 49, 3) := dk_180 0 49 (dk_at dksX4_thrownOn_3 17 rfl rfl)
theorem dX4_thrownOn_91 : decode cX4_thrownOn 91 = .ok (.iload_n 1, 1) := dk_27 (dk_at dksX4_thrownOn_3 20 rfl rfl)
theorem dX4_thrownOn_92 : decode cX4_thrownOn 92 = .ok (.iaload, 1) := dk_46 (dk_at dksX4_thrownOn_3 21 rfl rfl)
theorem dX4_thrownOn_93 : decode cX4_thrownOn 93 = .ok (.ireturn, 1) := dk_172 (dk_at dksX4_thrownOn_3 22 rfl rfl)
abbrev cX4_best : ByteArray := prog_19_method_100_code
def yX4_best : MethodName := ⟨RX4, "best", "(III)I"⟩
def dkwX4_best_6 : List UInt8 := [21, 4, 167, 0, 5, 21, 5, 172]
abbrev dktX4_best_6 : List UInt8 := dkwX4_best_6 ++ []
def dkwX4_best_5 : List UInt8 := [161, 0, 6, 167, 0, 11, 21, 6, 54, 4, 21, 7, 54, 5, 132, 6, 1, 167, 255, 183, 29, 154, 0, 8]
abbrev dktX4_best_5 : List UInt8 := dkwX4_best_5 ++ dktX4_best_6
def dkwX4_best_4 : List UInt8 := [4, 27, 120, 128, 79, 42, 27, 21, 6, 182, 1, 103, 87, 42, 28, 182, 1, 168, 54, 7, 21, 7, 21, 5]
abbrev dktX4_best_4 : List UInt8 := dkwX4_best_4 ++ dktX4_best_5
def dkwX4_best_3 : List UInt8 := [162, 0, 68, 42, 27, 21, 6, 182, 1, 119, 154, 0, 6, 167, 0, 49, 42, 180, 0, 39, 16, 13, 92, 46]
abbrev dktX4_best_3 : List UInt8 := dkwX4_best_3 ++ dktX4_best_4
def dkwX4_best_2 : List UInt8 := [182, 1, 129, 2, 54, 4, 42, 28, 182, 1, 168, 54, 5, 3, 54, 6, 21, 6, 42, 180, 0, 39, 5, 46]
abbrev dktX4_best_2 : List UInt8 := dkwX4_best_2 ++ dktX4_best_3
def dkwX4_best_1 : List UInt8 := [10, 20, 1, 157, 184, 0, 124, 153, 0, 13, 29, 133, 9, 10, 184, 0, 124, 154, 0, 6, 16, 254, 172, 42]
abbrev dktX4_best_1 : List UInt8 := dkwX4_best_1 ++ dktX4_best_2
def dkwX4_best_0 : List UInt8 := [42, 27, 182, 1, 66, 153, 0, 39, 42, 180, 0, 39, 16, 13, 46, 27, 184, 1, 60, 154, 0, 25, 28, 133]
abbrev dktX4_best_0 : List UInt8 := dkwX4_best_0 ++ dktX4_best_1
theorem dksX4_best_0 : cX4_best.data.toList.drop 0 = dktX4_best_0 := by decide +kernel
theorem dksX4_best_1 : cX4_best.data.toList.drop 24 = dktX4_best_1 := dk_seg dksX4_best_0 24 rfl rfl
theorem dksX4_best_2 : cX4_best.data.toList.drop 48 = dktX4_best_2 := dk_seg dksX4_best_1 24 rfl rfl
theorem dksX4_best_3 : cX4_best.data.toList.drop 72 = dktX4_best_3 := dk_seg dksX4_best_2 24 rfl rfl
theorem dksX4_best_4 : cX4_best.data.toList.drop 96 = dktX4_best_4 := dk_seg dksX4_best_3 24 rfl rfl
theorem dksX4_best_5 : cX4_best.data.toList.drop 120 = dktX4_best_5 := dk_seg dksX4_best_4 24 rfl rfl
theorem dksX4_best_6 : cX4_best.data.toList.drop 144 = dktX4_best_6 := dk_seg dksX4_best_5 24 rfl rfl
theorem dX4_best_0 : decode cX4_best 0 = .ok (.aload_n 0, 1) := dk_42 (dk_at dksX4_best_0 0 rfl rfl)
theorem dX4_best_1 : decode cX4_best 1 = .ok (.iload_n 1, 1) := dk_27 (dk_at dksX4_best_0 1 rfl rfl)
theorem dX4_best_2 : decode cX4_best 2 = .ok (.invokevirtual 322, 3) := dk_182 1 66 (dk_at dksX4_best_0 2 rfl rfl)
theorem dX4_best_5 : decode cX4_best 5 = .ok (.ifCond .eq 39, 3) := dk_153 0 39 (dk_at dksX4_best_0 5 rfl rfl)
theorem dX4_best_8 : decode cX4_best 8 = .ok (.aload_n 0, 1) := dk_42 (dk_at dksX4_best_0 8 rfl rfl)
theorem dX4_best_9 : decode cX4_best 9 = .ok (.getfield 39, 3) := dk_180 0 39 (dk_at dksX4_best_0 9 rfl rfl)
theorem dX4_best_12 : decode cX4_best 12 = .ok (.bipush 13, 2) := dk_16 13 (dk_at dksX4_best_0 12 rfl rfl)
theorem dX4_best_14 : decode cX4_best 14 = .ok (.iaload, 1) := dk_46 (dk_at dksX4_best_0 14 rfl rfl)
theorem dX4_best_15 : decode cX4_best 15 = .ok (.iload_n 1, 1) := dk_27 (dk_at dksX4_best_0 15 rfl rfl)
theorem dX4_best_16 : decode cX4_best 16 = .ok (.invokestatic 316, 3) := dk_184 1 60 (dk_at dksX4_best_0 16 rfl rfl)
theorem dX4_best_19 : decode cX4_best 19 = .ok (.ifCond .ne 25, 3) := dk_154 0 25 (dk_at dksX4_best_0 19 rfl rfl)
theorem dX4_best_22 : decode cX4_best 22 = .ok (.iload_n 2, 1) := dk_28 (dk_at dksX4_best_0 22 rfl rfl)
theorem dX4_best_23 : decode cX4_best 23 = .ok (.i2l, 1) := dk_133 (dk_at dksX4_best_0 23 rfl rfl)
theorem dX4_best_24 : decode cX4_best 24 = .ok (.lconst 1, 1) := dk_10 (dk_at dksX4_best_1 0 rfl rfl)
theorem dX4_best_25 : decode cX4_best 25 = .ok (.ldc2_w 413, 3) := dk_20 1 157 (dk_at dksX4_best_1 1 rfl rfl)
theorem dX4_best_28 : decode cX4_best 28 = .ok (.invokestatic 124, 3) := dk_184 0 124 (dk_at dksX4_best_1 4 rfl rfl)
theorem dX4_best_31 : decode cX4_best 31 = .ok (.ifCond .eq 13, 3) := dk_153 0 13 (dk_at dksX4_best_1 7 rfl rfl)
theorem dX4_best_34 : decode cX4_best 34 = .ok (.iload_n 3, 1) := dk_29 (dk_at dksX4_best_1 10 rfl rfl)
theorem dX4_best_35 : decode cX4_best 35 = .ok (.i2l, 1) := dk_133 (dk_at dksX4_best_1 11 rfl rfl)
theorem dX4_best_36 : decode cX4_best 36 = .ok (.lconst 0, 1) := dk_9 (dk_at dksX4_best_1 12 rfl rfl)
theorem dX4_best_37 : decode cX4_best 37 = .ok (.lconst 1, 1) := dk_10 (dk_at dksX4_best_1 13 rfl rfl)
theorem dX4_best_38 : decode cX4_best 38 = .ok (.invokestatic 124, 3) := dk_184 0 124 (dk_at dksX4_best_1 14 rfl rfl)
theorem dX4_best_41 : decode cX4_best 41 = .ok (.ifCond .ne 6, 3) := dk_154 0 6 (dk_at dksX4_best_1 17 rfl rfl)
theorem dX4_best_44 : decode cX4_best 44 = .ok (.bipush (-2), 2) := dk_16 254 (dk_at dksX4_best_1 20 rfl rfl)
theorem dX4_best_46 : decode cX4_best 46 = .ok (.ireturn, 1) := dk_172 (dk_at dksX4_best_1 22 rfl rfl)
theorem dX4_best_47 : decode cX4_best 47 = .ok (.aload_n 0, 1) := dk_42 (dk_at dksX4_best_1 23 rfl rfl)
theorem dX4_best_48 : decode cX4_best 48 = .ok (.invokevirtual 385, 3) := dk_182 1 129 (dk_at dksX4_best_2 0 rfl rfl)
theorem dX4_best_51 : decode cX4_best 51 = .ok (.iconst (-1), 1) := dk_2 (dk_at dksX4_best_2 3 rfl rfl)
theorem dX4_best_52 : decode cX4_best 52 = .ok (.istore 4, 2) := dk_54 4 (dk_at dksX4_best_2 4 rfl rfl)
theorem dX4_best_54 : decode cX4_best 54 = .ok (.aload_n 0, 1) := dk_42 (dk_at dksX4_best_2 6 rfl rfl)
theorem dX4_best_55 : decode cX4_best 55 = .ok (.iload_n 2, 1) := dk_28 (dk_at dksX4_best_2 7 rfl rfl)
theorem dX4_best_56 : decode cX4_best 56 = .ok (.invokevirtual 424, 3) := dk_182 1 168 (dk_at dksX4_best_2 8 rfl rfl)
theorem dX4_best_59 : decode cX4_best 59 = .ok (.istore 5, 2) := dk_54 5 (dk_at dksX4_best_2 11 rfl rfl)
theorem dX4_best_61 : decode cX4_best 61 = .ok (.iconst 0, 1) := dk_3 (dk_at dksX4_best_2 13 rfl rfl)
theorem dX4_best_62 : decode cX4_best 62 = .ok (.istore 6, 2) := dk_54 6 (dk_at dksX4_best_2 14 rfl rfl)
theorem dX4_best_64 : decode cX4_best 64 = .ok (.iload 6, 2) := dk_21 6 (dk_at dksX4_best_2 16 rfl rfl)
theorem dX4_best_66 : decode cX4_best 66 = .ok (.aload_n 0, 1) := dk_42 (dk_at dksX4_best_2 18 rfl rfl)
theorem dX4_best_67 : decode cX4_best 67 = .ok (.getfield 39, 3) := dk_180 0 39 (dk_at dksX4_best_2 19 rfl rfl)
theorem dX4_best_70 : decode cX4_best 70 = .ok (.iconst 2, 1) := dk_5 (dk_at dksX4_best_2 22 rfl rfl)
theorem dX4_best_71 : decode cX4_best 71 = .ok (.iaload, 1) := dk_46 (dk_at dksX4_best_2 23 rfl rfl)
theorem dX4_best_72 : decode cX4_best 72 = .ok (.if_icmp .ge 68, 3) := dk_162 0 68 (dk_at dksX4_best_3 0 rfl rfl)
theorem dX4_best_75 : decode cX4_best 75 = .ok (.aload_n 0, 1) := dk_42 (dk_at dksX4_best_3 3 rfl rfl)
theorem dX4_best_76 : decode cX4_best 76 = .ok (.iload_n 1, 1) := dk_27 (dk_at dksX4_best_3 4 rfl rfl)
theorem dX4_best_77 : decode cX4_best 77 = .ok (.iload 6, 2) := dk_21 6 (dk_at dksX4_best_3 5 rfl rfl)
theorem dX4_best_79 : decode cX4_best 79 = .ok (.invokevirtual 375, 3) := dk_182 1 119 (dk_at dksX4_best_3 7 rfl rfl)
theorem dX4_best_82 : decode cX4_best 82 = .ok (.ifCond .ne 6, 3) := dk_154 0 6 (dk_at dksX4_best_3 10 rfl rfl)
theorem dX4_best_85 : decode cX4_best 85 = .ok (.goto 49, 3) := dk_167 0 49 (dk_at dksX4_best_3 13 rfl rfl)
theorem dX4_best_88 : decode cX4_best 88 = .ok (.aload_n 0, 1) := dk_42 (dk_at dksX4_best_3 16 rfl rfl)
theorem dX4_best_89 : decode cX4_best 89 = .ok (.getfield 39, 3) := dk_180 0 39 (dk_at dksX4_best_3 17 rfl rfl)
theorem dX4_best_92 : decode cX4_best 92 = .ok (.bipush 13, 2) := dk_16 13 (dk_at dksX4_best_3 20 rfl rfl)
theorem dX4_best_94 : decode cX4_best 94 = .ok (.dup2, 1) := dk_92 (dk_at dksX4_best_3 22 rfl rfl)
theorem dX4_best_95 : decode cX4_best 95 = .ok (.iaload, 1) := dk_46 (dk_at dksX4_best_3 23 rfl rfl)
theorem dX4_best_96 : decode cX4_best 96 = .ok (.iconst 1, 1) := dk_4 (dk_at dksX4_best_4 0 rfl rfl)
theorem dX4_best_97 : decode cX4_best 97 = .ok (.iload_n 1, 1) := dk_27 (dk_at dksX4_best_4 1 rfl rfl)
theorem dX4_best_98 : decode cX4_best 98 = .ok (.ishl, 1) := dk_120 (dk_at dksX4_best_4 2 rfl rfl)
theorem dX4_best_99 : decode cX4_best 99 = .ok (.ior, 1) := dk_128 (dk_at dksX4_best_4 3 rfl rfl)
theorem dX4_best_100 : decode cX4_best 100 = .ok (.iastore, 1) := dk_79 (dk_at dksX4_best_4 4 rfl rfl)
theorem dX4_best_101 : decode cX4_best 101 = .ok (.aload_n 0, 1) := dk_42 (dk_at dksX4_best_4 5 rfl rfl)
theorem dX4_best_102 : decode cX4_best 102 = .ok (.iload_n 1, 1) := dk_27 (dk_at dksX4_best_4 6 rfl rfl)
theorem dX4_best_103 : decode cX4_best 103 = .ok (.iload 6, 2) := dk_21 6 (dk_at dksX4_best_4 7 rfl rfl)
theorem dX4_best_105 : decode cX4_best 105 = .ok (.invokevirtual 359, 3) := dk_182 1 103 (dk_at dksX4_best_4 9 rfl rfl)
theorem dX4_best_108 : decode cX4_best 108 = .ok (.pop, 1) := dk_87 (dk_at dksX4_best_4 12 rfl rfl)
theorem dX4_best_109 : decode cX4_best 109 = .ok (.aload_n 0, 1) := dk_42 (dk_at dksX4_best_4 13 rfl rfl)
theorem dX4_best_110 : decode cX4_best 110 = .ok (.iload_n 2, 1) := dk_28 (dk_at dksX4_best_4 14 rfl rfl)
theorem dX4_best_111 : decode cX4_best 111 = .ok (.invokevirtual 424, 3) := dk_182 1 168 (dk_at dksX4_best_4 15 rfl rfl)
theorem dX4_best_114 : decode cX4_best 114 = .ok (.istore 7, 2) := dk_54 7 (dk_at dksX4_best_4 18 rfl rfl)
theorem dX4_best_116 : decode cX4_best 116 = .ok (.iload 7, 2) := dk_21 7 (dk_at dksX4_best_4 20 rfl rfl)
theorem dX4_best_118 : decode cX4_best 118 = .ok (.iload 5, 2) := dk_21 5 (dk_at dksX4_best_4 22 rfl rfl)
theorem dX4_best_120 : decode cX4_best 120 = .ok (.if_icmp .lt 6, 3) := dk_161 0 6 (dk_at dksX4_best_5 0 rfl rfl)
theorem dX4_best_123 : decode cX4_best 123 = .ok (.goto 11, 3) := dk_167 0 11 (dk_at dksX4_best_5 3 rfl rfl)
theorem dX4_best_126 : decode cX4_best 126 = .ok (.iload 6, 2) := dk_21 6 (dk_at dksX4_best_5 6 rfl rfl)
theorem dX4_best_128 : decode cX4_best 128 = .ok (.istore 4, 2) := dk_54 4 (dk_at dksX4_best_5 8 rfl rfl)
theorem dX4_best_130 : decode cX4_best 130 = .ok (.iload 7, 2) := dk_21 7 (dk_at dksX4_best_5 10 rfl rfl)
theorem dX4_best_132 : decode cX4_best 132 = .ok (.istore 5, 2) := dk_54 5 (dk_at dksX4_best_5 12 rfl rfl)
theorem dX4_best_134 : decode cX4_best 134 = .ok (.iinc 6 1, 3) := dk_132 6 1 (dk_at dksX4_best_5 14 rfl rfl)
theorem dX4_best_137 : decode cX4_best 137 = .ok (.goto (-73), 3) := dk_167 255 183 (dk_at dksX4_best_5 17 rfl rfl)
theorem dX4_best_140 : decode cX4_best 140 = .ok (.iload_n 3, 1) := dk_29 (dk_at dksX4_best_5 20 rfl rfl)
theorem dX4_best_141 : decode cX4_best 141 = .ok (.ifCond .ne 8, 3) := dk_154 0 8 (dk_at dksX4_best_5 21 rfl rfl)
theorem dX4_best_144 : decode cX4_best 144 = .ok (.iload 4, 2) := dk_21 4 (dk_at dksX4_best_6 0 rfl rfl)
theorem dX4_best_146 : decode cX4_best 146 = .ok (.goto 5, 3) := dk_167 0 5 (dk_at dksX4_best_6 2 rfl rfl)
theorem dX4_best_149 : decode cX4_best 149 = .ok (.iload 5, 2) := dk_21 5 (dk_at dksX4_best_6 5 rfl rfl)
theorem dX4_best_151 : decode cX4_best 151 = .ok (.ireturn, 1) := dk_172 (dk_at dksX4_best_6 7 rfl rfl)
abbrev cX4_closedIn : ByteArray := prog_19_method_99_code
def yX4_closedIn : MethodName := ⟨RX4, "closedIn", "(I)I"⟩
def dkwX4_closedIn_1 : List UInt8 := [184, 1, 87, 61, 42, 182, 1, 132, 28, 172]
abbrev dktX4_closedIn_1 : List UInt8 := dkwX4_closedIn_1 ++ []
def dkwX4_closedIn_0 : List UInt8 := [3, 61, 28, 27, 162, 0, 14, 42, 182, 1, 116, 87, 132, 2, 1, 167, 255, 243, 42, 182, 1, 84]
abbrev dktX4_closedIn_0 : List UInt8 := dkwX4_closedIn_0 ++ dktX4_closedIn_1
theorem dksX4_closedIn_0 : cX4_closedIn.data.toList.drop 0 = dktX4_closedIn_0 := by decide +kernel
theorem dksX4_closedIn_1 : cX4_closedIn.data.toList.drop 22 = dktX4_closedIn_1 := dk_seg dksX4_closedIn_0 22 rfl rfl
theorem dX4_closedIn_0 : decode cX4_closedIn 0 = .ok (.iconst 0, 1) := dk_3 (dk_at dksX4_closedIn_0 0 rfl rfl)
theorem dX4_closedIn_1 : decode cX4_closedIn 1 = .ok (.istore_n 2, 1) := dk_61 (dk_at dksX4_closedIn_0 1 rfl rfl)
theorem dX4_closedIn_2 : decode cX4_closedIn 2 = .ok (.iload_n 2, 1) := dk_28 (dk_at dksX4_closedIn_0 2 rfl rfl)
theorem dX4_closedIn_3 : decode cX4_closedIn 3 = .ok (.iload_n 1, 1) := dk_27 (dk_at dksX4_closedIn_0 3 rfl rfl)
theorem dX4_closedIn_4 : decode cX4_closedIn 4 = .ok (.if_icmp .ge 14, 3) := dk_162 0 14 (dk_at dksX4_closedIn_0 4 rfl rfl)
theorem dX4_closedIn_7 : decode cX4_closedIn 7 = .ok (.aload_n 0, 1) := dk_42 (dk_at dksX4_closedIn_0 7 rfl rfl)
theorem dX4_closedIn_8 : decode cX4_closedIn 8 = .ok (.invokevirtual 372, 3) := dk_182 1 116 (dk_at dksX4_closedIn_0 8 rfl rfl)
theorem dX4_closedIn_11 : decode cX4_closedIn 11 = .ok (.pop, 1) := dk_87 (dk_at dksX4_closedIn_0 11 rfl rfl)
theorem dX4_closedIn_12 : decode cX4_closedIn 12 = .ok (.iinc 2 1, 3) := dk_132 2 1 (dk_at dksX4_closedIn_0 12 rfl rfl)
theorem dX4_closedIn_15 : decode cX4_closedIn 15 = .ok (.goto (-13), 3) := dk_167 255 243 (dk_at dksX4_closedIn_0 15 rfl rfl)
theorem dX4_closedIn_18 : decode cX4_closedIn 18 = .ok (.aload_n 0, 1) := dk_42 (dk_at dksX4_closedIn_0 18 rfl rfl)
theorem dX4_closedIn_19 : decode cX4_closedIn 19 = .ok (.invokevirtual 340, 3) := dk_182 1 84 (dk_at dksX4_closedIn_0 19 rfl rfl)
theorem dX4_closedIn_22 : decode cX4_closedIn 22 = .ok (.invokestatic 343, 3) := dk_184 1 87 (dk_at dksX4_closedIn_1 0 rfl rfl)
theorem dX4_closedIn_25 : decode cX4_closedIn 25 = .ok (.istore_n 2, 1) := dk_61 (dk_at dksX4_closedIn_1 3 rfl rfl)
theorem dX4_closedIn_26 : decode cX4_closedIn 26 = .ok (.aload_n 0, 1) := dk_42 (dk_at dksX4_closedIn_1 4 rfl rfl)
theorem dX4_closedIn_27 : decode cX4_closedIn 27 = .ok (.invokevirtual 388, 3) := dk_182 1 132 (dk_at dksX4_closedIn_1 5 rfl rfl)
theorem dX4_closedIn_30 : decode cX4_closedIn 30 = .ok (.iload_n 2, 1) := dk_28 (dk_at dksX4_closedIn_1 8 rfl rfl)
theorem dX4_closedIn_31 : decode cX4_closedIn 31 = .ok (.ireturn, 1) := dk_172 (dk_at dksX4_closedIn_1 9 rfl rfl)
abbrev cX4_might : ByteArray := prog_19_method_102_code
def yX4_might : MethodName := ⟨RX4, "might", "(II)I"⟩
def dkwX4_might_4 : List UInt8 := [27, 104, 96, 4, 96, 29, 79, 21, 4, 172]
abbrev dktX4_might_4 : List UInt8 := dkwX4_might_4 ++ []
def dkwX4_might_3 : List UInt8 := [28, 182, 1, 171, 153, 0, 7, 21, 5, 54, 4, 132, 5, 1, 167, 255, 209, 42, 180, 0, 39, 16, 38, 5]
abbrev dktX4_might_3 : List UInt8 := dkwX4_might_3 ++ dktX4_might_4
def dkwX4_might_2 : List UInt8 := [156, 0, 41, 42, 180, 0, 39, 16, 38, 5, 27, 104, 96, 4, 96, 21, 5, 79, 42, 42, 27, 182, 1, 71]
abbrev dktX4_might_2 : List UInt8 := dkwX4_might_2 ++ dktX4_might_3
def dkwX4_might_1 : List UInt8 := [182, 1, 74, 62, 16, 254, 54, 4, 42, 182, 1, 129, 4, 54, 5, 21, 5, 16, 99, 163, 0, 46, 21, 4]
abbrev dktX4_might_1 : List UInt8 := dkwX4_might_1 ++ dktX4_might_2
def dkwX4_might_0 : List UInt8 := [42, 27, 182, 1, 66, 153, 0, 15, 28, 133, 10, 20, 1, 157, 184, 0, 124, 154, 0, 5, 2, 172, 42, 27]
abbrev dktX4_might_0 : List UInt8 := dkwX4_might_0 ++ dktX4_might_1
theorem dksX4_might_0 : cX4_might.data.toList.drop 0 = dktX4_might_0 := by decide +kernel
theorem dksX4_might_1 : cX4_might.data.toList.drop 24 = dktX4_might_1 := dk_seg dksX4_might_0 24 rfl rfl
theorem dksX4_might_2 : cX4_might.data.toList.drop 48 = dktX4_might_2 := dk_seg dksX4_might_1 24 rfl rfl
theorem dksX4_might_3 : cX4_might.data.toList.drop 72 = dktX4_might_3 := dk_seg dksX4_might_2 24 rfl rfl
theorem dksX4_might_4 : cX4_might.data.toList.drop 96 = dktX4_might_4 := dk_seg dksX4_might_3 24 rfl rfl
theorem dX4_might_0 : decode cX4_might 0 = .ok (.aload_n 0, 1) := dk_42 (dk_at dksX4_might_0 0 rfl rfl)
theorem dX4_might_1 : decode cX4_might 1 = .ok (.iload_n 1, 1) := dk_27 (dk_at dksX4_might_0 1 rfl rfl)
theorem dX4_might_2 : decode cX4_might 2 = .ok (.invokevirtual 322, 3) := dk_182 1 66 (dk_at dksX4_might_0 2 rfl rfl)
theorem dX4_might_5 : decode cX4_might 5 = .ok (.ifCond .eq 15, 3) := dk_153 0 15 (dk_at dksX4_might_0 5 rfl rfl)
theorem dX4_might_8 : decode cX4_might 8 = .ok (.iload_n 2, 1) := dk_28 (dk_at dksX4_might_0 8 rfl rfl)
theorem dX4_might_9 : decode cX4_might 9 = .ok (.i2l, 1) := dk_133 (dk_at dksX4_might_0 9 rfl rfl)
theorem dX4_might_10 : decode cX4_might 10 = .ok (.lconst 1, 1) := dk_10 (dk_at dksX4_might_0 10 rfl rfl)
theorem dX4_might_11 : decode cX4_might 11 = .ok (.ldc2_w 413, 3) := dk_20 1 157 (dk_at dksX4_might_0 11 rfl rfl)
theorem dX4_might_14 : decode cX4_might 14 = .ok (.invokestatic 124, 3) := dk_184 0 124 (dk_at dksX4_might_0 14 rfl rfl)
theorem dX4_might_17 : decode cX4_might 17 = .ok (.ifCond .ne 5, 3) := dk_154 0 5 (dk_at dksX4_might_0 17 rfl rfl)
theorem dX4_might_20 : decode cX4_might 20 = .ok (.iconst (-1), 1) := dk_2 (dk_at dksX4_might_0 20 rfl rfl)
theorem dX4_might_21 : decode cX4_might 21 = .ok (.ireturn, 1) := dk_172 (dk_at dksX4_might_0 21 rfl rfl)
theorem dX4_might_22 : decode cX4_might 22 = .ok (.aload_n 0, 1) := dk_42 (dk_at dksX4_might_0 22 rfl rfl)
theorem dX4_might_23 : decode cX4_might 23 = .ok (.iload_n 1, 1) := dk_27 (dk_at dksX4_might_0 23 rfl rfl)
theorem dX4_might_24 : decode cX4_might 24 = .ok (.invokevirtual 330, 3) := dk_182 1 74 (dk_at dksX4_might_1 0 rfl rfl)
theorem dX4_might_27 : decode cX4_might 27 = .ok (.istore_n 3, 1) := dk_62 (dk_at dksX4_might_1 3 rfl rfl)
theorem dX4_might_28 : decode cX4_might 28 = .ok (.bipush (-2), 2) := dk_16 254 (dk_at dksX4_might_1 4 rfl rfl)
theorem dX4_might_30 : decode cX4_might 30 = .ok (.istore 4, 2) := dk_54 4 (dk_at dksX4_might_1 6 rfl rfl)
theorem dX4_might_32 : decode cX4_might 32 = .ok (.aload_n 0, 1) := dk_42 (dk_at dksX4_might_1 8 rfl rfl)
theorem dX4_might_33 : decode cX4_might 33 = .ok (.invokevirtual 385, 3) := dk_182 1 129 (dk_at dksX4_might_1 9 rfl rfl)
theorem dX4_might_36 : decode cX4_might 36 = .ok (.iconst 1, 1) := dk_4 (dk_at dksX4_might_1 12 rfl rfl)
theorem dX4_might_37 : decode cX4_might 37 = .ok (.istore 5, 2) := dk_54 5 (dk_at dksX4_might_1 13 rfl rfl)
theorem dX4_might_39 : decode cX4_might 39 = .ok (.iload 5, 2) := dk_21 5 (dk_at dksX4_might_1 15 rfl rfl)
theorem dX4_might_41 : decode cX4_might 41 = .ok (.bipush 99, 2) := dk_16 99 (dk_at dksX4_might_1 17 rfl rfl)
theorem dX4_might_43 : decode cX4_might 43 = .ok (.if_icmp .gt 46, 3) := dk_163 0 46 (dk_at dksX4_might_1 19 rfl rfl)
theorem dX4_might_46 : decode cX4_might 46 = .ok (.iload 4, 2) := dk_21 4 (dk_at dksX4_might_1 22 rfl rfl)
theorem dX4_might_48 : decode cX4_might 48 = .ok (.ifCond .ge 41, 3) := dk_156 0 41 (dk_at dksX4_might_2 0 rfl rfl)
theorem dX4_might_51 : decode cX4_might 51 = .ok (.aload_n 0, 1) := dk_42 (dk_at dksX4_might_2 3 rfl rfl)
theorem dX4_might_52 : decode cX4_might 52 = .ok (.getfield 39, 3) := dk_180 0 39 (dk_at dksX4_might_2 4 rfl rfl)
theorem dX4_might_55 : decode cX4_might 55 = .ok (.bipush 38, 2) := dk_16 38 (dk_at dksX4_might_2 7 rfl rfl)
theorem dX4_might_57 : decode cX4_might 57 = .ok (.iconst 2, 1) := dk_5 (dk_at dksX4_might_2 9 rfl rfl)
theorem dX4_might_58 : decode cX4_might 58 = .ok (.iload_n 1, 1) := dk_27 (dk_at dksX4_might_2 10 rfl rfl)
theorem dX4_might_59 : decode cX4_might 59 = .ok (.imul, 1) := dk_104 (dk_at dksX4_might_2 11 rfl rfl)
theorem dX4_might_60 : decode cX4_might 60 = .ok (.iadd, 1) := dk_96 (dk_at dksX4_might_2 12 rfl rfl)
theorem dX4_might_61 : decode cX4_might 61 = .ok (.iconst 1, 1) := dk_4 (dk_at dksX4_might_2 13 rfl rfl)
theorem dX4_might_62 : decode cX4_might 62 = .ok (.iadd, 1) := dk_96 (dk_at dksX4_might_2 14 rfl rfl)
theorem dX4_might_63 : decode cX4_might 63 = .ok (.iload 5, 2) := dk_21 5 (dk_at dksX4_might_2 15 rfl rfl)
theorem dX4_might_65 : decode cX4_might 65 = .ok (.iastore, 1) := dk_79 (dk_at dksX4_might_2 17 rfl rfl)
theorem dX4_might_66 : decode cX4_might 66 = .ok (.aload_n 0, 1) := dk_42 (dk_at dksX4_might_2 18 rfl rfl)
theorem dX4_might_67 : decode cX4_might 67 = .ok (.aload_n 0, 1) := dk_42 (dk_at dksX4_might_2 19 rfl rfl)
theorem dX4_might_68 : decode cX4_might 68 = .ok (.iload_n 1, 1) := dk_27 (dk_at dksX4_might_2 20 rfl rfl)
theorem dX4_might_69 : decode cX4_might 69 = .ok (.invokevirtual 327, 3) := dk_182 1 71 (dk_at dksX4_might_2 21 rfl rfl)
theorem dX4_might_72 : decode cX4_might 72 = .ok (.iload_n 2, 1) := dk_28 (dk_at dksX4_might_3 0 rfl rfl)
theorem dX4_might_73 : decode cX4_might 73 = .ok (.invokevirtual 427, 3) := dk_182 1 171 (dk_at dksX4_might_3 1 rfl rfl)
theorem dX4_might_76 : decode cX4_might 76 = .ok (.ifCond .eq 7, 3) := dk_153 0 7 (dk_at dksX4_might_3 4 rfl rfl)
theorem dX4_might_79 : decode cX4_might 79 = .ok (.iload 5, 2) := dk_21 5 (dk_at dksX4_might_3 7 rfl rfl)
theorem dX4_might_81 : decode cX4_might 81 = .ok (.istore 4, 2) := dk_54 4 (dk_at dksX4_might_3 9 rfl rfl)
theorem dX4_might_83 : decode cX4_might 83 = .ok (.iinc 5 1, 3) := dk_132 5 1 (dk_at dksX4_might_3 11 rfl rfl)
theorem dX4_might_86 : decode cX4_might 86 = .ok (.goto (-47), 3) := dk_167 255 209 (dk_at dksX4_might_3 14 rfl rfl)
theorem dX4_might_89 : decode cX4_might 89 = .ok (.aload_n 0, 1) := dk_42 (dk_at dksX4_might_3 17 rfl rfl)
theorem dX4_might_90 : decode cX4_might 90 = .ok (.getfield 39, 3) := dk_180 0 39 (dk_at dksX4_might_3 18 rfl rfl)
theorem dX4_might_93 : decode cX4_might 93 = .ok (.bipush 38, 2) := dk_16 38 (dk_at dksX4_might_3 21 rfl rfl)
theorem dX4_might_95 : decode cX4_might 95 = .ok (.iconst 2, 1) := dk_5 (dk_at dksX4_might_3 23 rfl rfl)
theorem dX4_might_96 : decode cX4_might 96 = .ok (.iload_n 1, 1) := dk_27 (dk_at dksX4_might_4 0 rfl rfl)
theorem dX4_might_97 : decode cX4_might 97 = .ok (.imul, 1) := dk_104 (dk_at dksX4_might_4 1 rfl rfl)
theorem dX4_might_98 : decode cX4_might 98 = .ok (.iadd, 1) := dk_96 (dk_at dksX4_might_4 2 rfl rfl)
theorem dX4_might_99 : decode cX4_might 99 = .ok (.iconst 1, 1) := dk_4 (dk_at dksX4_might_4 3 rfl rfl)
theorem dX4_might_100 : decode cX4_might 100 = .ok (.iadd, 1) := dk_96 (dk_at dksX4_might_4 4 rfl rfl)
theorem dX4_might_101 : decode cX4_might 101 = .ok (.iload_n 3, 1) := dk_29 (dk_at dksX4_might_4 5 rfl rfl)
theorem dX4_might_102 : decode cX4_might 102 = .ok (.iastore, 1) := dk_79 (dk_at dksX4_might_4 6 rfl rfl)
theorem dX4_might_103 : decode cX4_might 103 = .ok (.iload 4, 2) := dk_21 4 (dk_at dksX4_might_4 7 rfl rfl)
theorem dX4_might_105 : decode cX4_might 105 = .ok (.ireturn, 1) := dk_172 (dk_at dksX4_might_4 9 rfl rfl)
abbrev cX4_staysOpen : ByteArray := prog_19_method_101_code
def yX4_staysOpen : MethodName := ⟨RX4, "staysOpen", "(II)Z"⟩
def dkwX4_staysOpen_1 : List UInt8 := [182, 1, 51, 154, 0, 7, 4, 167, 0, 4, 3, 62, 132, 4, 1, 167, 255, 224, 42, 182, 1, 132, 29, 172]
abbrev dktX4_staysOpen_1 : List UInt8 := dkwX4_staysOpen_1 ++ []
def dkwX4_staysOpen_0 : List UInt8 := [4, 62, 3, 54, 4, 21, 4, 28, 162, 0, 32, 29, 153, 0, 28, 42, 182, 1, 116, 87, 42, 27]
abbrev dktX4_staysOpen_0 : List UInt8 := dkwX4_staysOpen_0 ++ dktX4_staysOpen_1
theorem dksX4_staysOpen_0 : cX4_staysOpen.data.toList.drop 0 = dktX4_staysOpen_0 := by decide +kernel
theorem dksX4_staysOpen_1 : cX4_staysOpen.data.toList.drop 22 = dktX4_staysOpen_1 := dk_seg dksX4_staysOpen_0 22 rfl rfl
theorem dX4_staysOpen_0 : decode cX4_staysOpen 0 = .ok (.iconst 1, 1) := dk_4 (dk_at dksX4_staysOpen_0 0 rfl rfl)
theorem dX4_staysOpen_1 : decode cX4_staysOpen 1 = .ok (.istore_n 3, 1) := dk_62 (dk_at dksX4_staysOpen_0 1 rfl rfl)
theorem dX4_staysOpen_2 : decode cX4_staysOpen 2 = .ok (.iconst 0, 1) := dk_3 (dk_at dksX4_staysOpen_0 2 rfl rfl)
theorem dX4_staysOpen_3 : decode cX4_staysOpen 3 = .ok (.istore 4, 2) := dk_54 4 (dk_at dksX4_staysOpen_0 3 rfl rfl)
theorem dX4_staysOpen_5 : decode cX4_staysOpen 5 = .ok (.iload 4, 2) := dk_21 4 (dk_at dksX4_staysOpen_0 5 rfl rfl)
theorem dX4_staysOpen_7 : decode cX4_staysOpen 7 = .ok (.iload_n 2, 1) := dk_28 (dk_at dksX4_staysOpen_0 7 rfl rfl)
theorem dX4_staysOpen_8 : decode cX4_staysOpen 8 = .ok (.if_icmp .ge 32, 3) := dk_162 0 32 (dk_at dksX4_staysOpen_0 8 rfl rfl)
theorem dX4_staysOpen_11 : decode cX4_staysOpen 11 = .ok (.iload_n 3, 1) := dk_29 (dk_at dksX4_staysOpen_0 11 rfl rfl)
theorem dX4_staysOpen_12 : decode cX4_staysOpen 12 = .ok (.ifCond .eq 28, 3) := dk_153 0 28 (dk_at dksX4_staysOpen_0 12 rfl rfl)
theorem dX4_staysOpen_15 : decode cX4_staysOpen 15 = .ok (.aload_n 0, 1) := dk_42 (dk_at dksX4_staysOpen_0 15 rfl rfl)
theorem dX4_staysOpen_16 : decode cX4_staysOpen 16 = .ok (.invokevirtual 372, 3) := dk_182 1 116 (dk_at dksX4_staysOpen_0 16 rfl rfl)
theorem dX4_staysOpen_19 : decode cX4_staysOpen 19 = .ok (.pop, 1) := dk_87 (dk_at dksX4_staysOpen_0 19 rfl rfl)
theorem dX4_staysOpen_20 : decode cX4_staysOpen 20 = .ok (.aload_n 0, 1) := dk_42 (dk_at dksX4_staysOpen_0 20 rfl rfl)
theorem dX4_staysOpen_21 : decode cX4_staysOpen 21 = .ok (.iload_n 1, 1) := dk_27 (dk_at dksX4_staysOpen_0 21 rfl rfl)
theorem dX4_staysOpen_22 : decode cX4_staysOpen 22 = .ok (.invokevirtual 307, 3) := dk_182 1 51 (dk_at dksX4_staysOpen_1 0 rfl rfl)
theorem dX4_staysOpen_25 : decode cX4_staysOpen 25 = .ok (.ifCond .ne 7, 3) := dk_154 0 7 (dk_at dksX4_staysOpen_1 3 rfl rfl)
theorem dX4_staysOpen_28 : decode cX4_staysOpen 28 = .ok (.iconst 1, 1) := dk_4 (dk_at dksX4_staysOpen_1 6 rfl rfl)
theorem dX4_staysOpen_29 : decode cX4_staysOpen 29 = .ok (.goto 4, 3) := dk_167 0 4 (dk_at dksX4_staysOpen_1 7 rfl rfl)
theorem dX4_staysOpen_32 : decode cX4_staysOpen 32 = .ok (.iconst 0, 1) := dk_3 (dk_at dksX4_staysOpen_1 10 rfl rfl)
theorem dX4_staysOpen_33 : decode cX4_staysOpen 33 = .ok (.istore_n 3, 1) := dk_62 (dk_at dksX4_staysOpen_1 11 rfl rfl)
theorem dX4_staysOpen_34 : decode cX4_staysOpen 34 = .ok (.iinc 4 1, 3) := dk_132 4 1 (dk_at dksX4_staysOpen_1 12 rfl rfl)
theorem dX4_staysOpen_37 : decode cX4_staysOpen 37 = .ok (.goto (-32), 3) := dk_167 255 224 (dk_at dksX4_staysOpen_1 15 rfl rfl)
theorem dX4_staysOpen_40 : decode cX4_staysOpen 40 = .ok (.aload_n 0, 1) := dk_42 (dk_at dksX4_staysOpen_1 18 rfl rfl)
theorem dX4_staysOpen_41 : decode cX4_staysOpen 41 = .ok (.invokevirtual 388, 3) := dk_182 1 132 (dk_at dksX4_staysOpen_1 19 rfl rfl)
theorem dX4_staysOpen_44 : decode cX4_staysOpen 44 = .ok (.iload_n 3, 1) := dk_29 (dk_at dksX4_staysOpen_1 22 rfl rfl)
theorem dX4_staysOpen_45 : decode cX4_staysOpen 45 = .ok (.ireturn, 1) := dk_172 (dk_at dksX4_staysOpen_1 23 rfl rfl)
abbrev cX4_note : ByteArray := prog_19_method_103_code
def yX4_note : MethodName := ⟨RX4, "note", "(III)I"⟩
def dkwX4_note_5 : List UInt8 := [16, 123, 46, 172]
abbrev dktX4_note_5 : List UInt8 := dkwX4_note_5 ++ []
def dkwX4_note_4 : List UInt8 := [180, 0, 39, 21, 4, 5, 96, 29, 79, 42, 180, 0, 39, 16, 123, 92, 46, 4, 96, 79, 42, 180, 0, 39]
abbrev dktX4_note_4 : List UInt8 := dkwX4_note_4 ++ dktX4_note_5
def dkwX4_note_3 : List UInt8 := [104, 96, 54, 4, 42, 180, 0, 39, 21, 4, 27, 79, 42, 180, 0, 39, 21, 4, 4, 96, 28, 79, 42]
abbrev dktX4_note_3 : List UInt8 := dkwX4_note_3 ++ dktX4_note_4
def dkwX4_note_2 : List UInt8 := [180, 0, 39, 16, 123, 46, 16, 10, 160, 0, 6, 16, 254, 172, 16, 93, 6, 42, 180, 0, 39, 16, 123, 46]
abbrev dktX4_note_2 : List UInt8 := dkwX4_note_2 ++ dktX4_note_3
def dkwX4_note_1 : List UInt8 := [153, 0, 35, 42, 28, 182, 1, 57, 153, 0, 27, 29, 133, 9, 20, 1, 174, 184, 0, 124, 153, 0, 15, 42]
abbrev dktX4_note_1 : List UInt8 := dkwX4_note_1 ++ dktX4_note_2
def dkwX4_note_0 : List UInt8 := [27, 2, 160, 0, 13, 42, 180, 0, 39, 16, 123, 3, 79, 3, 172, 27, 133, 9, 20, 1, 135, 184, 0, 124]
abbrev dktX4_note_0 : List UInt8 := dkwX4_note_0 ++ dktX4_note_1
theorem dksX4_note_0 : cX4_note.data.toList.drop 0 = dktX4_note_0 := by decide +kernel
theorem dksX4_note_1 : cX4_note.data.toList.drop 24 = dktX4_note_1 := dk_seg dksX4_note_0 24 rfl rfl
theorem dksX4_note_2 : cX4_note.data.toList.drop 48 = dktX4_note_2 := dk_seg dksX4_note_1 24 rfl rfl
theorem dksX4_note_3 : cX4_note.data.toList.drop 72 = dktX4_note_3 := dk_seg dksX4_note_2 24 rfl rfl
theorem dksX4_note_4 : cX4_note.data.toList.drop 95 = dktX4_note_4 := dk_seg dksX4_note_3 23 rfl rfl
theorem dksX4_note_5 : cX4_note.data.toList.drop 119 = dktX4_note_5 := dk_seg dksX4_note_4 24 rfl rfl
theorem dX4_note_0 : decode cX4_note 0 = .ok (.iload_n 1, 1) := dk_27 (dk_at dksX4_note_0 0 rfl rfl)
theorem dX4_note_1 : decode cX4_note 1 = .ok (.iconst (-1), 1) := dk_2 (dk_at dksX4_note_0 1 rfl rfl)
theorem dX4_note_2 : decode cX4_note 2 = .ok (.if_icmp .ne 13, 3) := dk_160 0 13 (dk_at dksX4_note_0 2 rfl rfl)
theorem dX4_note_5 : decode cX4_note 5 = .ok (.aload_n 0, 1) := dk_42 (dk_at dksX4_note_0 5 rfl rfl)
theorem dX4_note_6 : decode cX4_note 6 = .ok (.getfield 39, 3) := dk_180 0 39 (dk_at dksX4_note_0 6 rfl rfl)
theorem dX4_note_9 : decode cX4_note 9 = .ok (.bipush 123, 2) := dk_16 123 (dk_at dksX4_note_0 9 rfl rfl)
theorem dX4_note_11 : decode cX4_note 11 = .ok (.iconst 0, 1) := dk_3 (dk_at dksX4_note_0 11 rfl rfl)
theorem dX4_note_12 : decode cX4_note 12 = .ok (.iastore, 1) := dk_79 (dk_at dksX4_note_0 12 rfl rfl)
theorem dX4_note_13 : decode cX4_note 13 = .ok (.iconst 0, 1) := dk_3 (dk_at dksX4_note_0 13 rfl rfl)
theorem dX4_note_14 : decode cX4_note 14 = .ok (.ireturn, 1) := dk_172 (dk_at dksX4_note_0 14 rfl rfl)
theorem dX4_note_15 : decode cX4_note 15 = .ok (.iload_n 1, 1) := dk_27 (dk_at dksX4_note_0 15 rfl rfl)
theorem dX4_note_16 : decode cX4_note 16 = .ok (.i2l, 1) := dk_133 (dk_at dksX4_note_0 16 rfl rfl)
theorem dX4_note_17 : decode cX4_note 17 = .ok (.lconst 0, 1) := dk_9 (dk_at dksX4_note_0 17 rfl rfl)
theorem dX4_note_18 : decode cX4_note 18 = .ok (.ldc2_w 391, 3) := dk_20 1 135 (dk_at dksX4_note_0 18 rfl rfl)
theorem dX4_note_21 : decode cX4_note 21 = .ok (.invokestatic 124, 3) := dk_184 0 124 (dk_at dksX4_note_0 21 rfl rfl)
theorem dX4_note_24 : decode cX4_note 24 = .ok (.ifCond .eq 35, 3) := dk_153 0 35 (dk_at dksX4_note_1 0 rfl rfl)
theorem dX4_note_27 : decode cX4_note 27 = .ok (.aload_n 0, 1) := dk_42 (dk_at dksX4_note_1 3 rfl rfl)
theorem dX4_note_28 : decode cX4_note 28 = .ok (.iload_n 2, 1) := dk_28 (dk_at dksX4_note_1 4 rfl rfl)
theorem dX4_note_29 : decode cX4_note 29 = .ok (.invokevirtual 313, 3) := dk_182 1 57 (dk_at dksX4_note_1 5 rfl rfl)
theorem dX4_note_32 : decode cX4_note 32 = .ok (.ifCond .eq 27, 3) := dk_153 0 27 (dk_at dksX4_note_1 8 rfl rfl)
theorem dX4_note_35 : decode cX4_note 35 = .ok (.iload_n 3, 1) := dk_29 (dk_at dksX4_note_1 11 rfl rfl)
theorem dX4_note_36 : decode cX4_note 36 = .ok (.i2l, 1) := dk_133 (dk_at dksX4_note_1 12 rfl rfl)
theorem dX4_note_37 : decode cX4_note 37 = .ok (.lconst 0, 1) := dk_9 (dk_at dksX4_note_1 13 rfl rfl)
theorem dX4_note_38 : decode cX4_note 38 = .ok (.ldc2_w 430, 3) := dk_20 1 174 (dk_at dksX4_note_1 14 rfl rfl)
theorem dX4_note_41 : decode cX4_note 41 = .ok (.invokestatic 124, 3) := dk_184 0 124 (dk_at dksX4_note_1 17 rfl rfl)
theorem dX4_note_44 : decode cX4_note 44 = .ok (.ifCond .eq 15, 3) := dk_153 0 15 (dk_at dksX4_note_1 20 rfl rfl)
theorem dX4_note_47 : decode cX4_note 47 = .ok (.aload_n 0, 1) := dk_42 (dk_at dksX4_note_1 23 rfl rfl)
theorem dX4_note_48 : decode cX4_note 48 = .ok (.getfield 39, 3) := dk_180 0 39 (dk_at dksX4_note_2 0 rfl rfl)
theorem dX4_note_51 : decode cX4_note 51 = .ok (.bipush 123, 2) := dk_16 123 (dk_at dksX4_note_2 3 rfl rfl)
theorem dX4_note_53 : decode cX4_note 53 = .ok (.iaload, 1) := dk_46 (dk_at dksX4_note_2 5 rfl rfl)
theorem dX4_note_54 : decode cX4_note 54 = .ok (.bipush 10, 2) := dk_16 10 (dk_at dksX4_note_2 6 rfl rfl)
theorem dX4_note_56 : decode cX4_note 56 = .ok (.if_icmp .ne 6, 3) := dk_160 0 6 (dk_at dksX4_note_2 8 rfl rfl)
theorem dX4_note_59 : decode cX4_note 59 = .ok (.bipush (-2), 2) := dk_16 254 (dk_at dksX4_note_2 11 rfl rfl)
theorem dX4_note_61 : decode cX4_note 61 = .ok (.ireturn, 1) := dk_172 (dk_at dksX4_note_2 13 rfl rfl)
theorem dX4_note_62 : decode cX4_note 62 = .ok (.bipush 93, 2) := dk_16 93 (dk_at dksX4_note_2 14 rfl rfl)
theorem dX4_note_64 : decode cX4_note 64 = .ok (.iconst 3, 1) := dk_6 (dk_at dksX4_note_2 16 rfl rfl)
theorem dX4_note_65 : decode cX4_note 65 = .ok (.aload_n 0, 1) := dk_42 (dk_at dksX4_note_2 17 rfl rfl)
theorem dX4_note_66 : decode cX4_note 66 = .ok (.getfield 39, 3) := dk_180 0 39 (dk_at dksX4_note_2 18 rfl rfl)
theorem dX4_note_69 : decode cX4_note 69 = .ok (.bipush 123, 2) := dk_16 123 (dk_at dksX4_note_2 21 rfl rfl)
theorem dX4_note_71 : decode cX4_note 71 = .ok (.iaload, 1) := dk_46 (dk_at dksX4_note_2 23 rfl rfl)
theorem dX4_note_72 : decode cX4_note 72 = .ok (.imul, 1) := dk_104 (dk_at dksX4_note_3 0 rfl rfl)
theorem dX4_note_73 : decode cX4_note 73 = .ok (.iadd, 1) := dk_96 (dk_at dksX4_note_3 1 rfl rfl)
theorem dX4_note_74 : decode cX4_note 74 = .ok (.istore 4, 2) := dk_54 4 (dk_at dksX4_note_3 2 rfl rfl)
theorem dX4_note_76 : decode cX4_note 76 = .ok (.aload_n 0, 1) := dk_42 (dk_at dksX4_note_3 4 rfl rfl)
theorem dX4_note_77 : decode cX4_note 77 = .ok (.getfield 39, 3) := dk_180 0 39 (dk_at dksX4_note_3 5 rfl rfl)
theorem dX4_note_80 : decode cX4_note 80 = .ok (.iload 4, 2) := dk_21 4 (dk_at dksX4_note_3 8 rfl rfl)
theorem dX4_note_82 : decode cX4_note 82 = .ok (.iload_n 1, 1) := dk_27 (dk_at dksX4_note_3 10 rfl rfl)
theorem dX4_note_83 : decode cX4_note 83 = .ok (.iastore, 1) := dk_79 (dk_at dksX4_note_3 11 rfl rfl)
theorem dX4_note_84 : decode cX4_note 84 = .ok (.aload_n 0, 1) := dk_42 (dk_at dksX4_note_3 12 rfl rfl)
theorem dX4_note_85 : decode cX4_note 85 = .ok (.getfield 39, 3) := dk_180 0 39 (dk_at dksX4_note_3 13 rfl rfl)
theorem dX4_note_88 : decode cX4_note 88 = .ok (.iload 4, 2) := dk_21 4 (dk_at dksX4_note_3 16 rfl rfl)
theorem dX4_note_90 : decode cX4_note 90 = .ok (.iconst 1, 1) := dk_4 (dk_at dksX4_note_3 18 rfl rfl)
theorem dX4_note_91 : decode cX4_note 91 = .ok (.iadd, 1) := dk_96 (dk_at dksX4_note_3 19 rfl rfl)
theorem dX4_note_92 : decode cX4_note 92 = .ok (.iload_n 2, 1) := dk_28 (dk_at dksX4_note_3 20 rfl rfl)
theorem dX4_note_93 : decode cX4_note 93 = .ok (.iastore, 1) := dk_79 (dk_at dksX4_note_3 21 rfl rfl)
theorem dX4_note_94 : decode cX4_note 94 = .ok (.aload_n 0, 1) := dk_42 (dk_at dksX4_note_3 22 rfl rfl)
theorem dX4_note_95 : decode cX4_note 95 = .ok (.getfield 39, 3) := dk_180 0 39 (dk_at dksX4_note_4 0 rfl rfl)
theorem dX4_note_98 : decode cX4_note 98 = .ok (.iload 4, 2) := dk_21 4 (dk_at dksX4_note_4 3 rfl rfl)
theorem dX4_note_100 : decode cX4_note 100 = .ok (.iconst 2, 1) := dk_5 (dk_at dksX4_note_4 5 rfl rfl)
theorem dX4_note_101 : decode cX4_note 101 = .ok (.iadd, 1) := dk_96 (dk_at dksX4_note_4 6 rfl rfl)
theorem dX4_note_102 : decode cX4_note 102 = .ok (.iload_n 3, 1) := dk_29 (dk_at dksX4_note_4 7 rfl rfl)
theorem dX4_note_103 : decode cX4_note 103 = .ok (.iastore, 1) := dk_79 (dk_at dksX4_note_4 8 rfl rfl)
theorem dX4_note_104 : decode cX4_note 104 = .ok (.aload_n 0, 1) := dk_42 (dk_at dksX4_note_4 9 rfl rfl)
theorem dX4_note_105 : decode cX4_note 105 = .ok (.getfield 39, 3) := dk_180 0 39 (dk_at dksX4_note_4 10 rfl rfl)
theorem dX4_note_108 : decode cX4_note 108 = .ok (.bipush 123, 2) := dk_16 123 (dk_at dksX4_note_4 13 rfl rfl)
theorem dX4_note_110 : decode cX4_note 110 = .ok (.dup2, 1) := dk_92 (dk_at dksX4_note_4 15 rfl rfl)
theorem dX4_note_111 : decode cX4_note 111 = .ok (.iaload, 1) := dk_46 (dk_at dksX4_note_4 16 rfl rfl)
theorem dX4_note_112 : decode cX4_note 112 = .ok (.iconst 1, 1) := dk_4 (dk_at dksX4_note_4 17 rfl rfl)
theorem dX4_note_113 : decode cX4_note 113 = .ok (.iadd, 1) := dk_96 (dk_at dksX4_note_4 18 rfl rfl)
theorem dX4_note_114 : decode cX4_note 114 = .ok (.iastore, 1) := dk_79 (dk_at dksX4_note_4 19 rfl rfl)
theorem dX4_note_115 : decode cX4_note 115 = .ok (.aload_n 0, 1) := dk_42 (dk_at dksX4_note_4 20 rfl rfl)
theorem dX4_note_116 : decode cX4_note 116 = .ok (.getfield 39, 3) := dk_180 0 39 (dk_at dksX4_note_4 21 rfl rfl)
theorem dX4_note_119 : decode cX4_note 119 = .ok (.bipush 123, 2) := dk_16 123 (dk_at dksX4_note_5 0 rfl rfl)
theorem dX4_note_121 : decode cX4_note 121 = .ok (.iaload, 1) := dk_46 (dk_at dksX4_note_5 2 rfl rfl)
theorem dX4_note_122 : decode cX4_note 122 = .ok (.ireturn, 1) := dk_172 (dk_at dksX4_note_5 3 rfl rfl)
abbrev cX4_ruled : ByteArray := prog_19_method_106_code
def yX4_ruled : MethodName := ⟨RX4, "ruled", "(I)I"⟩
def dkwX4_ruled_3 : List UInt8 := [154, 0, 7, 28, 167, 0, 4, 29, 172]
abbrev dktX4_ruled_3 : List UInt8 := dkwX4_ruled_3 ++ []
def dkwX4_ruled_2 : List UInt8 := [21, 4, 51, 154, 0, 6, 167, 0, 11, 21, 4, 4, 100, 62, 132, 2, 1, 132, 4, 255, 167, 255, 227, 27]
abbrev dktX4_ruled_2 : List UInt8 := dkwX4_ruled_2 ++ dktX4_ruled_3
def dkwX4_ruled_1 : List UInt8 := [182, 1, 179, 3, 61, 16, 254, 62, 42, 180, 1, 24, 54, 4, 21, 4, 155, 0, 30, 42, 180, 0, 67]
abbrev dktX4_ruled_1 : List UInt8 := dkwX4_ruled_1 ++ dktX4_ruled_2
def dkwX4_ruled_0 : List UInt8 := [42, 182, 1, 110, 153, 0, 13, 27, 133, 9, 10, 184, 0, 124, 154, 0, 6, 16, 253, 172, 42, 3]
abbrev dktX4_ruled_0 : List UInt8 := dkwX4_ruled_0 ++ dktX4_ruled_1
theorem dksX4_ruled_0 : cX4_ruled.data.toList.drop 0 = dktX4_ruled_0 := by decide +kernel
theorem dksX4_ruled_1 : cX4_ruled.data.toList.drop 22 = dktX4_ruled_1 := dk_seg dksX4_ruled_0 22 rfl rfl
theorem dksX4_ruled_2 : cX4_ruled.data.toList.drop 45 = dktX4_ruled_2 := dk_seg dksX4_ruled_1 23 rfl rfl
theorem dksX4_ruled_3 : cX4_ruled.data.toList.drop 69 = dktX4_ruled_3 := dk_seg dksX4_ruled_2 24 rfl rfl
theorem dX4_ruled_0 : decode cX4_ruled 0 = .ok (.aload_n 0, 1) := dk_42 (dk_at dksX4_ruled_0 0 rfl rfl)
theorem dX4_ruled_1 : decode cX4_ruled 1 = .ok (.invokevirtual 366, 3) := dk_182 1 110 (dk_at dksX4_ruled_0 1 rfl rfl)
theorem dX4_ruled_4 : decode cX4_ruled 4 = .ok (.ifCond .eq 13, 3) := dk_153 0 13 (dk_at dksX4_ruled_0 4 rfl rfl)
theorem dX4_ruled_7 : decode cX4_ruled 7 = .ok (.iload_n 1, 1) := dk_27 (dk_at dksX4_ruled_0 7 rfl rfl)
theorem dX4_ruled_8 : decode cX4_ruled 8 = .ok (.i2l, 1) := dk_133 (dk_at dksX4_ruled_0 8 rfl rfl)
theorem dX4_ruled_9 : decode cX4_ruled 9 = .ok (.lconst 0, 1) := dk_9 (dk_at dksX4_ruled_0 9 rfl rfl)
theorem dX4_ruled_10 : decode cX4_ruled 10 = .ok (.lconst 1, 1) := dk_10 (dk_at dksX4_ruled_0 10 rfl rfl)
theorem dX4_ruled_11 : decode cX4_ruled 11 = .ok (.invokestatic 124, 3) := dk_184 0 124 (dk_at dksX4_ruled_0 11 rfl rfl)
theorem dX4_ruled_14 : decode cX4_ruled 14 = .ok (.ifCond .ne 6, 3) := dk_154 0 6 (dk_at dksX4_ruled_0 14 rfl rfl)
theorem dX4_ruled_17 : decode cX4_ruled 17 = .ok (.bipush (-3), 2) := dk_16 253 (dk_at dksX4_ruled_0 17 rfl rfl)
theorem dX4_ruled_19 : decode cX4_ruled 19 = .ok (.ireturn, 1) := dk_172 (dk_at dksX4_ruled_0 19 rfl rfl)
theorem dX4_ruled_20 : decode cX4_ruled 20 = .ok (.aload_n 0, 1) := dk_42 (dk_at dksX4_ruled_0 20 rfl rfl)
theorem dX4_ruled_21 : decode cX4_ruled 21 = .ok (.iconst 0, 1) := dk_3 (dk_at dksX4_ruled_0 21 rfl rfl)
theorem dX4_ruled_22 : decode cX4_ruled 22 = .ok (.invokevirtual 435, 3) := dk_182 1 179 (dk_at dksX4_ruled_1 0 rfl rfl)
theorem dX4_ruled_25 : decode cX4_ruled 25 = .ok (.iconst 0, 1) := dk_3 (dk_at dksX4_ruled_1 3 rfl rfl)
theorem dX4_ruled_26 : decode cX4_ruled 26 = .ok (.istore_n 2, 1) := dk_61 (dk_at dksX4_ruled_1 4 rfl rfl)
theorem dX4_ruled_27 : decode cX4_ruled 27 = .ok (.bipush (-2), 2) := dk_16 254 (dk_at dksX4_ruled_1 5 rfl rfl)
theorem dX4_ruled_29 : decode cX4_ruled 29 = .ok (.istore_n 3, 1) := dk_62 (dk_at dksX4_ruled_1 7 rfl rfl)
theorem dX4_ruled_30 : decode cX4_ruled 30 = .ok (.aload_n 0, 1) := dk_42 (dk_at dksX4_ruled_1 8 rfl rfl)
theorem dX4_ruled_31 : decode cX4_ruled 31 = .ok (.getfield 280, 3) := dk_180 1 24 (dk_at dksX4_ruled_1 9 rfl rfl)
theorem dX4_ruled_34 : decode cX4_ruled 34 = .ok (.istore 4, 2) := dk_54 4 (dk_at dksX4_ruled_1 12 rfl rfl)
theorem dX4_ruled_36 : decode cX4_ruled 36 = .ok (.iload 4, 2) := dk_21 4 (dk_at dksX4_ruled_1 14 rfl rfl)
theorem dX4_ruled_38 : decode cX4_ruled 38 = .ok (.ifCond .lt 30, 3) := dk_155 0 30 (dk_at dksX4_ruled_1 16 rfl rfl)
theorem dX4_ruled_41 : decode cX4_ruled 41 = .ok (.aload_n 0, 1) := dk_42 (dk_at dksX4_ruled_1 19 rfl rfl)
theorem dX4_ruled_42 : decode cX4_ruled 42 = .ok (.getfield 67, 3) := dk_180 0 67 (dk_at dksX4_ruled_1 20 rfl rfl)
theorem dX4_ruled_45 : decode cX4_ruled 45 = .ok (.iload 4, 2) := dk_21 4 (dk_at dksX4_ruled_2 0 rfl rfl)
theorem dX4_ruled_47 : decode cX4_ruled 47 = .ok (.baload, 1) := dk_51 (dk_at dksX4_ruled_2 2 rfl rfl)
theorem dX4_ruled_48 : decode cX4_ruled 48 = .ok (.ifCond .ne 6, 3) := dk_154 0 6 (dk_at dksX4_ruled_2 3 rfl rfl)
theorem dX4_ruled_51 : decode cX4_ruled 51 = .ok (.goto 11, 3) := dk_167 0 11 (dk_at dksX4_ruled_2 6 rfl rfl)
theorem dX4_ruled_54 : decode cX4_ruled 54 = .ok (.iload 4, 2) := dk_21 4 (dk_at dksX4_ruled_2 9 rfl rfl)
theorem dX4_ruled_56 : decode cX4_ruled 56 = .ok (.iconst 1, 1) := dk_4 (dk_at dksX4_ruled_2 11 rfl rfl)
theorem dX4_ruled_57 : decode cX4_ruled 57 = .ok (.isub, 1) := dk_100 (dk_at dksX4_ruled_2 12 rfl rfl)
theorem dX4_ruled_58 : decode cX4_ruled 58 = .ok (.istore_n 3, 1) := dk_62 (dk_at dksX4_ruled_2 13 rfl rfl)
theorem dX4_ruled_59 : decode cX4_ruled 59 = .ok (.iinc 2 1, 3) := dk_132 2 1 (dk_at dksX4_ruled_2 14 rfl rfl)
theorem dX4_ruled_62 : decode cX4_ruled 62 = .ok (.iinc 4 (-1), 3) := dk_132 4 255 (dk_at dksX4_ruled_2 17 rfl rfl)
theorem dX4_ruled_65 : decode cX4_ruled 65 = .ok (.goto (-29), 3) := dk_167 255 227 (dk_at dksX4_ruled_2 20 rfl rfl)
theorem dX4_ruled_68 : decode cX4_ruled 68 = .ok (.iload_n 1, 1) := dk_27 (dk_at dksX4_ruled_2 23 rfl rfl)
theorem dX4_ruled_69 : decode cX4_ruled 69 = .ok (.ifCond .ne 7, 3) := dk_154 0 7 (dk_at dksX4_ruled_3 0 rfl rfl)
theorem dX4_ruled_72 : decode cX4_ruled 72 = .ok (.iload_n 2, 1) := dk_28 (dk_at dksX4_ruled_3 3 rfl rfl)
theorem dX4_ruled_73 : decode cX4_ruled 73 = .ok (.goto 4, 3) := dk_167 0 4 (dk_at dksX4_ruled_3 4 rfl rfl)
theorem dX4_ruled_76 : decode cX4_ruled 76 = .ok (.iload_n 3, 1) := dk_29 (dk_at dksX4_ruled_3 7 rfl rfl)
theorem dX4_ruled_77 : decode cX4_ruled 77 = .ok (.ireturn, 1) := dk_172 (dk_at dksX4_ruled_3 8 rfl rfl)
abbrev cX4_fillsFits : ByteArray := prog_19_method_105_code
def yX4_fillsFits : MethodName := ⟨RX4, "fillsFits", "(I)V"⟩
def dkwX4_fillsFits_6 : List UInt8 := [182, 1, 132, 177]
abbrev dktX4_fillsFits_6 : List UInt8 := dkwX4_fillsFits_6 ++ []
def dkwX4_fillsFits_5 : List UInt8 := [167, 255, 176, 42, 180, 0, 67, 29, 21, 4, 84, 132, 3, 1, 167, 255, 137, 42, 28, 181, 0, 42, 42]
abbrev dktX4_fillsFits_5 : List UInt8 := dkwX4_fillsFits_5 ++ dktX4_fillsFits_6
def dkwX4_fillsFits_4 : List UInt8 := [180, 0, 39, 16, 14, 21, 6, 96, 46, 79, 132, 6, 1, 167, 255, 218, 42, 182, 1, 116, 87, 132, 5, 1]
abbrev dktX4_fillsFits_4 : List UInt8 := dkwX4_fillsFits_4 ++ dktX4_fillsFits_5
def dkwX4_fillsFits_3 : List UInt8 := [16, 8, 162, 0, 37, 21, 5, 27, 160, 0, 31, 42, 180, 0, 71, 16, 8, 29, 104, 21, 6, 96, 42]
abbrev dktX4_fillsFits_3 : List UInt8 := dkwX4_fillsFits_3 ++ dktX4_fillsFits_4
def dkwX4_fillsFits_2 : List UInt8 := [153, 0, 16, 42, 21, 5, 182, 1, 176, 153, 0, 7, 4, 167, 0, 4, 3, 54, 4, 3, 54, 6, 21, 6]
abbrev dktX4_fillsFits_2 : List UInt8 := dkwX4_fillsFits_2 ++ dktX4_fillsFits_3
def dkwX4_fillsFits_1 : List UInt8 := [181, 0, 42, 42, 182, 1, 30, 4, 54, 4, 3, 54, 5, 21, 5, 16, 60, 163, 0, 79, 21, 4]
abbrev dktX4_fillsFits_1 : List UInt8 := dkwX4_fillsFits_1 ++ dktX4_fillsFits_2
def dkwX4_fillsFits_0 : List UInt8 := [42, 180, 0, 42, 61, 42, 182, 1, 129, 3, 62, 29, 42, 180, 1, 24, 163, 0, 117, 42, 29, 4, 100]
abbrev dktX4_fillsFits_0 : List UInt8 := dkwX4_fillsFits_0 ++ dktX4_fillsFits_1
theorem dksX4_fillsFits_0 : cX4_fillsFits.data.toList.drop 0 = dktX4_fillsFits_0 := by decide +kernel
theorem dksX4_fillsFits_1 : cX4_fillsFits.data.toList.drop 23 = dktX4_fillsFits_1 := dk_seg dksX4_fillsFits_0 23 rfl rfl
theorem dksX4_fillsFits_2 : cX4_fillsFits.data.toList.drop 45 = dktX4_fillsFits_2 := dk_seg dksX4_fillsFits_1 22 rfl rfl
theorem dksX4_fillsFits_3 : cX4_fillsFits.data.toList.drop 69 = dktX4_fillsFits_3 := dk_seg dksX4_fillsFits_2 24 rfl rfl
theorem dksX4_fillsFits_4 : cX4_fillsFits.data.toList.drop 92 = dktX4_fillsFits_4 := dk_seg dksX4_fillsFits_3 23 rfl rfl
theorem dksX4_fillsFits_5 : cX4_fillsFits.data.toList.drop 116 = dktX4_fillsFits_5 := dk_seg dksX4_fillsFits_4 24 rfl rfl
theorem dksX4_fillsFits_6 : cX4_fillsFits.data.toList.drop 139 = dktX4_fillsFits_6 := dk_seg dksX4_fillsFits_5 23 rfl rfl
theorem dX4_fillsFits_0 : decode cX4_fillsFits 0 = .ok (.aload_n 0, 1) := dk_42 (dk_at dksX4_fillsFits_0 0 rfl rfl)
theorem dX4_fillsFits_1 : decode cX4_fillsFits 1 = .ok (.getfield 42, 3) := dk_180 0 42 (dk_at dksX4_fillsFits_0 1 rfl rfl)
theorem dX4_fillsFits_4 : decode cX4_fillsFits 4 = .ok (.istore_n 2, 1) := dk_61 (dk_at dksX4_fillsFits_0 4 rfl rfl)
theorem dX4_fillsFits_5 : decode cX4_fillsFits 5 = .ok (.aload_n 0, 1) := dk_42 (dk_at dksX4_fillsFits_0 5 rfl rfl)
theorem dX4_fillsFits_6 : decode cX4_fillsFits 6 = .ok (.invokevirtual 385, 3) := dk_182 1 129 (dk_at dksX4_fillsFits_0 6 rfl rfl)
theorem dX4_fillsFits_9 : decode cX4_fillsFits 9 = .ok (.iconst 0, 1) := dk_3 (dk_at dksX4_fillsFits_0 9 rfl rfl)
theorem dX4_fillsFits_10 : decode cX4_fillsFits 10 = .ok (.istore_n 3, 1) := dk_62 (dk_at dksX4_fillsFits_0 10 rfl rfl)
theorem dX4_fillsFits_11 : decode cX4_fillsFits 11 = .ok (.iload_n 3, 1) := dk_29 (dk_at dksX4_fillsFits_0 11 rfl rfl)
theorem dX4_fillsFits_12 : decode cX4_fillsFits 12 = .ok (.aload_n 0, 1) := dk_42 (dk_at dksX4_fillsFits_0 12 rfl rfl)
theorem dX4_fillsFits_13 : decode cX4_fillsFits 13 = .ok (.getfield 280, 3) := dk_180 1 24 (dk_at dksX4_fillsFits_0 13 rfl rfl)
theorem dX4_fillsFits_16 : decode cX4_fillsFits 16 = .ok (.if_icmp .gt 117, 3) := dk_163 0 117 (dk_at dksX4_fillsFits_0 16 rfl rfl)
theorem dX4_fillsFits_19 : decode cX4_fillsFits 19 = .ok (.aload_n 0, 1) := dk_42 (dk_at dksX4_fillsFits_0 19 rfl rfl)
theorem dX4_fillsFits_20 : decode cX4_fillsFits 20 = .ok (.iload_n 3, 1) := dk_29 (dk_at dksX4_fillsFits_0 20 rfl rfl)
theorem dX4_fillsFits_21 : decode cX4_fillsFits 21 = .ok (.iconst 1, 1) := dk_4 (dk_at dksX4_fillsFits_0 21 rfl rfl)
theorem dX4_fillsFits_22 : decode cX4_fillsFits 22 = .ok (.isub, 1) := dk_100 (dk_at dksX4_fillsFits_0 22 rfl rfl)
theorem dX4_fillsFits_23 : decode cX4_fillsFits 23 = .ok (.putfield 42, 3) := dk_181 0 42 (dk_at dksX4_fillsFits_1 0 rfl rfl)
theorem dX4_fillsFits_26 : decode cX4_fillsFits 26 = .ok (.aload_n 0, 1) := dk_42 (dk_at dksX4_fillsFits_1 3 rfl rfl)
theorem dX4_fillsFits_27 : decode cX4_fillsFits 27 = .ok (.invokevirtual 286, 3) := dk_182 1 30 (dk_at dksX4_fillsFits_1 4 rfl rfl)
theorem dX4_fillsFits_30 : decode cX4_fillsFits 30 = .ok (.iconst 1, 1) := dk_4 (dk_at dksX4_fillsFits_1 7 rfl rfl)
theorem dX4_fillsFits_31 : decode cX4_fillsFits 31 = .ok (.istore 4, 2) := dk_54 4 (dk_at dksX4_fillsFits_1 8 rfl rfl)
theorem dX4_fillsFits_33 : decode cX4_fillsFits 33 = .ok (.iconst 0, 1) := dk_3 (dk_at dksX4_fillsFits_1 10 rfl rfl)
theorem dX4_fillsFits_34 : decode cX4_fillsFits 34 = .ok (.istore 5, 2) := dk_54 5 (dk_at dksX4_fillsFits_1 11 rfl rfl)
theorem dX4_fillsFits_36 : decode cX4_fillsFits 36 = .ok (.iload 5, 2) := dk_21 5 (dk_at dksX4_fillsFits_1 13 rfl rfl)
theorem dX4_fillsFits_38 : decode cX4_fillsFits 38 = .ok (.bipush 60, 2) := dk_16 60 (dk_at dksX4_fillsFits_1 15 rfl rfl)
theorem dX4_fillsFits_40 : decode cX4_fillsFits 40 = .ok (.if_icmp .gt 79, 3) := dk_163 0 79 (dk_at dksX4_fillsFits_1 17 rfl rfl)
theorem dX4_fillsFits_43 : decode cX4_fillsFits 43 = .ok (.iload 4, 2) := dk_21 4 (dk_at dksX4_fillsFits_1 20 rfl rfl)
theorem dX4_fillsFits_45 : decode cX4_fillsFits 45 = .ok (.ifCond .eq 16, 3) := dk_153 0 16 (dk_at dksX4_fillsFits_2 0 rfl rfl)
theorem dX4_fillsFits_48 : decode cX4_fillsFits 48 = .ok (.aload_n 0, 1) := dk_42 (dk_at dksX4_fillsFits_2 3 rfl rfl)
theorem dX4_fillsFits_49 : decode cX4_fillsFits 49 = .ok (.iload 5, 2) := dk_21 5 (dk_at dksX4_fillsFits_2 4 rfl rfl)
theorem dX4_fillsFits_51 : decode cX4_fillsFits 51 = .ok (.invokevirtual 432, 3) := dk_182 1 176 (dk_at dksX4_fillsFits_2 6 rfl rfl)
theorem dX4_fillsFits_54 : decode cX4_fillsFits 54 = .ok (.ifCond .eq 7, 3) := dk_153 0 7 (dk_at dksX4_fillsFits_2 9 rfl rfl)
theorem dX4_fillsFits_57 : decode cX4_fillsFits 57 = .ok (.iconst 1, 1) := dk_4 (dk_at dksX4_fillsFits_2 12 rfl rfl)
theorem dX4_fillsFits_58 : decode cX4_fillsFits 58 = .ok (.goto 4, 3) := dk_167 0 4 (dk_at dksX4_fillsFits_2 13 rfl rfl)
theorem dX4_fillsFits_61 : decode cX4_fillsFits 61 = .ok (.iconst 0, 1) := dk_3 (dk_at dksX4_fillsFits_2 16 rfl rfl)
theorem dX4_fillsFits_62 : decode cX4_fillsFits 62 = .ok (.istore 4, 2) := dk_54 4 (dk_at dksX4_fillsFits_2 17 rfl rfl)
theorem dX4_fillsFits_64 : decode cX4_fillsFits 64 = .ok (.iconst 0, 1) := dk_3 (dk_at dksX4_fillsFits_2 19 rfl rfl)
theorem dX4_fillsFits_65 : decode cX4_fillsFits 65 = .ok (.istore 6, 2) := dk_54 6 (dk_at dksX4_fillsFits_2 20 rfl rfl)
theorem dX4_fillsFits_67 : decode cX4_fillsFits 67 = .ok (.iload 6, 2) := dk_21 6 (dk_at dksX4_fillsFits_2 22 rfl rfl)
theorem dX4_fillsFits_69 : decode cX4_fillsFits 69 = .ok (.bipush 8, 2) := dk_16 8 (dk_at dksX4_fillsFits_3 0 rfl rfl)
theorem dX4_fillsFits_71 : decode cX4_fillsFits 71 = .ok (.if_icmp .ge 37, 3) := dk_162 0 37 (dk_at dksX4_fillsFits_3 2 rfl rfl)
theorem dX4_fillsFits_74 : decode cX4_fillsFits 74 = .ok (.iload 5, 2) := dk_21 5 (dk_at dksX4_fillsFits_3 5 rfl rfl)
theorem dX4_fillsFits_76 : decode cX4_fillsFits 76 = .ok (.iload_n 1, 1) := dk_27 (dk_at dksX4_fillsFits_3 7 rfl rfl)
theorem dX4_fillsFits_77 : decode cX4_fillsFits 77 = .ok (.if_icmp .ne 31, 3) := dk_160 0 31 (dk_at dksX4_fillsFits_3 8 rfl rfl)
theorem dX4_fillsFits_80 : decode cX4_fillsFits 80 = .ok (.aload_n 0, 1) := dk_42 (dk_at dksX4_fillsFits_3 11 rfl rfl)
theorem dX4_fillsFits_81 : decode cX4_fillsFits 81 = .ok (.getfield 71, 3) := dk_180 0 71 (dk_at dksX4_fillsFits_3 12 rfl rfl)
theorem dX4_fillsFits_84 : decode cX4_fillsFits 84 = .ok (.bipush 8, 2) := dk_16 8 (dk_at dksX4_fillsFits_3 15 rfl rfl)
theorem dX4_fillsFits_86 : decode cX4_fillsFits 86 = .ok (.iload_n 3, 1) := dk_29 (dk_at dksX4_fillsFits_3 17 rfl rfl)
theorem dX4_fillsFits_87 : decode cX4_fillsFits 87 = .ok (.imul, 1) := dk_104 (dk_at dksX4_fillsFits_3 18 rfl rfl)
theorem dX4_fillsFits_88 : decode cX4_fillsFits 88 = .ok (.iload 6, 2) := dk_21 6 (dk_at dksX4_fillsFits_3 19 rfl rfl)
theorem dX4_fillsFits_90 : decode cX4_fillsFits 90 = .ok (.iadd, 1) := dk_96 (dk_at dksX4_fillsFits_3 21 rfl rfl)
theorem dX4_fillsFits_91 : decode cX4_fillsFits 91 = .ok (.aload_n 0, 1) := dk_42 (dk_at dksX4_fillsFits_3 22 rfl rfl)
theorem dX4_fillsFits_92 : decode cX4_fillsFits 92 = .ok (.getfield 39, 3) := dk_180 0 39 (dk_at dksX4_fillsFits_4 0 rfl rfl)
theorem dX4_fillsFits_95 : decode cX4_fillsFits 95 = .ok (.bipush 14, 2) := dk_16 14 (dk_at dksX4_fillsFits_4 3 rfl rfl)
theorem dX4_fillsFits_97 : decode cX4_fillsFits 97 = .ok (.iload 6, 2) := dk_21 6 (dk_at dksX4_fillsFits_4 5 rfl rfl)
theorem dX4_fillsFits_99 : decode cX4_fillsFits 99 = .ok (.iadd, 1) := dk_96 (dk_at dksX4_fillsFits_4 7 rfl rfl)
theorem dX4_fillsFits_100 : decode cX4_fillsFits 100 = .ok (.iaload, 1) := dk_46 (dk_at dksX4_fillsFits_4 8 rfl rfl)
theorem dX4_fillsFits_101 : decode cX4_fillsFits 101 = .ok (.iastore, 1) := dk_79 (dk_at dksX4_fillsFits_4 9 rfl rfl)
theorem dX4_fillsFits_102 : decode cX4_fillsFits 102 = .ok (.iinc 6 1, 3) := dk_132 6 1 (dk_at dksX4_fillsFits_4 10 rfl rfl)
theorem dX4_fillsFits_105 : decode cX4_fillsFits 105 = .ok (.goto (-38), 3) := dk_167 255 218 (dk_at dksX4_fillsFits_4 13 rfl rfl)
theorem dX4_fillsFits_108 : decode cX4_fillsFits 108 = .ok (.aload_n 0, 1) := dk_42 (dk_at dksX4_fillsFits_4 16 rfl rfl)
theorem dX4_fillsFits_109 : decode cX4_fillsFits 109 = .ok (.invokevirtual 372, 3) := dk_182 1 116 (dk_at dksX4_fillsFits_4 17 rfl rfl)
theorem dX4_fillsFits_112 : decode cX4_fillsFits 112 = .ok (.pop, 1) := dk_87 (dk_at dksX4_fillsFits_4 20 rfl rfl)
theorem dX4_fillsFits_113 : decode cX4_fillsFits 113 = .ok (.iinc 5 1, 3) := dk_132 5 1 (dk_at dksX4_fillsFits_4 21 rfl rfl)
theorem dX4_fillsFits_116 : decode cX4_fillsFits 116 = .ok (.goto (-80), 3) := dk_167 255 176 (dk_at dksX4_fillsFits_5 0 rfl rfl)
theorem dX4_fillsFits_119 : decode cX4_fillsFits 119 = .ok (.aload_n 0, 1) := dk_42 (dk_at dksX4_fillsFits_5 3 rfl rfl)
theorem dX4_fillsFits_120 : decode cX4_fillsFits 120 = .ok (.getfield 67, 3) := dk_180 0 67 (dk_at dksX4_fillsFits_5 4 rfl rfl)
theorem dX4_fillsFits_123 : decode cX4_fillsFits 123 = .ok (.iload_n 3, 1) := dk_29 (dk_at dksX4_fillsFits_5 7 rfl rfl)
theorem dX4_fillsFits_124 : decode cX4_fillsFits 124 = .ok (.iload 4, 2) := dk_21 4 (dk_at dksX4_fillsFits_5 8 rfl rfl)
theorem dX4_fillsFits_126 : decode cX4_fillsFits 126 = .ok (.bastore, 1) := dk_84 (dk_at dksX4_fillsFits_5 10 rfl rfl)
theorem dX4_fillsFits_127 : decode cX4_fillsFits 127 = .ok (.iinc 3 1, 3) := dk_132 3 1 (dk_at dksX4_fillsFits_5 11 rfl rfl)
theorem dX4_fillsFits_130 : decode cX4_fillsFits 130 = .ok (.goto (-119), 3) := dk_167 255 137 (dk_at dksX4_fillsFits_5 14 rfl rfl)
theorem dX4_fillsFits_133 : decode cX4_fillsFits 133 = .ok (.aload_n 0, 1) := dk_42 (dk_at dksX4_fillsFits_5 17 rfl rfl)
theorem dX4_fillsFits_134 : decode cX4_fillsFits 134 = .ok (.iload_n 2, 1) := dk_28 (dk_at dksX4_fillsFits_5 18 rfl rfl)
theorem dX4_fillsFits_135 : decode cX4_fillsFits 135 = .ok (.putfield 42, 3) := dk_181 0 42 (dk_at dksX4_fillsFits_5 19 rfl rfl)
theorem dX4_fillsFits_138 : decode cX4_fillsFits 138 = .ok (.aload_n 0, 1) := dk_42 (dk_at dksX4_fillsFits_5 22 rfl rfl)
theorem dX4_fillsFits_139 : decode cX4_fillsFits 139 = .ok (.invokevirtual 388, 3) := dk_182 1 132 (dk_at dksX4_fillsFits_6 0 rfl rfl)
theorem dX4_fillsFits_142 : decode cX4_fillsFits 142 = .ok (.return_, 1) := dk_177 (dk_at dksX4_fillsFits_6 3 rfl rfl)
abbrev cX4_areNotesSo : ByteArray := prog_19_method_104_code
def yX4_areNotesSo : MethodName := ⟨RX4, "areNotesSo", "(I)Z"⟩
def dkwX4_areNotesSo_2 : List UInt8 := [180, 0, 39, 16, 93, 28, 96, 5, 96, 46, 159, 0, 5, 3, 172, 132, 2, 3, 167, 255, 192, 4, 172]
abbrev dktX4_areNotesSo_2 : List UInt8 := dkwX4_areNotesSo_2 ++ []
def dkwX4_areNotesSo_1 : List UInt8 := [27, 160, 0, 38, 42, 180, 0, 39, 16, 14, 42, 180, 0, 39, 16, 93, 28, 96, 4, 96, 46, 96, 46, 42]
abbrev dktX4_areNotesSo_1 : List UInt8 := dkwX4_areNotesSo_1 ++ dktX4_areNotesSo_2
def dkwX4_areNotesSo_0 : List UInt8 := [3, 61, 28, 6, 42, 180, 0, 39, 16, 123, 46, 104, 162, 0, 57, 42, 180, 0, 39, 16, 93, 28, 96, 46]
abbrev dktX4_areNotesSo_0 : List UInt8 := dkwX4_areNotesSo_0 ++ dktX4_areNotesSo_1
theorem dksX4_areNotesSo_0 : cX4_areNotesSo.data.toList.drop 0 = dktX4_areNotesSo_0 := by decide +kernel
theorem dksX4_areNotesSo_1 : cX4_areNotesSo.data.toList.drop 24 = dktX4_areNotesSo_1 := dk_seg dksX4_areNotesSo_0 24 rfl rfl
theorem dksX4_areNotesSo_2 : cX4_areNotesSo.data.toList.drop 48 = dktX4_areNotesSo_2 := dk_seg dksX4_areNotesSo_1 24 rfl rfl
theorem dX4_areNotesSo_0 : decode cX4_areNotesSo 0 = .ok (.iconst 0, 1) := dk_3 (dk_at dksX4_areNotesSo_0 0 rfl rfl)
theorem dX4_areNotesSo_1 : decode cX4_areNotesSo 1 = .ok (.istore_n 2, 1) := dk_61 (dk_at dksX4_areNotesSo_0 1 rfl rfl)
theorem dX4_areNotesSo_2 : decode cX4_areNotesSo 2 = .ok (.iload_n 2, 1) := dk_28 (dk_at dksX4_areNotesSo_0 2 rfl rfl)
theorem dX4_areNotesSo_3 : decode cX4_areNotesSo 3 = .ok (.iconst 3, 1) := dk_6 (dk_at dksX4_areNotesSo_0 3 rfl rfl)
theorem dX4_areNotesSo_4 : decode cX4_areNotesSo 4 = .ok (.aload_n 0, 1) := dk_42 (dk_at dksX4_areNotesSo_0 4 rfl rfl)
theorem dX4_areNotesSo_5 : decode cX4_areNotesSo 5 = .ok (.getfield 39, 3) := dk_180 0 39 (dk_at dksX4_areNotesSo_0 5 rfl rfl)
theorem dX4_areNotesSo_8 : decode cX4_areNotesSo 8 = .ok (.bipush 123, 2) := dk_16 123 (dk_at dksX4_areNotesSo_0 8 rfl rfl)
theorem dX4_areNotesSo_10 : decode cX4_areNotesSo 10 = .ok (.iaload, 1) := dk_46 (dk_at dksX4_areNotesSo_0 10 rfl rfl)
theorem dX4_areNotesSo_11 : decode cX4_areNotesSo 11 = .ok (.imul, 1) := dk_104 (dk_at dksX4_areNotesSo_0 11 rfl rfl)
theorem dX4_areNotesSo_12 : decode cX4_areNotesSo 12 = .ok (.if_icmp .ge 57, 3) := dk_162 0 57 (dk_at dksX4_areNotesSo_0 12 rfl rfl)
theorem dX4_areNotesSo_15 : decode cX4_areNotesSo 15 = .ok (.aload_n 0, 1) := dk_42 (dk_at dksX4_areNotesSo_0 15 rfl rfl)
theorem dX4_areNotesSo_16 : decode cX4_areNotesSo 16 = .ok (.getfield 39, 3) := dk_180 0 39 (dk_at dksX4_areNotesSo_0 16 rfl rfl)
theorem dX4_areNotesSo_19 : decode cX4_areNotesSo 19 = .ok (.bipush 93, 2) := dk_16 93 (dk_at dksX4_areNotesSo_0 19 rfl rfl)
theorem dX4_areNotesSo_21 : decode cX4_areNotesSo 21 = .ok (.iload_n 2, 1) := dk_28 (dk_at dksX4_areNotesSo_0 21 rfl rfl)
theorem dX4_areNotesSo_22 : decode cX4_areNotesSo 22 = .ok (.iadd, 1) := dk_96 (dk_at dksX4_areNotesSo_0 22 rfl rfl)
theorem dX4_areNotesSo_23 : decode cX4_areNotesSo 23 = .ok (.iaload, 1) := dk_46 (dk_at dksX4_areNotesSo_0 23 rfl rfl)
theorem dX4_areNotesSo_24 : decode cX4_areNotesSo 24 = .ok (.iload_n 1, 1) := dk_27 (dk_at dksX4_areNotesSo_1 0 rfl rfl)
theorem dX4_areNotesSo_25 : decode cX4_areNotesSo 25 = .ok (.if_icmp .ne 38, 3) := dk_160 0 38 (dk_at dksX4_areNotesSo_1 1 rfl rfl)
theorem dX4_areNotesSo_28 : decode cX4_areNotesSo 28 = .ok (.aload_n 0, 1) := dk_42 (dk_at dksX4_areNotesSo_1 4 rfl rfl)
theorem dX4_areNotesSo_29 : decode cX4_areNotesSo 29 = .ok (.getfield 39, 3) := dk_180 0 39 (dk_at dksX4_areNotesSo_1 5 rfl rfl)
theorem dX4_areNotesSo_32 : decode cX4_areNotesSo 32 = .ok (.bipush 14, 2) := dk_16 14 (dk_at dksX4_areNotesSo_1 8 rfl rfl)
theorem dX4_areNotesSo_34 : decode cX4_areNotesSo 34 = .ok (.aload_n 0, 1) := dk_42 (dk_at dksX4_areNotesSo_1 10 rfl rfl)
theorem dX4_areNotesSo_35 : decode cX4_areNotesSo 35 = .ok (.getfield 39, 3) := dk_180 0 39 (dk_at dksX4_areNotesSo_1 11 rfl rfl)
theorem dX4_areNotesSo_38 : decode cX4_areNotesSo 38 = .ok (.bipush 93, 2) := dk_16 93 (dk_at dksX4_areNotesSo_1 14 rfl rfl)
theorem dX4_areNotesSo_40 : decode cX4_areNotesSo 40 = .ok (.iload_n 2, 1) := dk_28 (dk_at dksX4_areNotesSo_1 16 rfl rfl)
theorem dX4_areNotesSo_41 : decode cX4_areNotesSo 41 = .ok (.iadd, 1) := dk_96 (dk_at dksX4_areNotesSo_1 17 rfl rfl)
theorem dX4_areNotesSo_42 : decode cX4_areNotesSo 42 = .ok (.iconst 1, 1) := dk_4 (dk_at dksX4_areNotesSo_1 18 rfl rfl)
theorem dX4_areNotesSo_43 : decode cX4_areNotesSo 43 = .ok (.iadd, 1) := dk_96 (dk_at dksX4_areNotesSo_1 19 rfl rfl)
theorem dX4_areNotesSo_44 : decode cX4_areNotesSo 44 = .ok (.iaload, 1) := dk_46 (dk_at dksX4_areNotesSo_1 20 rfl rfl)
theorem dX4_areNotesSo_45 : decode cX4_areNotesSo 45 = .ok (.iadd, 1) := dk_96 (dk_at dksX4_areNotesSo_1 21 rfl rfl)
theorem dX4_areNotesSo_46 : decode cX4_areNotesSo 46 = .ok (.iaload, 1) := dk_46 (dk_at dksX4_areNotesSo_1 22 rfl rfl)
theorem dX4_areNotesSo_47 : decode cX4_areNotesSo 47 = .ok (.aload_n 0, 1) := dk_42 (dk_at dksX4_areNotesSo_1 23 rfl rfl)
theorem dX4_areNotesSo_48 : decode cX4_areNotesSo 48 = .ok (.getfield 39, 3) := dk_180 0 39 (dk_at dksX4_areNotesSo_2 0 rfl rfl)
theorem dX4_areNotesSo_51 : decode cX4_areNotesSo 51 = .ok (.bipush 93, 2) := dk_16 93 (dk_at dksX4_areNotesSo_2 3 rfl rfl)
theorem dX4_areNotesSo_53 : decode cX4_areNotesSo 53 = .ok (.iload_n 2, 1) := dk_28 (dk_at dksX4_areNotesSo_2 5 rfl rfl)
theorem dX4_areNotesSo_54 : decode cX4_areNotesSo 54 = .ok (.iadd, 1) := dk_96 (dk_at dksX4_areNotesSo_2 6 rfl rfl)
theorem dX4_areNotesSo_55 : decode cX4_areNotesSo 55 = .ok (.iconst 2, 1) := dk_5 (dk_at dksX4_areNotesSo_2 7 rfl rfl)
theorem dX4_areNotesSo_56 : decode cX4_areNotesSo 56 = .ok (.iadd, 1) := dk_96 (dk_at dksX4_areNotesSo_2 8 rfl rfl)
theorem dX4_areNotesSo_57 : decode cX4_areNotesSo 57 = .ok (.iaload, 1) := dk_46 (dk_at dksX4_areNotesSo_2 9 rfl rfl)
theorem dX4_areNotesSo_58 : decode cX4_areNotesSo 58 = .ok (.if_icmp .eq 5, 3) := dk_159 0 5 (dk_at dksX4_areNotesSo_2 10 rfl rfl)
theorem dX4_areNotesSo_61 : decode cX4_areNotesSo 61 = .ok (.iconst 0, 1) := dk_3 (dk_at dksX4_areNotesSo_2 13 rfl rfl)
theorem dX4_areNotesSo_62 : decode cX4_areNotesSo 62 = .ok (.ireturn, 1) := dk_172 (dk_at dksX4_areNotesSo_2 14 rfl rfl)
theorem dX4_areNotesSo_63 : decode cX4_areNotesSo 63 = .ok (.iinc 2 3, 3) := dk_132 2 3 (dk_at dksX4_areNotesSo_2 15 rfl rfl)
theorem dX4_areNotesSo_66 : decode cX4_areNotesSo 66 = .ok (.goto (-64), 3) := dk_167 255 192 (dk_at dksX4_areNotesSo_2 18 rfl rfl)
theorem dX4_areNotesSo_69 : decode cX4_areNotesSo 69 = .ok (.iconst 1, 1) := dk_4 (dk_at dksX4_areNotesSo_2 21 rfl rfl)
theorem dX4_areNotesSo_70 : decode cX4_areNotesSo 70 = .ok (.ireturn, 1) := dk_172 (dk_at dksX4_areNotesSo_2 22 rfl rfl)
abbrev cX4_look : ByteArray := prog_19_method_108_code
def yX4_look : MethodName := ⟨RX4, "look", "(II)I"⟩
def dkwX4_look_4 : List UInt8 := [167, 255, 208, 28, 154, 0, 7, 29, 167, 0, 5, 21, 4, 172]
abbrev dktX4_look_4 : List UInt8 := dkwX4_look_4 ++ []
def dkwX4_look_3 : List UInt8 := [29, 155, 0, 13, 21, 6, 21, 4, 161, 0, 6, 167, 0, 10, 21, 5, 62, 21, 6, 54, 4, 132, 5, 1]
abbrev dktX4_look_3 : List UInt8 := dkwX4_look_3 ++ dktX4_look_4
def dkwX4_look_2 : List UInt8 := [21, 5, 42, 180, 0, 39, 5, 46, 162, 0, 43, 42, 21, 5, 182, 1, 182, 54, 6, 21, 6, 153, 0, 24]
abbrev dktX4_look_2 : List UInt8 := dkwX4_look_2 ++ dktX4_look_3
def dkwX4_look_1 : List UInt8 := [184, 0, 124, 154, 0, 5, 2, 172, 42, 27, 182, 1, 179, 16, 254, 62, 16, 254, 54, 4, 3, 54, 5]
abbrev dktX4_look_1 : List UInt8 := dkwX4_look_1 ++ dktX4_look_2
def dkwX4_look_0 : List UInt8 := [42, 182, 1, 110, 153, 0, 25, 27, 133, 9, 20, 1, 135, 184, 0, 124, 153, 0, 13, 28, 133, 9, 10]
abbrev dktX4_look_0 : List UInt8 := dkwX4_look_0 ++ dktX4_look_1
theorem dksX4_look_0 : cX4_look.data.toList.drop 0 = dktX4_look_0 := by decide +kernel
theorem dksX4_look_1 : cX4_look.data.toList.drop 23 = dktX4_look_1 := dk_seg dksX4_look_0 23 rfl rfl
theorem dksX4_look_2 : cX4_look.data.toList.drop 46 = dktX4_look_2 := dk_seg dksX4_look_1 23 rfl rfl
theorem dksX4_look_3 : cX4_look.data.toList.drop 70 = dktX4_look_3 := dk_seg dksX4_look_2 24 rfl rfl
theorem dksX4_look_4 : cX4_look.data.toList.drop 94 = dktX4_look_4 := dk_seg dksX4_look_3 24 rfl rfl
theorem dX4_look_0 : decode cX4_look 0 = .ok (.aload_n 0, 1) := dk_42 (dk_at dksX4_look_0 0 rfl rfl)
theorem dX4_look_1 : decode cX4_look 1 = .ok (.invokevirtual 366, 3) := dk_182 1 110 (dk_at dksX4_look_0 1 rfl rfl)
theorem dX4_look_4 : decode cX4_look 4 = .ok (.ifCond .eq 25, 3) := dk_153 0 25 (dk_at dksX4_look_0 4 rfl rfl)
theorem dX4_look_7 : decode cX4_look 7 = .ok (.iload_n 1, 1) := dk_27 (dk_at dksX4_look_0 7 rfl rfl)
theorem dX4_look_8 : decode cX4_look 8 = .ok (.i2l, 1) := dk_133 (dk_at dksX4_look_0 8 rfl rfl)
theorem dX4_look_9 : decode cX4_look 9 = .ok (.lconst 0, 1) := dk_9 (dk_at dksX4_look_0 9 rfl rfl)
theorem dX4_look_10 : decode cX4_look 10 = .ok (.ldc2_w 391, 3) := dk_20 1 135 (dk_at dksX4_look_0 10 rfl rfl)
theorem dX4_look_13 : decode cX4_look 13 = .ok (.invokestatic 124, 3) := dk_184 0 124 (dk_at dksX4_look_0 13 rfl rfl)
theorem dX4_look_16 : decode cX4_look 16 = .ok (.ifCond .eq 13, 3) := dk_153 0 13 (dk_at dksX4_look_0 16 rfl rfl)
theorem dX4_look_19 : decode cX4_look 19 = .ok (.iload_n 2, 1) := dk_28 (dk_at dksX4_look_0 19 rfl rfl)
theorem dX4_look_20 : decode cX4_look 20 = .ok (.i2l, 1) := dk_133 (dk_at dksX4_look_0 20 rfl rfl)
theorem dX4_look_21 : decode cX4_look 21 = .ok (.lconst 0, 1) := dk_9 (dk_at dksX4_look_0 21 rfl rfl)
theorem dX4_look_22 : decode cX4_look 22 = .ok (.lconst 1, 1) := dk_10 (dk_at dksX4_look_0 22 rfl rfl)
theorem dX4_look_23 : decode cX4_look 23 = .ok (.invokestatic 124, 3) := dk_184 0 124 (dk_at dksX4_look_1 0 rfl rfl)
theorem dX4_look_26 : decode cX4_look 26 = .ok (.ifCond .ne 5, 3) := dk_154 0 5 (dk_at dksX4_look_1 3 rfl rfl)
theorem dX4_look_29 : decode cX4_look 29 = .ok (.iconst (-1), 1) := dk_2 (dk_at dksX4_look_1 6 rfl rfl)
theorem dX4_look_30 : decode cX4_look 30 = .ok (.ireturn, 1) := dk_172 (dk_at dksX4_look_1 7 rfl rfl)
theorem dX4_look_31 : decode cX4_look 31 = .ok (.aload_n 0, 1) := dk_42 (dk_at dksX4_look_1 8 rfl rfl)
theorem dX4_look_32 : decode cX4_look 32 = .ok (.iload_n 1, 1) := dk_27 (dk_at dksX4_look_1 9 rfl rfl)
theorem dX4_look_33 : decode cX4_look 33 = .ok (.invokevirtual 435, 3) := dk_182 1 179 (dk_at dksX4_look_1 10 rfl rfl)
theorem dX4_look_36 : decode cX4_look 36 = .ok (.bipush (-2), 2) := dk_16 254 (dk_at dksX4_look_1 13 rfl rfl)
theorem dX4_look_38 : decode cX4_look 38 = .ok (.istore_n 3, 1) := dk_62 (dk_at dksX4_look_1 15 rfl rfl)
theorem dX4_look_39 : decode cX4_look 39 = .ok (.bipush (-2), 2) := dk_16 254 (dk_at dksX4_look_1 16 rfl rfl)
theorem dX4_look_41 : decode cX4_look 41 = .ok (.istore 4, 2) := dk_54 4 (dk_at dksX4_look_1 18 rfl rfl)
theorem dX4_look_43 : decode cX4_look 43 = .ok (.iconst 0, 1) := dk_3 (dk_at dksX4_look_1 20 rfl rfl)
theorem dX4_look_44 : decode cX4_look 44 = .ok (.istore 5, 2) := dk_54 5 (dk_at dksX4_look_1 21 rfl rfl)
theorem dX4_look_46 : decode cX4_look 46 = .ok (.iload 5, 2) := dk_21 5 (dk_at dksX4_look_2 0 rfl rfl)
theorem dX4_look_48 : decode cX4_look 48 = .ok (.aload_n 0, 1) := dk_42 (dk_at dksX4_look_2 2 rfl rfl)
theorem dX4_look_49 : decode cX4_look 49 = .ok (.getfield 39, 3) := dk_180 0 39 (dk_at dksX4_look_2 3 rfl rfl)
theorem dX4_look_52 : decode cX4_look 52 = .ok (.iconst 2, 1) := dk_5 (dk_at dksX4_look_2 6 rfl rfl)
theorem dX4_look_53 : decode cX4_look 53 = .ok (.iaload, 1) := dk_46 (dk_at dksX4_look_2 7 rfl rfl)
theorem dX4_look_54 : decode cX4_look 54 = .ok (.if_icmp .ge 43, 3) := dk_162 0 43 (dk_at dksX4_look_2 8 rfl rfl)
theorem dX4_look_57 : decode cX4_look 57 = .ok (.aload_n 0, 1) := dk_42 (dk_at dksX4_look_2 11 rfl rfl)
theorem dX4_look_58 : decode cX4_look 58 = .ok (.iload 5, 2) := dk_21 5 (dk_at dksX4_look_2 12 rfl rfl)
theorem dX4_look_60 : decode cX4_look 60 = .ok (.invokevirtual 438, 3) := dk_182 1 182 (dk_at dksX4_look_2 14 rfl rfl)
theorem dX4_look_63 : decode cX4_look 63 = .ok (.istore 6, 2) := dk_54 6 (dk_at dksX4_look_2 17 rfl rfl)
theorem dX4_look_65 : decode cX4_look 65 = .ok (.iload 6, 2) := dk_21 6 (dk_at dksX4_look_2 19 rfl rfl)
theorem dX4_look_67 : decode cX4_look 67 = .ok (.ifCond .eq 24, 3) := dk_153 0 24 (dk_at dksX4_look_2 21 rfl rfl)
theorem dX4_look_70 : decode cX4_look 70 = .ok (.iload_n 3, 1) := dk_29 (dk_at dksX4_look_3 0 rfl rfl)
theorem dX4_look_71 : decode cX4_look 71 = .ok (.ifCond .lt 13, 3) := dk_155 0 13 (dk_at dksX4_look_3 1 rfl rfl)
theorem dX4_look_74 : decode cX4_look 74 = .ok (.iload 6, 2) := dk_21 6 (dk_at dksX4_look_3 4 rfl rfl)
theorem dX4_look_76 : decode cX4_look 76 = .ok (.iload 4, 2) := dk_21 4 (dk_at dksX4_look_3 6 rfl rfl)
theorem dX4_look_78 : decode cX4_look 78 = .ok (.if_icmp .lt 6, 3) := dk_161 0 6 (dk_at dksX4_look_3 8 rfl rfl)
theorem dX4_look_81 : decode cX4_look 81 = .ok (.goto 10, 3) := dk_167 0 10 (dk_at dksX4_look_3 11 rfl rfl)
theorem dX4_look_84 : decode cX4_look 84 = .ok (.iload 5, 2) := dk_21 5 (dk_at dksX4_look_3 14 rfl rfl)
theorem dX4_look_86 : decode cX4_look 86 = .ok (.istore_n 3, 1) := dk_62 (dk_at dksX4_look_3 16 rfl rfl)
theorem dX4_look_87 : decode cX4_look 87 = .ok (.iload 6, 2) := dk_21 6 (dk_at dksX4_look_3 17 rfl rfl)
theorem dX4_look_89 : decode cX4_look 89 = .ok (.istore 4, 2) := dk_54 4 (dk_at dksX4_look_3 19 rfl rfl)
theorem dX4_look_91 : decode cX4_look 91 = .ok (.iinc 5 1, 3) := dk_132 5 1 (dk_at dksX4_look_3 21 rfl rfl)
theorem dX4_look_94 : decode cX4_look 94 = .ok (.goto (-48), 3) := dk_167 255 208 (dk_at dksX4_look_4 0 rfl rfl)
theorem dX4_look_97 : decode cX4_look 97 = .ok (.iload_n 2, 1) := dk_28 (dk_at dksX4_look_4 3 rfl rfl)
theorem dX4_look_98 : decode cX4_look 98 = .ok (.ifCond .ne 7, 3) := dk_154 0 7 (dk_at dksX4_look_4 4 rfl rfl)
theorem dX4_look_101 : decode cX4_look 101 = .ok (.iload_n 3, 1) := dk_29 (dk_at dksX4_look_4 7 rfl rfl)
theorem dX4_look_102 : decode cX4_look 102 = .ok (.goto 5, 3) := dk_167 0 5 (dk_at dksX4_look_4 8 rfl rfl)
theorem dX4_look_105 : decode cX4_look 105 = .ok (.iload 4, 2) := dk_21 4 (dk_at dksX4_look_4 11 rfl rfl)
theorem dX4_look_107 : decode cX4_look 107 = .ok (.ireturn, 1) := dk_172 (dk_at dksX4_look_4 13 rfl rfl)
abbrev cX4_alikeAt : ByteArray := prog_19_method_107_code
def yX4_alikeAt : MethodName := ⟨RX4, "alikeAt", "(I)I"⟩
def dkwX4_alikeAt_4 : List UInt8 := [21, 4, 167, 0, 4, 28, 61, 132, 3, 1, 167, 255, 156, 28, 172]
abbrev dktX4_alikeAt_4 : List UInt8 := dkwX4_alikeAt_4 ++ []
def dkwX4_alikeAt_3 : List UInt8 := [160, 0, 7, 4, 167, 0, 4, 3, 96, 54, 4, 132, 5, 1, 167, 255, 189, 21, 4, 28, 164, 0, 8]
abbrev dktX4_alikeAt_3 : List UInt8 := dkwX4_alikeAt_3 ++ dktX4_alikeAt_4
def dkwX4_alikeAt_2 : List UInt8 := [42, 180, 0, 71, 16, 8, 29, 104, 27, 96, 46, 42, 180, 0, 71, 16, 8, 21, 5, 104, 27, 96, 46]
abbrev dktX4_alikeAt_2 : List UInt8 := dkwX4_alikeAt_2 ++ dktX4_alikeAt_3
def dkwX4_alikeAt_1 : List UInt8 := [163, 0, 64, 42, 180, 0, 67, 29, 51, 153, 0, 55, 21, 4, 42, 180, 0, 67, 21, 5, 51, 153, 0, 33]
abbrev dktX4_alikeAt_1 : List UInt8 := dkwX4_alikeAt_1 ++ dktX4_alikeAt_2
def dkwX4_alikeAt_0 : List UInt8 := [3, 61, 3, 62, 29, 42, 180, 1, 24, 163, 0, 98, 3, 54, 4, 3, 54, 5, 21, 5, 42, 180, 1, 24]
abbrev dktX4_alikeAt_0 : List UInt8 := dkwX4_alikeAt_0 ++ dktX4_alikeAt_1
theorem dksX4_alikeAt_0 : cX4_alikeAt.data.toList.drop 0 = dktX4_alikeAt_0 := by decide +kernel
theorem dksX4_alikeAt_1 : cX4_alikeAt.data.toList.drop 24 = dktX4_alikeAt_1 := dk_seg dksX4_alikeAt_0 24 rfl rfl
theorem dksX4_alikeAt_2 : cX4_alikeAt.data.toList.drop 48 = dktX4_alikeAt_2 := dk_seg dksX4_alikeAt_1 24 rfl rfl
theorem dksX4_alikeAt_3 : cX4_alikeAt.data.toList.drop 71 = dktX4_alikeAt_3 := dk_seg dksX4_alikeAt_2 23 rfl rfl
theorem dksX4_alikeAt_4 : cX4_alikeAt.data.toList.drop 94 = dktX4_alikeAt_4 := dk_seg dksX4_alikeAt_3 23 rfl rfl
theorem dX4_alikeAt_0 : decode cX4_alikeAt 0 = .ok (.iconst 0, 1) := dk_3 (dk_at dksX4_alikeAt_0 0 rfl rfl)
theorem dX4_alikeAt_1 : decode cX4_alikeAt 1 = .ok (.istore_n 2, 1) := dk_61 (dk_at dksX4_alikeAt_0 1 rfl rfl)
theorem dX4_alikeAt_2 : decode cX4_alikeAt 2 = .ok (.iconst 0, 1) := dk_3 (dk_at dksX4_alikeAt_0 2 rfl rfl)
theorem dX4_alikeAt_3 : decode cX4_alikeAt 3 = .ok (.istore_n 3, 1) := dk_62 (dk_at dksX4_alikeAt_0 3 rfl rfl)
theorem dX4_alikeAt_4 : decode cX4_alikeAt 4 = .ok (.iload_n 3, 1) := dk_29 (dk_at dksX4_alikeAt_0 4 rfl rfl)
theorem dX4_alikeAt_5 : decode cX4_alikeAt 5 = .ok (.aload_n 0, 1) := dk_42 (dk_at dksX4_alikeAt_0 5 rfl rfl)
theorem dX4_alikeAt_6 : decode cX4_alikeAt 6 = .ok (.getfield 280, 3) := dk_180 1 24 (dk_at dksX4_alikeAt_0 6 rfl rfl)
theorem dX4_alikeAt_9 : decode cX4_alikeAt 9 = .ok (.if_icmp .gt 98, 3) := dk_163 0 98 (dk_at dksX4_alikeAt_0 9 rfl rfl)
theorem dX4_alikeAt_12 : decode cX4_alikeAt 12 = .ok (.iconst 0, 1) := dk_3 (dk_at dksX4_alikeAt_0 12 rfl rfl)
theorem dX4_alikeAt_13 : decode cX4_alikeAt 13 = .ok (.istore 4, 2) := dk_54 4 (dk_at dksX4_alikeAt_0 13 rfl rfl)
theorem dX4_alikeAt_15 : decode cX4_alikeAt 15 = .ok (.iconst 0, 1) := dk_3 (dk_at dksX4_alikeAt_0 15 rfl rfl)
theorem dX4_alikeAt_16 : decode cX4_alikeAt 16 = .ok (.istore 5, 2) := dk_54 5 (dk_at dksX4_alikeAt_0 16 rfl rfl)
theorem dX4_alikeAt_18 : decode cX4_alikeAt 18 = .ok (.iload 5, 2) := dk_21 5 (dk_at dksX4_alikeAt_0 18 rfl rfl)
theorem dX4_alikeAt_20 : decode cX4_alikeAt 20 = .ok (.aload_n 0, 1) := dk_42 (dk_at dksX4_alikeAt_0 20 rfl rfl)
theorem dX4_alikeAt_21 : decode cX4_alikeAt 21 = .ok (.getfield 280, 3) := dk_180 1 24 (dk_at dksX4_alikeAt_0 21 rfl rfl)
theorem dX4_alikeAt_24 : decode cX4_alikeAt 24 = .ok (.if_icmp .gt 64, 3) := dk_163 0 64 (dk_at dksX4_alikeAt_1 0 rfl rfl)
theorem dX4_alikeAt_27 : decode cX4_alikeAt 27 = .ok (.aload_n 0, 1) := dk_42 (dk_at dksX4_alikeAt_1 3 rfl rfl)
theorem dX4_alikeAt_28 : decode cX4_alikeAt 28 = .ok (.getfield 67, 3) := dk_180 0 67 (dk_at dksX4_alikeAt_1 4 rfl rfl)
theorem dX4_alikeAt_31 : decode cX4_alikeAt 31 = .ok (.iload_n 3, 1) := dk_29 (dk_at dksX4_alikeAt_1 7 rfl rfl)
theorem dX4_alikeAt_32 : decode cX4_alikeAt 32 = .ok (.baload, 1) := dk_51 (dk_at dksX4_alikeAt_1 8 rfl rfl)
theorem dX4_alikeAt_33 : decode cX4_alikeAt 33 = .ok (.ifCond .eq 55, 3) := dk_153 0 55 (dk_at dksX4_alikeAt_1 9 rfl rfl)
theorem dX4_alikeAt_36 : decode cX4_alikeAt 36 = .ok (.iload 4, 2) := dk_21 4 (dk_at dksX4_alikeAt_1 12 rfl rfl)
theorem dX4_alikeAt_38 : decode cX4_alikeAt 38 = .ok (.aload_n 0, 1) := dk_42 (dk_at dksX4_alikeAt_1 14 rfl rfl)
theorem dX4_alikeAt_39 : decode cX4_alikeAt 39 = .ok (.getfield 67, 3) := dk_180 0 67 (dk_at dksX4_alikeAt_1 15 rfl rfl)
theorem dX4_alikeAt_42 : decode cX4_alikeAt 42 = .ok (.iload 5, 2) := dk_21 5 (dk_at dksX4_alikeAt_1 18 rfl rfl)
theorem dX4_alikeAt_44 : decode cX4_alikeAt 44 = .ok (.baload, 1) := dk_51 (dk_at dksX4_alikeAt_1 20 rfl rfl)
theorem dX4_alikeAt_45 : decode cX4_alikeAt 45 = .ok (.ifCond .eq 33, 3) := dk_153 0 33 (dk_at dksX4_alikeAt_1 21 rfl rfl)
theorem dX4_alikeAt_48 : decode cX4_alikeAt 48 = .ok (.aload_n 0, 1) := dk_42 (dk_at dksX4_alikeAt_2 0 rfl rfl)
theorem dX4_alikeAt_49 : decode cX4_alikeAt 49 = .ok (.getfield 71, 3) := dk_180 0 71 (dk_at dksX4_alikeAt_2 1 rfl rfl)
theorem dX4_alikeAt_52 : decode cX4_alikeAt 52 = .ok (.bipush 8, 2) := dk_16 8 (dk_at dksX4_alikeAt_2 4 rfl rfl)
theorem dX4_alikeAt_54 : decode cX4_alikeAt 54 = .ok (.iload_n 3, 1) := dk_29 (dk_at dksX4_alikeAt_2 6 rfl rfl)
theorem dX4_alikeAt_55 : decode cX4_alikeAt 55 = .ok (.imul, 1) := dk_104 (dk_at dksX4_alikeAt_2 7 rfl rfl)
theorem dX4_alikeAt_56 : decode cX4_alikeAt 56 = .ok (.iload_n 1, 1) := dk_27 (dk_at dksX4_alikeAt_2 8 rfl rfl)
theorem dX4_alikeAt_57 : decode cX4_alikeAt 57 = .ok (.iadd, 1) := dk_96 (dk_at dksX4_alikeAt_2 9 rfl rfl)
theorem dX4_alikeAt_58 : decode cX4_alikeAt 58 = .ok (.iaload, 1) := dk_46 (dk_at dksX4_alikeAt_2 10 rfl rfl)
theorem dX4_alikeAt_59 : decode cX4_alikeAt 59 = .ok (.aload_n 0, 1) := dk_42 (dk_at dksX4_alikeAt_2 11 rfl rfl)
theorem dX4_alikeAt_60 : decode cX4_alikeAt 60 = .ok (.getfield 71, 3) := dk_180 0 71 (dk_at dksX4_alikeAt_2 12 rfl rfl)
theorem dX4_alikeAt_63 : decode cX4_alikeAt 63 = .ok (.bipush 8, 2) := dk_16 8 (dk_at dksX4_alikeAt_2 15 rfl rfl)
theorem dX4_alikeAt_65 : decode cX4_alikeAt 65 = .ok (.iload 5, 2) := dk_21 5 (dk_at dksX4_alikeAt_2 17 rfl rfl)
theorem dX4_alikeAt_67 : decode cX4_alikeAt 67 = .ok (.imul, 1) := dk_104 (dk_at dksX4_alikeAt_2 19 rfl rfl)
theorem dX4_alikeAt_68 : decode cX4_alikeAt 68 = .ok (.iload_n 1, 1) := dk_27 (dk_at dksX4_alikeAt_2 20 rfl rfl)
theorem dX4_alikeAt_69 : decode cX4_alikeAt 69 = .ok (.iadd, 1) := dk_96 (dk_at dksX4_alikeAt_2 21 rfl rfl)
theorem dX4_alikeAt_70 : decode cX4_alikeAt 70 = .ok (.iaload, 1) := dk_46 (dk_at dksX4_alikeAt_2 22 rfl rfl)
theorem dX4_alikeAt_71 : decode cX4_alikeAt 71 = .ok (.if_icmp .ne 7, 3) := dk_160 0 7 (dk_at dksX4_alikeAt_3 0 rfl rfl)
theorem dX4_alikeAt_74 : decode cX4_alikeAt 74 = .ok (.iconst 1, 1) := dk_4 (dk_at dksX4_alikeAt_3 3 rfl rfl)
theorem dX4_alikeAt_75 : decode cX4_alikeAt 75 = .ok (.goto 4, 3) := dk_167 0 4 (dk_at dksX4_alikeAt_3 4 rfl rfl)
theorem dX4_alikeAt_78 : decode cX4_alikeAt 78 = .ok (.iconst 0, 1) := dk_3 (dk_at dksX4_alikeAt_3 7 rfl rfl)
theorem dX4_alikeAt_79 : decode cX4_alikeAt 79 = .ok (.iadd, 1) := dk_96 (dk_at dksX4_alikeAt_3 8 rfl rfl)
theorem dX4_alikeAt_80 : decode cX4_alikeAt 80 = .ok (.istore 4, 2) := dk_54 4 (dk_at dksX4_alikeAt_3 9 rfl rfl)
theorem dX4_alikeAt_82 : decode cX4_alikeAt 82 = .ok (.iinc 5 1, 3) := dk_132 5 1 (dk_at dksX4_alikeAt_3 11 rfl rfl)
theorem dX4_alikeAt_85 : decode cX4_alikeAt 85 = .ok (.goto (-67), 3) := dk_167 255 189 (dk_at dksX4_alikeAt_3 14 rfl rfl)
theorem dX4_alikeAt_88 : decode cX4_alikeAt 88 = .ok (.iload 4, 2) := dk_21 4 (dk_at dksX4_alikeAt_3 17 rfl rfl)
theorem dX4_alikeAt_90 : decode cX4_alikeAt 90 = .ok (.iload_n 2, 1) := dk_28 (dk_at dksX4_alikeAt_3 19 rfl rfl)
theorem dX4_alikeAt_91 : decode cX4_alikeAt 91 = .ok (.if_icmp .le 8, 3) := dk_164 0 8 (dk_at dksX4_alikeAt_3 20 rfl rfl)
theorem dX4_alikeAt_94 : decode cX4_alikeAt 94 = .ok (.iload 4, 2) := dk_21 4 (dk_at dksX4_alikeAt_4 0 rfl rfl)
theorem dX4_alikeAt_96 : decode cX4_alikeAt 96 = .ok (.goto 4, 3) := dk_167 0 4 (dk_at dksX4_alikeAt_4 2 rfl rfl)
theorem dX4_alikeAt_99 : decode cX4_alikeAt 99 = .ok (.iload_n 2, 1) := dk_28 (dk_at dksX4_alikeAt_4 5 rfl rfl)
theorem dX4_alikeAt_100 : decode cX4_alikeAt 100 = .ok (.istore_n 2, 1) := dk_61 (dk_at dksX4_alikeAt_4 6 rfl rfl)
theorem dX4_alikeAt_101 : decode cX4_alikeAt 101 = .ok (.iinc 3 1, 3) := dk_132 3 1 (dk_at dksX4_alikeAt_4 7 rfl rfl)
theorem dX4_alikeAt_104 : decode cX4_alikeAt 104 = .ok (.goto (-100), 3) := dk_167 255 156 (dk_at dksX4_alikeAt_4 10 rfl rfl)
theorem dX4_alikeAt_107 : decode cX4_alikeAt 107 = .ok (.iload_n 2, 1) := dk_28 (dk_at dksX4_alikeAt_4 13 rfl rfl)
theorem dX4_alikeAt_108 : decode cX4_alikeAt 108 = .ok (.ireturn, 1) := dk_172 (dk_at dksX4_alikeAt_4 14 rfl rfl)
abbrev cX4_seed : ByteArray := prog_19_method_109_code
def yX4_seed : MethodName := ⟨RX4, "seed", "(I)I"⟩
def dkwX4_seed_0 : List UInt8 := [27, 156, 0, 5, 2, 172, 42, 180, 1, 185, 61, 42, 27, 181, 1, 185, 28, 172]
abbrev dktX4_seed_0 : List UInt8 := dkwX4_seed_0 ++ []
theorem dksX4_seed_0 : cX4_seed.data.toList.drop 0 = dktX4_seed_0 := by decide +kernel
theorem dX4_seed_0 : decode cX4_seed 0 = .ok (.iload_n 1, 1) := dk_27 (dk_at dksX4_seed_0 0 rfl rfl)
theorem dX4_seed_1 : decode cX4_seed 1 = .ok (.ifCond .ge 5, 3) := dk_156 0 5 (dk_at dksX4_seed_0 1 rfl rfl)
theorem dX4_seed_4 : decode cX4_seed 4 = .ok (.iconst (-1), 1) := dk_2 (dk_at dksX4_seed_0 4 rfl rfl)
theorem dX4_seed_5 : decode cX4_seed 5 = .ok (.ireturn, 1) := dk_172 (dk_at dksX4_seed_0 5 rfl rfl)
theorem dX4_seed_6 : decode cX4_seed 6 = .ok (.aload_n 0, 1) := dk_42 (dk_at dksX4_seed_0 6 rfl rfl)
theorem dX4_seed_7 : decode cX4_seed 7 = .ok (.getfield 441, 3) := dk_180 1 185 (dk_at dksX4_seed_0 7 rfl rfl)
theorem dX4_seed_10 : decode cX4_seed 10 = .ok (.istore_n 2, 1) := dk_61 (dk_at dksX4_seed_0 10 rfl rfl)
theorem dX4_seed_11 : decode cX4_seed 11 = .ok (.aload_n 0, 1) := dk_42 (dk_at dksX4_seed_0 11 rfl rfl)
theorem dX4_seed_12 : decode cX4_seed 12 = .ok (.iload_n 1, 1) := dk_27 (dk_at dksX4_seed_0 12 rfl rfl)
theorem dX4_seed_13 : decode cX4_seed 13 = .ok (.putfield 441, 3) := dk_181 1 185 (dk_at dksX4_seed_0 13 rfl rfl)
theorem dX4_seed_16 : decode cX4_seed 16 = .ok (.iload_n 2, 1) := dk_28 (dk_at dksX4_seed_0 16 rfl rfl)
theorem dX4_seed_17 : decode cX4_seed 17 = .ok (.ireturn, 1) := dk_172 (dk_at dksX4_seed_0 17 rfl rfl)
abbrev cX4_storms : ByteArray := prog_19_method_111_code
def yX4_storms : MethodName := ⟨RX4, "storms", "(IIII)I"⟩
def dkwX4_storms_8 : List UInt8 := [182, 1, 132, 132, 7, 1, 167, 255, 141, 21, 4, 154, 0, 8, 21, 5, 167, 0, 5, 21, 6, 172]
abbrev dktX4_storms_8 : List UInt8 := dkwX4_storms_8 ++ []
def dkwX4_storms_7 : List UInt8 := [21, 5, 42, 182, 1, 124, 96, 54, 5, 21, 6, 42, 182, 1, 84, 184, 1, 87, 96, 54, 6, 42]
abbrev dktX4_storms_7 : List UInt8 := dkwX4_storms_7 ++ dktX4_storms_8
def dkwX4_storms_6 : List UInt8 := [96, 46, 42, 180, 0, 39, 3, 46, 96, 184, 1, 77, 79, 42, 182, 1, 116, 87, 132, 8, 1, 167, 255, 181]
abbrev dktX4_storms_6 : List UInt8 := dkwX4_storms_6 ++ dktX4_storms_7
def dkwX4_storms_5 : List UInt8 := [5, 46, 182, 1, 200, 54, 9, 42, 180, 0, 39, 16, 14, 21, 9, 96, 42, 180, 0, 39, 16, 14, 21, 9]
abbrev dktX4_storms_5 : List UInt8 := dkwX4_storms_5 ++ dktX4_storms_6
def dkwX4_storms_4 : List UInt8 := [42, 16, 100, 182, 1, 200, 29, 162, 0, 54, 42, 180, 0, 39, 5, 46, 158, 0, 45, 42, 42, 180, 0, 39]
abbrev dktX4_storms_4 : List UInt8 := dkwX4_storms_4 ++ dktX4_storms_5
def dkwX4_storms_3 : List UInt8 := [54, 6, 42, 182, 1, 129, 3, 54, 7, 21, 7, 27, 162, 0, 115, 3, 54, 8, 21, 8, 28, 162, 0, 75]
abbrev dktX4_storms_3 : List UInt8 := dkwX4_storms_3 ++ dktX4_storms_4
def dkwX4_storms_2 : List UInt8 := [9, 10, 184, 0, 124, 154, 0, 5, 2, 172, 42, 42, 180, 1, 185, 133, 181, 1, 188, 3, 54, 5, 3]
abbrev dktX4_storms_2 : List UInt8 := dkwX4_storms_2 ++ dktX4_storms_3
def dkwX4_storms_1 : List UInt8 := [20, 1, 135, 184, 0, 124, 153, 0, 26, 29, 133, 9, 20, 1, 127, 184, 0, 124, 153, 0, 14, 21, 4, 133]
abbrev dktX4_storms_1 : List UInt8 := dkwX4_storms_1 ++ dktX4_storms_2
def dkwX4_storms_0 : List UInt8 := [42, 182, 1, 110, 153, 0, 50, 27, 133, 10, 20, 1, 140, 184, 0, 124, 153, 0, 38, 28, 133, 10]
abbrev dktX4_storms_0 : List UInt8 := dkwX4_storms_0 ++ dktX4_storms_1
theorem dksX4_storms_0 : cX4_storms.data.toList.drop 0 = dktX4_storms_0 := by decide +kernel
theorem dksX4_storms_1 : cX4_storms.data.toList.drop 22 = dktX4_storms_1 := dk_seg dksX4_storms_0 22 rfl rfl
theorem dksX4_storms_2 : cX4_storms.data.toList.drop 46 = dktX4_storms_2 := dk_seg dksX4_storms_1 24 rfl rfl
theorem dksX4_storms_3 : cX4_storms.data.toList.drop 69 = dktX4_storms_3 := dk_seg dksX4_storms_2 23 rfl rfl
theorem dksX4_storms_4 : cX4_storms.data.toList.drop 93 = dktX4_storms_4 := dk_seg dksX4_storms_3 24 rfl rfl
theorem dksX4_storms_5 : cX4_storms.data.toList.drop 117 = dktX4_storms_5 := dk_seg dksX4_storms_4 24 rfl rfl
theorem dksX4_storms_6 : cX4_storms.data.toList.drop 141 = dktX4_storms_6 := dk_seg dksX4_storms_5 24 rfl rfl
theorem dksX4_storms_7 : cX4_storms.data.toList.drop 165 = dktX4_storms_7 := dk_seg dksX4_storms_6 24 rfl rfl
theorem dksX4_storms_8 : cX4_storms.data.toList.drop 187 = dktX4_storms_8 := dk_seg dksX4_storms_7 22 rfl rfl
theorem dX4_storms_0 : decode cX4_storms 0 = .ok (.aload_n 0, 1) := dk_42 (dk_at dksX4_storms_0 0 rfl rfl)
theorem dX4_storms_1 : decode cX4_storms 1 = .ok (.invokevirtual 366, 3) := dk_182 1 110 (dk_at dksX4_storms_0 1 rfl rfl)
theorem dX4_storms_4 : decode cX4_storms 4 = .ok (.ifCond .eq 50, 3) := dk_153 0 50 (dk_at dksX4_storms_0 4 rfl rfl)
theorem dX4_storms_7 : decode cX4_storms 7 = .ok (.iload_n 1, 1) := dk_27 (dk_at dksX4_storms_0 7 rfl rfl)
theorem dX4_storms_8 : decode cX4_storms 8 = .ok (.i2l, 1) := dk_133 (dk_at dksX4_storms_0 8 rfl rfl)
theorem dX4_storms_9 : decode cX4_storms 9 = .ok (.lconst 1, 1) := dk_10 (dk_at dksX4_storms_0 9 rfl rfl)
theorem dX4_storms_10 : decode cX4_storms 10 = .ok (.ldc2_w 396, 3) := dk_20 1 140 (dk_at dksX4_storms_0 10 rfl rfl)
theorem dX4_storms_13 : decode cX4_storms 13 = .ok (.invokestatic 124, 3) := dk_184 0 124 (dk_at dksX4_storms_0 13 rfl rfl)
theorem dX4_storms_16 : decode cX4_storms 16 = .ok (.ifCond .eq 38, 3) := dk_153 0 38 (dk_at dksX4_storms_0 16 rfl rfl)
theorem dX4_storms_19 : decode cX4_storms 19 = .ok (.iload_n 2, 1) := dk_28 (dk_at dksX4_storms_0 19 rfl rfl)
theorem dX4_storms_20 : decode cX4_storms 20 = .ok (.i2l, 1) := dk_133 (dk_at dksX4_storms_0 20 rfl rfl)
theorem dX4_storms_21 : decode cX4_storms 21 = .ok (.lconst 1, 1) := dk_10 (dk_at dksX4_storms_0 21 rfl rfl)
theorem dX4_storms_22 : decode cX4_storms 22 = .ok (.ldc2_w 391, 3) := dk_20 1 135 (dk_at dksX4_storms_1 0 rfl rfl)
theorem dX4_storms_25 : decode cX4_storms 25 = .ok (.invokestatic 124, 3) := dk_184 0 124 (dk_at dksX4_storms_1 3 rfl rfl)
theorem dX4_storms_28 : decode cX4_storms 28 = .ok (.ifCond .eq 26, 3) := dk_153 0 26 (dk_at dksX4_storms_1 6 rfl rfl)
theorem dX4_storms_31 : decode cX4_storms 31 = .ok (.iload_n 3, 1) := dk_29 (dk_at dksX4_storms_1 9 rfl rfl)
theorem dX4_storms_32 : decode cX4_storms 32 = .ok (.i2l, 1) := dk_133 (dk_at dksX4_storms_1 10 rfl rfl)
theorem dX4_storms_33 : decode cX4_storms 33 = .ok (.lconst 0, 1) := dk_9 (dk_at dksX4_storms_1 11 rfl rfl)
theorem dX4_storms_34 : decode cX4_storms 34 = .ok (.ldc2_w 383, 3) := dk_20 1 127 (dk_at dksX4_storms_1 12 rfl rfl)
theorem dX4_storms_37 : decode cX4_storms 37 = .ok (.invokestatic 124, 3) := dk_184 0 124 (dk_at dksX4_storms_1 15 rfl rfl)
theorem dX4_storms_40 : decode cX4_storms 40 = .ok (.ifCond .eq 14, 3) := dk_153 0 14 (dk_at dksX4_storms_1 18 rfl rfl)
theorem dX4_storms_43 : decode cX4_storms 43 = .ok (.iload 4, 2) := dk_21 4 (dk_at dksX4_storms_1 21 rfl rfl)
theorem dX4_storms_45 : decode cX4_storms 45 = .ok (.i2l, 1) := dk_133 (dk_at dksX4_storms_1 23 rfl rfl)
theorem dX4_storms_46 : decode cX4_storms 46 = .ok (.lconst 0, 1) := dk_9 (dk_at dksX4_storms_2 0 rfl rfl)
theorem dX4_storms_47 : decode cX4_storms 47 = .ok (.lconst 1, 1) := dk_10 (dk_at dksX4_storms_2 1 rfl rfl)
theorem dX4_storms_48 : decode cX4_storms 48 = .ok (.invokestatic 124, 3) := dk_184 0 124 (dk_at dksX4_storms_2 2 rfl rfl)
theorem dX4_storms_51 : decode cX4_storms 51 = .ok (.ifCond .ne 5, 3) := dk_154 0 5 (dk_at dksX4_storms_2 5 rfl rfl)
theorem dX4_storms_54 : decode cX4_storms 54 = .ok (.iconst (-1), 1) := dk_2 (dk_at dksX4_storms_2 8 rfl rfl)
theorem dX4_storms_55 : decode cX4_storms 55 = .ok (.ireturn, 1) := dk_172 (dk_at dksX4_storms_2 9 rfl rfl)
theorem dX4_storms_56 : decode cX4_storms 56 = .ok (.aload_n 0, 1) := dk_42 (dk_at dksX4_storms_2 10 rfl rfl)
theorem dX4_storms_57 : decode cX4_storms 57 = .ok (.aload_n 0, 1) := dk_42 (dk_at dksX4_storms_2 11 rfl rfl)
theorem dX4_storms_58 : decode cX4_storms 58 = .ok (.getfield 441, 3) := dk_180 1 185 (dk_at dksX4_storms_2 12 rfl rfl)
theorem dX4_storms_61 : decode cX4_storms 61 = .ok (.i2l, 1) := dk_133 (dk_at dksX4_storms_2 15 rfl rfl)
theorem dX4_storms_62 : decode cX4_storms 62 = .ok (.putfield 444, 3) := dk_181 1 188 (dk_at dksX4_storms_2 16 rfl rfl)
theorem dX4_storms_65 : decode cX4_storms 65 = .ok (.iconst 0, 1) := dk_3 (dk_at dksX4_storms_2 19 rfl rfl)
theorem dX4_storms_66 : decode cX4_storms 66 = .ok (.istore 5, 2) := dk_54 5 (dk_at dksX4_storms_2 20 rfl rfl)
theorem dX4_storms_68 : decode cX4_storms 68 = .ok (.iconst 0, 1) := dk_3 (dk_at dksX4_storms_2 22 rfl rfl)
theorem dX4_storms_69 : decode cX4_storms 69 = .ok (.istore 6, 2) := dk_54 6 (dk_at dksX4_storms_3 0 rfl rfl)
theorem dX4_storms_71 : decode cX4_storms 71 = .ok (.aload_n 0, 1) := dk_42 (dk_at dksX4_storms_3 2 rfl rfl)
theorem dX4_storms_72 : decode cX4_storms 72 = .ok (.invokevirtual 385, 3) := dk_182 1 129 (dk_at dksX4_storms_3 3 rfl rfl)
theorem dX4_storms_75 : decode cX4_storms 75 = .ok (.iconst 0, 1) := dk_3 (dk_at dksX4_storms_3 6 rfl rfl)
theorem dX4_storms_76 : decode cX4_storms 76 = .ok (.istore 7, 2) := dk_54 7 (dk_at dksX4_storms_3 7 rfl rfl)
theorem dX4_storms_78 : decode cX4_storms 78 = .ok (.iload 7, 2) := dk_21 7 (dk_at dksX4_storms_3 9 rfl rfl)
theorem dX4_storms_80 : decode cX4_storms 80 = .ok (.iload_n 1, 1) := dk_27 (dk_at dksX4_storms_3 11 rfl rfl)
theorem dX4_storms_81 : decode cX4_storms 81 = .ok (.if_icmp .ge 115, 3) := dk_162 0 115 (dk_at dksX4_storms_3 12 rfl rfl)
theorem dX4_storms_84 : decode cX4_storms 84 = .ok (.iconst 0, 1) := dk_3 (dk_at dksX4_storms_3 15 rfl rfl)
theorem dX4_storms_85 : decode cX4_storms 85 = .ok (.istore 8, 2) := dk_54 8 (dk_at dksX4_storms_3 16 rfl rfl)
theorem dX4_storms_87 : decode cX4_storms 87 = .ok (.iload 8, 2) := dk_21 8 (dk_at dksX4_storms_3 18 rfl rfl)
theorem dX4_storms_89 : decode cX4_storms 89 = .ok (.iload_n 2, 1) := dk_28 (dk_at dksX4_storms_3 20 rfl rfl)
theorem dX4_storms_90 : decode cX4_storms 90 = .ok (.if_icmp .ge 75, 3) := dk_162 0 75 (dk_at dksX4_storms_3 21 rfl rfl)
theorem dX4_storms_93 : decode cX4_storms 93 = .ok (.aload_n 0, 1) := dk_42 (dk_at dksX4_storms_4 0 rfl rfl)
theorem dX4_storms_94 : decode cX4_storms 94 = .ok (.bipush 100, 2) := dk_16 100 (dk_at dksX4_storms_4 1 rfl rfl)
theorem dX4_storms_96 : decode cX4_storms 96 = .ok (.invokevirtual 456, 3) := dk_182 1 200 (dk_at dksX4_storms_4 3 rfl rfl)
theorem dX4_storms_99 : decode cX4_storms 99 = .ok (.iload_n 3, 1) := dk_29 (dk_at dksX4_storms_4 6 rfl rfl)
theorem dX4_storms_100 : decode cX4_storms 100 = .ok (.if_icmp .ge 54, 3) := dk_162 0 54 (dk_at dksX4_storms_4 7 rfl rfl)
theorem dX4_storms_103 : decode cX4_storms 103 = .ok (.aload_n 0, 1) := dk_42 (dk_at dksX4_storms_4 10 rfl rfl)
theorem dX4_storms_104 : decode cX4_storms 104 = .ok (.getfield 39, 3) := dk_180 0 39 (dk_at dksX4_storms_4 11 rfl rfl)
theorem dX4_storms_107 : decode cX4_storms 107 = .ok (.iconst 2, 1) := dk_5 (dk_at dksX4_storms_4 14 rfl rfl)
theorem dX4_storms_108 : decode cX4_storms 108 = .ok (.iaload, 1) := dk_46 (dk_at dksX4_storms_4 15 rfl rfl)
theorem dX4_storms_109 : decode cX4_storms 109 = .ok (.ifCond .le 45, 3) := dk_158 0 45 (dk_at dksX4_storms_4 16 rfl rfl)
theorem dX4_storms_112 : decode cX4_storms 112 = .ok (.aload_n 0, 1) := dk_42 (dk_at dksX4_storms_4 19 rfl rfl)
theorem dX4_storms_113 : decode cX4_storms 113 = .ok (.aload_n 0, 1) := dk_42 (dk_at dksX4_storms_4 20 rfl rfl)
theorem dX4_storms_114 : decode cX4_storms 114 = .ok (.getfield 39, 3) := dk_180 0 39 (dk_at dksX4_storms_4 21 rfl rfl)
theorem dX4_storms_117 : decode cX4_storms 117 = .ok (.iconst 2, 1) := dk_5 (dk_at dksX4_storms_5 0 rfl rfl)
theorem dX4_storms_118 : decode cX4_storms 118 = .ok (.iaload, 1) := dk_46 (dk_at dksX4_storms_5 1 rfl rfl)
theorem dX4_storms_119 : decode cX4_storms 119 = .ok (.invokevirtual 456, 3) := dk_182 1 200 (dk_at dksX4_storms_5 2 rfl rfl)
theorem dX4_storms_122 : decode cX4_storms 122 = .ok (.istore 9, 2) := dk_54 9 (dk_at dksX4_storms_5 5 rfl rfl)
theorem dX4_storms_124 : decode cX4_storms 124 = .ok (.aload_n 0, 1) := dk_42 (dk_at dksX4_storms_5 7 rfl rfl)
theorem dX4_storms_125 : decode cX4_storms 125 = .ok (.getfield 39, 3) := dk_180 0 39 (dk_at dksX4_storms_5 8 rfl rfl)
theorem dX4_storms_128 : decode cX4_storms 128 = .ok (.bipush 14, 2) := dk_16 14 (dk_at dksX4_storms_5 11 rfl rfl)
theorem dX4_storms_130 : decode cX4_storms 130 = .ok (.iload 9, 2) := dk_21 9 (dk_at dksX4_storms_5 13 rfl rfl)
theorem dX4_storms_132 : decode cX4_storms 132 = .ok (.iadd, 1) := dk_96 (dk_at dksX4_storms_5 15 rfl rfl)
theorem dX4_storms_133 : decode cX4_storms 133 = .ok (.aload_n 0, 1) := dk_42 (dk_at dksX4_storms_5 16 rfl rfl)
theorem dX4_storms_134 : decode cX4_storms 134 = .ok (.getfield 39, 3) := dk_180 0 39 (dk_at dksX4_storms_5 17 rfl rfl)
theorem dX4_storms_137 : decode cX4_storms 137 = .ok (.bipush 14, 2) := dk_16 14 (dk_at dksX4_storms_5 20 rfl rfl)
theorem dX4_storms_139 : decode cX4_storms 139 = .ok (.iload 9, 2) := dk_21 9 (dk_at dksX4_storms_5 22 rfl rfl)
theorem dX4_storms_141 : decode cX4_storms 141 = .ok (.iadd, 1) := dk_96 (dk_at dksX4_storms_6 0 rfl rfl)
theorem dX4_storms_142 : decode cX4_storms 142 = .ok (.iaload, 1) := dk_46 (dk_at dksX4_storms_6 1 rfl rfl)
theorem dX4_storms_143 : decode cX4_storms 143 = .ok (.aload_n 0, 1) := dk_42 (dk_at dksX4_storms_6 2 rfl rfl)
theorem dX4_storms_144 : decode cX4_storms 144 = .ok (.getfield 39, 3) := dk_180 0 39 (dk_at dksX4_storms_6 3 rfl rfl)
theorem dX4_storms_147 : decode cX4_storms 147 = .ok (.iconst 0, 1) := dk_3 (dk_at dksX4_storms_6 6 rfl rfl)
theorem dX4_storms_148 : decode cX4_storms 148 = .ok (.iaload, 1) := dk_46 (dk_at dksX4_storms_6 7 rfl rfl)
theorem dX4_storms_149 : decode cX4_storms 149 = .ok (.iadd, 1) := dk_96 (dk_at dksX4_storms_6 8 rfl rfl)
theorem dX4_storms_150 : decode cX4_storms 150 = .ok (.invokestatic 333, 3) := dk_184 1 77 (dk_at dksX4_storms_6 9 rfl rfl)
theorem dX4_storms_153 : decode cX4_storms 153 = .ok (.iastore, 1) := dk_79 (dk_at dksX4_storms_6 12 rfl rfl)
theorem dX4_storms_154 : decode cX4_storms 154 = .ok (.aload_n 0, 1) := dk_42 (dk_at dksX4_storms_6 13 rfl rfl)
theorem dX4_storms_155 : decode cX4_storms 155 = .ok (.invokevirtual 372, 3) := dk_182 1 116 (dk_at dksX4_storms_6 14 rfl rfl)
theorem dX4_storms_158 : decode cX4_storms 158 = .ok (.pop, 1) := dk_87 (dk_at dksX4_storms_6 17 rfl rfl)
theorem dX4_storms_159 : decode cX4_storms 159 = .ok (.iinc 8 1, 3) := dk_132 8 1 (dk_at dksX4_storms_6 18 rfl rfl)
theorem dX4_storms_162 : decode cX4_storms 162 = .ok (.goto (-75), 3) := dk_167 255 181 (dk_at dksX4_storms_6 21 rfl rfl)
theorem dX4_storms_165 : decode cX4_storms 165 = .ok (.iload 5, 2) := dk_21 5 (dk_at dksX4_storms_7 0 rfl rfl)
theorem dX4_storms_167 : decode cX4_storms 167 = .ok (.aload_n 0, 1) := dk_42 (dk_at dksX4_storms_7 2 rfl rfl)
theorem dX4_storms_168 : decode cX4_storms 168 = .ok (.invokevirtual 380, 3) := dk_182 1 124 (dk_at dksX4_storms_7 3 rfl rfl)
theorem dX4_storms_171 : decode cX4_storms 171 = .ok (.iadd, 1) := dk_96 (dk_at dksX4_storms_7 6 rfl rfl)
theorem dX4_storms_172 : decode cX4_storms 172 = .ok (.istore 5, 2) := dk_54 5 (dk_at dksX4_storms_7 7 rfl rfl)
theorem dX4_storms_174 : decode cX4_storms 174 = .ok (.iload 6, 2) := dk_21 6 (dk_at dksX4_storms_7 9 rfl rfl)
theorem dX4_storms_176 : decode cX4_storms 176 = .ok (.aload_n 0, 1) := dk_42 (dk_at dksX4_storms_7 11 rfl rfl)
theorem dX4_storms_177 : decode cX4_storms 177 = .ok (.invokevirtual 340, 3) := dk_182 1 84 (dk_at dksX4_storms_7 12 rfl rfl)
theorem dX4_storms_180 : decode cX4_storms 180 = .ok (.invokestatic 343, 3) := dk_184 1 87 (dk_at dksX4_storms_7 15 rfl rfl)
theorem dX4_storms_183 : decode cX4_storms 183 = .ok (.iadd, 1) := dk_96 (dk_at dksX4_storms_7 18 rfl rfl)
theorem dX4_storms_184 : decode cX4_storms 184 = .ok (.istore 6, 2) := dk_54 6 (dk_at dksX4_storms_7 19 rfl rfl)
theorem dX4_storms_186 : decode cX4_storms 186 = .ok (.aload_n 0, 1) := dk_42 (dk_at dksX4_storms_7 21 rfl rfl)
theorem dX4_storms_187 : decode cX4_storms 187 = .ok (.invokevirtual 388, 3) := dk_182 1 132 (dk_at dksX4_storms_8 0 rfl rfl)
theorem dX4_storms_190 : decode cX4_storms 190 = .ok (.iinc 7 1, 3) := dk_132 7 1 (dk_at dksX4_storms_8 3 rfl rfl)
theorem dX4_storms_193 : decode cX4_storms 193 = .ok (.goto (-115), 3) := dk_167 255 141 (dk_at dksX4_storms_8 6 rfl rfl)
theorem dX4_storms_196 : decode cX4_storms 196 = .ok (.iload 4, 2) := dk_21 4 (dk_at dksX4_storms_8 9 rfl rfl)
theorem dX4_storms_198 : decode cX4_storms 198 = .ok (.ifCond .ne 8, 3) := dk_154 0 8 (dk_at dksX4_storms_8 11 rfl rfl)
theorem dX4_storms_201 : decode cX4_storms 201 = .ok (.iload 5, 2) := dk_21 5 (dk_at dksX4_storms_8 14 rfl rfl)
theorem dX4_storms_203 : decode cX4_storms 203 = .ok (.goto 5, 3) := dk_167 0 5 (dk_at dksX4_storms_8 16 rfl rfl)
theorem dX4_storms_206 : decode cX4_storms 206 = .ok (.iload 6, 2) := dk_21 6 (dk_at dksX4_storms_8 19 rfl rfl)
theorem dX4_storms_208 : decode cX4_storms 208 = .ok (.ireturn, 1) := dk_172 (dk_at dksX4_storms_8 21 rfl rfl)
abbrev cX4_draw : ByteArray := prog_19_method_110_code
def yX4_draw : MethodName := ⟨RX4, "draw", "(I)I"⟩
def dkwX4_draw_1 : List UInt8 := [20, 1, 198, 109, 27, 133, 113, 136, 172]
abbrev dktX4_draw_1 : List UInt8 := dkwX4_draw_1 ++ []
def dkwX4_draw_0 : List UInt8 := [42, 42, 180, 1, 188, 20, 1, 192, 105, 20, 1, 194, 97, 20, 1, 196, 113, 181, 1, 188, 42, 180, 1, 188]
abbrev dktX4_draw_0 : List UInt8 := dkwX4_draw_0 ++ dktX4_draw_1
theorem dksX4_draw_0 : cX4_draw.data.toList.drop 0 = dktX4_draw_0 := by decide +kernel
theorem dksX4_draw_1 : cX4_draw.data.toList.drop 24 = dktX4_draw_1 := dk_seg dksX4_draw_0 24 rfl rfl
theorem dX4_draw_0 : decode cX4_draw 0 = .ok (.aload_n 0, 1) := dk_42 (dk_at dksX4_draw_0 0 rfl rfl)
theorem dX4_draw_1 : decode cX4_draw 1 = .ok (.aload_n 0, 1) := dk_42 (dk_at dksX4_draw_0 1 rfl rfl)
theorem dX4_draw_2 : decode cX4_draw 2 = .ok (.getfield 444, 3) := dk_180 1 188 (dk_at dksX4_draw_0 2 rfl rfl)
theorem dX4_draw_5 : decode cX4_draw 5 = .ok (.ldc2_w 448, 3) := dk_20 1 192 (dk_at dksX4_draw_0 5 rfl rfl)
theorem dX4_draw_8 : decode cX4_draw 8 = .ok (.lmul, 1) := dk_105 (dk_at dksX4_draw_0 8 rfl rfl)
theorem dX4_draw_9 : decode cX4_draw 9 = .ok (.ldc2_w 450, 3) := dk_20 1 194 (dk_at dksX4_draw_0 9 rfl rfl)
theorem dX4_draw_12 : decode cX4_draw 12 = .ok (.ladd, 1) := dk_97 (dk_at dksX4_draw_0 12 rfl rfl)
theorem dX4_draw_13 : decode cX4_draw 13 = .ok (.ldc2_w 452, 3) := dk_20 1 196 (dk_at dksX4_draw_0 13 rfl rfl)
theorem dX4_draw_16 : decode cX4_draw 16 = .ok (.lrem, 1) := dk_113 (dk_at dksX4_draw_0 16 rfl rfl)
theorem dX4_draw_17 : decode cX4_draw 17 = .ok (.putfield 444, 3) := dk_181 1 188 (dk_at dksX4_draw_0 17 rfl rfl)
theorem dX4_draw_20 : decode cX4_draw 20 = .ok (.aload_n 0, 1) := dk_42 (dk_at dksX4_draw_0 20 rfl rfl)
theorem dX4_draw_21 : decode cX4_draw 21 = .ok (.getfield 444, 3) := dk_180 1 188 (dk_at dksX4_draw_0 21 rfl rfl)
theorem dX4_draw_24 : decode cX4_draw 24 = .ok (.ldc2_w 454, 3) := dk_20 1 198 (dk_at dksX4_draw_1 0 rfl rfl)
theorem dX4_draw_27 : decode cX4_draw 27 = .ok (.ldiv, 1) := dk_109 (dk_at dksX4_draw_1 3 rfl rfl)
theorem dX4_draw_28 : decode cX4_draw 28 = .ok (.iload_n 1, 1) := dk_27 (dk_at dksX4_draw_1 4 rfl rfl)
theorem dX4_draw_29 : decode cX4_draw 29 = .ok (.i2l, 1) := dk_133 (dk_at dksX4_draw_1 5 rfl rfl)
theorem dX4_draw_30 : decode cX4_draw 30 = .ok (.lrem, 1) := dk_113 (dk_at dksX4_draw_1 6 rfl rfl)
theorem dX4_draw_31 : decode cX4_draw 31 = .ok (.l2i, 1) := dk_136 (dk_at dksX4_draw_1 7 rfl rfl)
theorem dX4_draw_32 : decode cX4_draw 32 = .ok (.ireturn, 1) := dk_172 (dk_at dksX4_draw_1 8 rfl rfl)
abbrev cX4_count : ByteArray := prog_19_method_112_code
def yX4_count : MethodName := ⟨RX4, "count", "(I)I"⟩
def dkwX4_count_5 : List UInt8 := [180, 1, 185, 172, 42, 180, 0, 86, 172, 2, 172]
abbrev dktX4_count_5 : List UInt8 := dkwX4_count_5 ++ []
def dkwX4_count_4 : List UInt8 := [182, 1, 63, 172, 42, 182, 1, 124, 172, 42, 180, 0, 39, 16, 123, 46, 172, 42, 180, 1, 33, 172, 42]
abbrev dktX4_count_4 : List UInt8 := dkwX4_count_4 ++ dktX4_count_5
def dkwX4_count_3 : List UInt8 := [172, 42, 182, 1, 84, 172, 42, 180, 0, 39, 16, 11, 46, 172, 42, 42, 180, 0, 39, 16, 10, 46]
abbrev dktX4_count_3 : List UInt8 := dkwX4_count_3 ++ dktX4_count_4
def dkwX4_count_2 : List UInt8 := [42, 180, 0, 39, 27, 46, 172, 42, 180, 1, 24, 172, 42, 180, 0, 42, 172, 42, 180, 0, 39, 16, 10, 46]
abbrev dktX4_count_2 : List UInt8 := dkwX4_count_2 ++ dktX4_count_3
def dkwX4_count_1 : List UInt8 := [170, 0, 0, 0, 0, 0, 153, 0, 0, 0, 0, 0, 0, 0, 14, 0, 0, 0, 75, 0, 0, 0, 75, 0, 0, 0, 75, 0, 0, 0, 75, 0, 0, 0, 82, 0, 0, 0, 87, 0, 0, 0, 92, 0, 0, 0, 100, 0, 0, 0, 105, 0, 0, 0, 113, 0, 0, 0, 125, 0, 0, 0, 130, 0, 0, 0, 138, 0, 0, 0, 143, 0, 0, 0, 148]
abbrev dktX4_count_1 : List UInt8 := dkwX4_count_1 ++ dktX4_count_2
def dkwX4_count_0 : List UInt8 := [27]
abbrev dktX4_count_0 : List UInt8 := dkwX4_count_0 ++ dktX4_count_1
theorem dksX4_count_0 : cX4_count.data.toList.drop 0 = dktX4_count_0 := by decide +kernel
theorem dksX4_count_1 : cX4_count.data.toList.drop 1 = dktX4_count_1 := dk_seg dksX4_count_0 1 rfl rfl
theorem dksX4_count_2 : cX4_count.data.toList.drop 76 = dktX4_count_2 := dk_seg dksX4_count_1 75 rfl rfl
theorem dksX4_count_3 : cX4_count.data.toList.drop 100 = dktX4_count_3 := dk_seg dksX4_count_2 24 rfl rfl
theorem dksX4_count_4 : cX4_count.data.toList.drop 122 = dktX4_count_4 := dk_seg dksX4_count_3 22 rfl rfl
theorem dksX4_count_5 : cX4_count.data.toList.drop 145 = dktX4_count_5 := dk_seg dksX4_count_4 23 rfl rfl
theorem dX4_count_0 : decode cX4_count 0 = .ok (.iload_n 1, 1) := dk_27 (dk_at dksX4_count_0 0 rfl rfl)
theorem dX4_count_1 : decode cX4_count 1 = .ok (.tableswitch 153 0 14 #[75, 75, 75, 75, 82, 87, 92, 100, 105, 113, 125, 130, 138, 143, 148], 75) := by decide +kernel
theorem dX4_count_76 : decode cX4_count 76 = .ok (.aload_n 0, 1) := dk_42 (dk_at dksX4_count_2 0 rfl rfl)
theorem dX4_count_77 : decode cX4_count 77 = .ok (.getfield 39, 3) := dk_180 0 39 (dk_at dksX4_count_2 1 rfl rfl)
theorem dX4_count_80 : decode cX4_count 80 = .ok (.iload_n 1, 1) := dk_27 (dk_at dksX4_count_2 4 rfl rfl)
theorem dX4_count_81 : decode cX4_count 81 = .ok (.iaload, 1) := dk_46 (dk_at dksX4_count_2 5 rfl rfl)
theorem dX4_count_82 : decode cX4_count 82 = .ok (.ireturn, 1) := dk_172 (dk_at dksX4_count_2 6 rfl rfl)
theorem dX4_count_83 : decode cX4_count 83 = .ok (.aload_n 0, 1) := dk_42 (dk_at dksX4_count_2 7 rfl rfl)
theorem dX4_count_84 : decode cX4_count 84 = .ok (.getfield 280, 3) := dk_180 1 24 (dk_at dksX4_count_2 8 rfl rfl)
theorem dX4_count_87 : decode cX4_count 87 = .ok (.ireturn, 1) := dk_172 (dk_at dksX4_count_2 11 rfl rfl)
theorem dX4_count_88 : decode cX4_count 88 = .ok (.aload_n 0, 1) := dk_42 (dk_at dksX4_count_2 12 rfl rfl)
theorem dX4_count_89 : decode cX4_count 89 = .ok (.getfield 42, 3) := dk_180 0 42 (dk_at dksX4_count_2 13 rfl rfl)
theorem dX4_count_92 : decode cX4_count 92 = .ok (.ireturn, 1) := dk_172 (dk_at dksX4_count_2 16 rfl rfl)
theorem dX4_count_93 : decode cX4_count 93 = .ok (.aload_n 0, 1) := dk_42 (dk_at dksX4_count_2 17 rfl rfl)
theorem dX4_count_94 : decode cX4_count 94 = .ok (.getfield 39, 3) := dk_180 0 39 (dk_at dksX4_count_2 18 rfl rfl)
theorem dX4_count_97 : decode cX4_count 97 = .ok (.bipush 10, 2) := dk_16 10 (dk_at dksX4_count_2 21 rfl rfl)
theorem dX4_count_99 : decode cX4_count 99 = .ok (.iaload, 1) := dk_46 (dk_at dksX4_count_2 23 rfl rfl)
theorem dX4_count_100 : decode cX4_count 100 = .ok (.ireturn, 1) := dk_172 (dk_at dksX4_count_3 0 rfl rfl)
theorem dX4_count_101 : decode cX4_count 101 = .ok (.aload_n 0, 1) := dk_42 (dk_at dksX4_count_3 1 rfl rfl)
theorem dX4_count_102 : decode cX4_count 102 = .ok (.invokevirtual 340, 3) := dk_182 1 84 (dk_at dksX4_count_3 2 rfl rfl)
theorem dX4_count_105 : decode cX4_count 105 = .ok (.ireturn, 1) := dk_172 (dk_at dksX4_count_3 5 rfl rfl)
theorem dX4_count_106 : decode cX4_count 106 = .ok (.aload_n 0, 1) := dk_42 (dk_at dksX4_count_3 6 rfl rfl)
theorem dX4_count_107 : decode cX4_count 107 = .ok (.getfield 39, 3) := dk_180 0 39 (dk_at dksX4_count_3 7 rfl rfl)
theorem dX4_count_110 : decode cX4_count 110 = .ok (.bipush 11, 2) := dk_16 11 (dk_at dksX4_count_3 10 rfl rfl)
theorem dX4_count_112 : decode cX4_count 112 = .ok (.iaload, 1) := dk_46 (dk_at dksX4_count_3 12 rfl rfl)
theorem dX4_count_113 : decode cX4_count 113 = .ok (.ireturn, 1) := dk_172 (dk_at dksX4_count_3 13 rfl rfl)
theorem dX4_count_114 : decode cX4_count 114 = .ok (.aload_n 0, 1) := dk_42 (dk_at dksX4_count_3 14 rfl rfl)
theorem dX4_count_115 : decode cX4_count 115 = .ok (.aload_n 0, 1) := dk_42 (dk_at dksX4_count_3 15 rfl rfl)
theorem dX4_count_116 : decode cX4_count 116 = .ok (.getfield 39, 3) := dk_180 0 39 (dk_at dksX4_count_3 16 rfl rfl)
theorem dX4_count_119 : decode cX4_count 119 = .ok (.bipush 10, 2) := dk_16 10 (dk_at dksX4_count_3 19 rfl rfl)
theorem dX4_count_121 : decode cX4_count 121 = .ok (.iaload, 1) := dk_46 (dk_at dksX4_count_3 21 rfl rfl)
theorem dX4_count_122 : decode cX4_count 122 = .ok (.invokevirtual 319, 3) := dk_182 1 63 (dk_at dksX4_count_4 0 rfl rfl)
theorem dX4_count_125 : decode cX4_count 125 = .ok (.ireturn, 1) := dk_172 (dk_at dksX4_count_4 3 rfl rfl)
theorem dX4_count_126 : decode cX4_count 126 = .ok (.aload_n 0, 1) := dk_42 (dk_at dksX4_count_4 4 rfl rfl)
theorem dX4_count_127 : decode cX4_count 127 = .ok (.invokevirtual 380, 3) := dk_182 1 124 (dk_at dksX4_count_4 5 rfl rfl)
theorem dX4_count_130 : decode cX4_count 130 = .ok (.ireturn, 1) := dk_172 (dk_at dksX4_count_4 8 rfl rfl)
theorem dX4_count_131 : decode cX4_count 131 = .ok (.aload_n 0, 1) := dk_42 (dk_at dksX4_count_4 9 rfl rfl)
theorem dX4_count_132 : decode cX4_count 132 = .ok (.getfield 39, 3) := dk_180 0 39 (dk_at dksX4_count_4 10 rfl rfl)
theorem dX4_count_135 : decode cX4_count 135 = .ok (.bipush 123, 2) := dk_16 123 (dk_at dksX4_count_4 13 rfl rfl)
theorem dX4_count_137 : decode cX4_count 137 = .ok (.iaload, 1) := dk_46 (dk_at dksX4_count_4 15 rfl rfl)
theorem dX4_count_138 : decode cX4_count 138 = .ok (.ireturn, 1) := dk_172 (dk_at dksX4_count_4 16 rfl rfl)
theorem dX4_count_139 : decode cX4_count 139 = .ok (.aload_n 0, 1) := dk_42 (dk_at dksX4_count_4 17 rfl rfl)
theorem dX4_count_140 : decode cX4_count 140 = .ok (.getfield 289, 3) := dk_180 1 33 (dk_at dksX4_count_4 18 rfl rfl)
theorem dX4_count_143 : decode cX4_count 143 = .ok (.ireturn, 1) := dk_172 (dk_at dksX4_count_4 21 rfl rfl)
theorem dX4_count_144 : decode cX4_count 144 = .ok (.aload_n 0, 1) := dk_42 (dk_at dksX4_count_4 22 rfl rfl)
theorem dX4_count_145 : decode cX4_count 145 = .ok (.getfield 441, 3) := dk_180 1 185 (dk_at dksX4_count_5 0 rfl rfl)
theorem dX4_count_148 : decode cX4_count 148 = .ok (.ireturn, 1) := dk_172 (dk_at dksX4_count_5 3 rfl rfl)
theorem dX4_count_149 : decode cX4_count 149 = .ok (.aload_n 0, 1) := dk_42 (dk_at dksX4_count_5 4 rfl rfl)
theorem dX4_count_150 : decode cX4_count 150 = .ok (.getfield 86, 3) := dk_180 0 86 (dk_at dksX4_count_5 5 rfl rfl)
theorem dX4_count_153 : decode cX4_count 153 = .ok (.ireturn, 1) := dk_172 (dk_at dksX4_count_5 8 rfl rfl)
theorem dX4_count_154 : decode cX4_count 154 = .ok (.iconst (-1), 1) := dk_2 (dk_at dksX4_count_5 9 rfl rfl)
theorem dX4_count_155 : decode cX4_count 155 = .ok (.ireturn, 1) := dk_172 (dk_at dksX4_count_5 10 rfl rfl)
abbrev cX4_image : ByteArray := prog_19_method_113_code
def yX4_image : MethodName := ⟨RX4, "image", "(I)I"⟩
def dkwX4_image_3 : List UInt8 := [167, 255, 230, 42, 180, 0, 39, 16, 10, 46, 172]
abbrev dktX4_image_3 : List UInt8 := dkwX4_image_3 ++ []
def dkwX4_image_2 : List UInt8 := [162, 0, 26, 42, 180, 0, 74, 16, 124, 27, 104, 28, 96, 42, 180, 0, 39, 28, 46, 79, 132, 2, 1]
abbrev dktX4_image_2 : List UInt8 := dkwX4_image_2 ++ dktX4_image_3
def dkwX4_image_1 : List UInt8 := [180, 0, 77, 27, 42, 180, 0, 42, 79, 42, 180, 0, 80, 27, 42, 180, 1, 185, 79, 3, 61, 28, 16, 124]
abbrev dktX4_image_1 : List UInt8 := dkwX4_image_1 ++ dktX4_image_2
def dkwX4_image_0 : List UInt8 := [27, 133, 9, 20, 1, 203, 184, 0, 124, 154, 0, 5, 2, 172, 42, 180, 0, 83, 27, 4, 84, 42]
abbrev dktX4_image_0 : List UInt8 := dkwX4_image_0 ++ dktX4_image_1
theorem dksX4_image_0 : cX4_image.data.toList.drop 0 = dktX4_image_0 := by decide +kernel
theorem dksX4_image_1 : cX4_image.data.toList.drop 22 = dktX4_image_1 := dk_seg dksX4_image_0 22 rfl rfl
theorem dksX4_image_2 : cX4_image.data.toList.drop 46 = dktX4_image_2 := dk_seg dksX4_image_1 24 rfl rfl
theorem dksX4_image_3 : cX4_image.data.toList.drop 69 = dktX4_image_3 := dk_seg dksX4_image_2 23 rfl rfl
theorem dX4_image_0 : decode cX4_image 0 = .ok (.iload_n 1, 1) := dk_27 (dk_at dksX4_image_0 0 rfl rfl)
theorem dX4_image_1 : decode cX4_image 1 = .ok (.i2l, 1) := dk_133 (dk_at dksX4_image_0 1 rfl rfl)
theorem dX4_image_2 : decode cX4_image 2 = .ok (.lconst 0, 1) := dk_9 (dk_at dksX4_image_0 2 rfl rfl)
theorem dX4_image_3 : decode cX4_image 3 = .ok (.ldc2_w 459, 3) := dk_20 1 203 (dk_at dksX4_image_0 3 rfl rfl)
theorem dX4_image_6 : decode cX4_image 6 = .ok (.invokestatic 124, 3) := dk_184 0 124 (dk_at dksX4_image_0 6 rfl rfl)
theorem dX4_image_9 : decode cX4_image 9 = .ok (.ifCond .ne 5, 3) := dk_154 0 5 (dk_at dksX4_image_0 9 rfl rfl)
theorem dX4_image_12 : decode cX4_image 12 = .ok (.iconst (-1), 1) := dk_2 (dk_at dksX4_image_0 12 rfl rfl)
theorem dX4_image_13 : decode cX4_image 13 = .ok (.ireturn, 1) := dk_172 (dk_at dksX4_image_0 13 rfl rfl)
theorem dX4_image_14 : decode cX4_image 14 = .ok (.aload_n 0, 1) := dk_42 (dk_at dksX4_image_0 14 rfl rfl)
theorem dX4_image_15 : decode cX4_image 15 = .ok (.getfield 83, 3) := dk_180 0 83 (dk_at dksX4_image_0 15 rfl rfl)
theorem dX4_image_18 : decode cX4_image 18 = .ok (.iload_n 1, 1) := dk_27 (dk_at dksX4_image_0 18 rfl rfl)
theorem dX4_image_19 : decode cX4_image 19 = .ok (.iconst 1, 1) := dk_4 (dk_at dksX4_image_0 19 rfl rfl)
theorem dX4_image_20 : decode cX4_image 20 = .ok (.bastore, 1) := dk_84 (dk_at dksX4_image_0 20 rfl rfl)
theorem dX4_image_21 : decode cX4_image 21 = .ok (.aload_n 0, 1) := dk_42 (dk_at dksX4_image_0 21 rfl rfl)
theorem dX4_image_22 : decode cX4_image 22 = .ok (.getfield 77, 3) := dk_180 0 77 (dk_at dksX4_image_1 0 rfl rfl)
theorem dX4_image_25 : decode cX4_image 25 = .ok (.iload_n 1, 1) := dk_27 (dk_at dksX4_image_1 3 rfl rfl)
theorem dX4_image_26 : decode cX4_image 26 = .ok (.aload_n 0, 1) := dk_42 (dk_at dksX4_image_1 4 rfl rfl)
theorem dX4_image_27 : decode cX4_image 27 = .ok (.getfield 42, 3) := dk_180 0 42 (dk_at dksX4_image_1 5 rfl rfl)
theorem dX4_image_30 : decode cX4_image 30 = .ok (.iastore, 1) := dk_79 (dk_at dksX4_image_1 8 rfl rfl)
theorem dX4_image_31 : decode cX4_image 31 = .ok (.aload_n 0, 1) := dk_42 (dk_at dksX4_image_1 9 rfl rfl)
theorem dX4_image_32 : decode cX4_image 32 = .ok (.getfield 80, 3) := dk_180 0 80 (dk_at dksX4_image_1 10 rfl rfl)
theorem dX4_image_35 : decode cX4_image 35 = .ok (.iload_n 1, 1) := dk_27 (dk_at dksX4_image_1 13 rfl rfl)
theorem dX4_image_36 : decode cX4_image 36 = .ok (.aload_n 0, 1) := dk_42 (dk_at dksX4_image_1 14 rfl rfl)
theorem dX4_image_37 : decode cX4_image 37 = .ok (.getfield 441, 3) := dk_180 1 185 (dk_at dksX4_image_1 15 rfl rfl)
theorem dX4_image_40 : decode cX4_image 40 = .ok (.iastore, 1) := dk_79 (dk_at dksX4_image_1 18 rfl rfl)
theorem dX4_image_41 : decode cX4_image 41 = .ok (.iconst 0, 1) := dk_3 (dk_at dksX4_image_1 19 rfl rfl)
theorem dX4_image_42 : decode cX4_image 42 = .ok (.istore_n 2, 1) := dk_61 (dk_at dksX4_image_1 20 rfl rfl)
theorem dX4_image_43 : decode cX4_image 43 = .ok (.iload_n 2, 1) := dk_28 (dk_at dksX4_image_1 21 rfl rfl)
theorem dX4_image_44 : decode cX4_image 44 = .ok (.bipush 124, 2) := dk_16 124 (dk_at dksX4_image_1 22 rfl rfl)
theorem dX4_image_46 : decode cX4_image 46 = .ok (.if_icmp .ge 26, 3) := dk_162 0 26 (dk_at dksX4_image_2 0 rfl rfl)
theorem dX4_image_49 : decode cX4_image 49 = .ok (.aload_n 0, 1) := dk_42 (dk_at dksX4_image_2 3 rfl rfl)
theorem dX4_image_50 : decode cX4_image 50 = .ok (.getfield 74, 3) := dk_180 0 74 (dk_at dksX4_image_2 4 rfl rfl)
theorem dX4_image_53 : decode cX4_image 53 = .ok (.bipush 124, 2) := dk_16 124 (dk_at dksX4_image_2 7 rfl rfl)
theorem dX4_image_55 : decode cX4_image 55 = .ok (.iload_n 1, 1) := dk_27 (dk_at dksX4_image_2 9 rfl rfl)
theorem dX4_image_56 : decode cX4_image 56 = .ok (.imul, 1) := dk_104 (dk_at dksX4_image_2 10 rfl rfl)
theorem dX4_image_57 : decode cX4_image 57 = .ok (.iload_n 2, 1) := dk_28 (dk_at dksX4_image_2 11 rfl rfl)
theorem dX4_image_58 : decode cX4_image 58 = .ok (.iadd, 1) := dk_96 (dk_at dksX4_image_2 12 rfl rfl)
theorem dX4_image_59 : decode cX4_image 59 = .ok (.aload_n 0, 1) := dk_42 (dk_at dksX4_image_2 13 rfl rfl)
theorem dX4_image_60 : decode cX4_image 60 = .ok (.getfield 39, 3) := dk_180 0 39 (dk_at dksX4_image_2 14 rfl rfl)
theorem dX4_image_63 : decode cX4_image 63 = .ok (.iload_n 2, 1) := dk_28 (dk_at dksX4_image_2 17 rfl rfl)
theorem dX4_image_64 : decode cX4_image 64 = .ok (.iaload, 1) := dk_46 (dk_at dksX4_image_2 18 rfl rfl)
theorem dX4_image_65 : decode cX4_image 65 = .ok (.iastore, 1) := dk_79 (dk_at dksX4_image_2 19 rfl rfl)
theorem dX4_image_66 : decode cX4_image 66 = .ok (.iinc 2 1, 3) := dk_132 2 1 (dk_at dksX4_image_2 20 rfl rfl)
theorem dX4_image_69 : decode cX4_image 69 = .ok (.goto (-26), 3) := dk_167 255 230 (dk_at dksX4_image_3 0 rfl rfl)
theorem dX4_image_72 : decode cX4_image 72 = .ok (.aload_n 0, 1) := dk_42 (dk_at dksX4_image_3 3 rfl rfl)
theorem dX4_image_73 : decode cX4_image 73 = .ok (.getfield 39, 3) := dk_180 0 39 (dk_at dksX4_image_3 4 rfl rfl)
theorem dX4_image_76 : decode cX4_image 76 = .ok (.bipush 10, 2) := dk_16 10 (dk_at dksX4_image_3 7 rfl rfl)
theorem dX4_image_78 : decode cX4_image 78 = .ok (.iaload, 1) := dk_46 (dk_at dksX4_image_3 9 rfl rfl)
theorem dX4_image_79 : decode cX4_image 79 = .ok (.ireturn, 1) := dk_172 (dk_at dksX4_image_3 10 rfl rfl)
abbrev cX4_back : ByteArray := prog_19_method_114_code
def yX4_back : MethodName := ⟨RX4, "back", "(I)I"⟩
def dkwX4_back_3 : List UInt8 := [79, 132, 2, 1, 167, 255, 230, 42, 180, 0, 39, 16, 10, 46, 172]
abbrev dktX4_back_3 : List UInt8 := dkwX4_back_3 ++ []
def dkwX4_back_2 : List UInt8 := [3, 61, 28, 16, 124, 162, 0, 26, 42, 180, 0, 39, 28, 42, 180, 0, 74, 16, 124, 27, 104, 28, 96, 46]
abbrev dktX4_back_2 : List UInt8 := dkwX4_back_2 ++ dktX4_back_3
def dkwX4_back_1 : List UInt8 := [42, 180, 0, 77, 27, 46, 181, 0, 42, 42, 42, 180, 0, 80, 27, 46, 181, 1, 185, 42, 3, 181, 1, 33]
abbrev dktX4_back_1 : List UInt8 := dkwX4_back_1 ++ dktX4_back_2
def dkwX4_back_0 : List UInt8 := [27, 133, 9, 20, 1, 203, 184, 0, 124, 153, 0, 12, 42, 180, 0, 83, 27, 51, 154, 0, 5, 2, 172, 42]
abbrev dktX4_back_0 : List UInt8 := dkwX4_back_0 ++ dktX4_back_1
theorem dksX4_back_0 : cX4_back.data.toList.drop 0 = dktX4_back_0 := by decide +kernel
theorem dksX4_back_1 : cX4_back.data.toList.drop 24 = dktX4_back_1 := dk_seg dksX4_back_0 24 rfl rfl
theorem dksX4_back_2 : cX4_back.data.toList.drop 48 = dktX4_back_2 := dk_seg dksX4_back_1 24 rfl rfl
theorem dksX4_back_3 : cX4_back.data.toList.drop 72 = dktX4_back_3 := dk_seg dksX4_back_2 24 rfl rfl
theorem dX4_back_0 : decode cX4_back 0 = .ok (.iload_n 1, 1) := dk_27 (dk_at dksX4_back_0 0 rfl rfl)
theorem dX4_back_1 : decode cX4_back 1 = .ok (.i2l, 1) := dk_133 (dk_at dksX4_back_0 1 rfl rfl)
theorem dX4_back_2 : decode cX4_back 2 = .ok (.lconst 0, 1) := dk_9 (dk_at dksX4_back_0 2 rfl rfl)
theorem dX4_back_3 : decode cX4_back 3 = .ok (.ldc2_w 459, 3) := dk_20 1 203 (dk_at dksX4_back_0 3 rfl rfl)
theorem dX4_back_6 : decode cX4_back 6 = .ok (.invokestatic 124, 3) := dk_184 0 124 (dk_at dksX4_back_0 6 rfl rfl)
theorem dX4_back_9 : decode cX4_back 9 = .ok (.ifCond .eq 12, 3) := dk_153 0 12 (dk_at dksX4_back_0 9 rfl rfl)
theorem dX4_back_12 : decode cX4_back 12 = .ok (.aload_n 0, 1) := dk_42 (dk_at dksX4_back_0 12 rfl rfl)
theorem dX4_back_13 : decode cX4_back 13 = .ok (.getfield 83, 3) := dk_180 0 83 (dk_at dksX4_back_0 13 rfl rfl)
theorem dX4_back_16 : decode cX4_back 16 = .ok (.iload_n 1, 1) := dk_27 (dk_at dksX4_back_0 16 rfl rfl)
theorem dX4_back_17 : decode cX4_back 17 = .ok (.baload, 1) := dk_51 (dk_at dksX4_back_0 17 rfl rfl)
theorem dX4_back_18 : decode cX4_back 18 = .ok (.ifCond .ne 5, 3) := dk_154 0 5 (dk_at dksX4_back_0 18 rfl rfl)
theorem dX4_back_21 : decode cX4_back 21 = .ok (.iconst (-1), 1) := dk_2 (dk_at dksX4_back_0 21 rfl rfl)
theorem dX4_back_22 : decode cX4_back 22 = .ok (.ireturn, 1) := dk_172 (dk_at dksX4_back_0 22 rfl rfl)
theorem dX4_back_23 : decode cX4_back 23 = .ok (.aload_n 0, 1) := dk_42 (dk_at dksX4_back_0 23 rfl rfl)
theorem dX4_back_24 : decode cX4_back 24 = .ok (.aload_n 0, 1) := dk_42 (dk_at dksX4_back_1 0 rfl rfl)
theorem dX4_back_25 : decode cX4_back 25 = .ok (.getfield 77, 3) := dk_180 0 77 (dk_at dksX4_back_1 1 rfl rfl)
theorem dX4_back_28 : decode cX4_back 28 = .ok (.iload_n 1, 1) := dk_27 (dk_at dksX4_back_1 4 rfl rfl)
theorem dX4_back_29 : decode cX4_back 29 = .ok (.iaload, 1) := dk_46 (dk_at dksX4_back_1 5 rfl rfl)
theorem dX4_back_30 : decode cX4_back 30 = .ok (.putfield 42, 3) := dk_181 0 42 (dk_at dksX4_back_1 6 rfl rfl)
theorem dX4_back_33 : decode cX4_back 33 = .ok (.aload_n 0, 1) := dk_42 (dk_at dksX4_back_1 9 rfl rfl)
theorem dX4_back_34 : decode cX4_back 34 = .ok (.aload_n 0, 1) := dk_42 (dk_at dksX4_back_1 10 rfl rfl)
theorem dX4_back_35 : decode cX4_back 35 = .ok (.getfield 80, 3) := dk_180 0 80 (dk_at dksX4_back_1 11 rfl rfl)
theorem dX4_back_38 : decode cX4_back 38 = .ok (.iload_n 1, 1) := dk_27 (dk_at dksX4_back_1 14 rfl rfl)
theorem dX4_back_39 : decode cX4_back 39 = .ok (.iaload, 1) := dk_46 (dk_at dksX4_back_1 15 rfl rfl)
theorem dX4_back_40 : decode cX4_back 40 = .ok (.putfield 441, 3) := dk_181 1 185 (dk_at dksX4_back_1 16 rfl rfl)
theorem dX4_back_43 : decode cX4_back 43 = .ok (.aload_n 0, 1) := dk_42 (dk_at dksX4_back_1 19 rfl rfl)
theorem dX4_back_44 : decode cX4_back 44 = .ok (.iconst 0, 1) := dk_3 (dk_at dksX4_back_1 20 rfl rfl)
theorem dX4_back_45 : decode cX4_back 45 = .ok (.putfield 289, 3) := dk_181 1 33 (dk_at dksX4_back_1 21 rfl rfl)
theorem dX4_back_48 : decode cX4_back 48 = .ok (.iconst 0, 1) := dk_3 (dk_at dksX4_back_2 0 rfl rfl)
theorem dX4_back_49 : decode cX4_back 49 = .ok (.istore_n 2, 1) := dk_61 (dk_at dksX4_back_2 1 rfl rfl)
theorem dX4_back_50 : decode cX4_back 50 = .ok (.iload_n 2, 1) := dk_28 (dk_at dksX4_back_2 2 rfl rfl)
theorem dX4_back_51 : decode cX4_back 51 = .ok (.bipush 124, 2) := dk_16 124 (dk_at dksX4_back_2 3 rfl rfl)
theorem dX4_back_53 : decode cX4_back 53 = .ok (.if_icmp .ge 26, 3) := dk_162 0 26 (dk_at dksX4_back_2 5 rfl rfl)
theorem dX4_back_56 : decode cX4_back 56 = .ok (.aload_n 0, 1) := dk_42 (dk_at dksX4_back_2 8 rfl rfl)
theorem dX4_back_57 : decode cX4_back 57 = .ok (.getfield 39, 3) := dk_180 0 39 (dk_at dksX4_back_2 9 rfl rfl)
theorem dX4_back_60 : decode cX4_back 60 = .ok (.iload_n 2, 1) := dk_28 (dk_at dksX4_back_2 12 rfl rfl)
theorem dX4_back_61 : decode cX4_back 61 = .ok (.aload_n 0, 1) := dk_42 (dk_at dksX4_back_2 13 rfl rfl)
theorem dX4_back_62 : decode cX4_back 62 = .ok (.getfield 74, 3) := dk_180 0 74 (dk_at dksX4_back_2 14 rfl rfl)
theorem dX4_back_65 : decode cX4_back 65 = .ok (.bipush 124, 2) := dk_16 124 (dk_at dksX4_back_2 17 rfl rfl)
theorem dX4_back_67 : decode cX4_back 67 = .ok (.iload_n 1, 1) := dk_27 (dk_at dksX4_back_2 19 rfl rfl)
theorem dX4_back_68 : decode cX4_back 68 = .ok (.imul, 1) := dk_104 (dk_at dksX4_back_2 20 rfl rfl)
theorem dX4_back_69 : decode cX4_back 69 = .ok (.iload_n 2, 1) := dk_28 (dk_at dksX4_back_2 21 rfl rfl)
theorem dX4_back_70 : decode cX4_back 70 = .ok (.iadd, 1) := dk_96 (dk_at dksX4_back_2 22 rfl rfl)
theorem dX4_back_71 : decode cX4_back 71 = .ok (.iaload, 1) := dk_46 (dk_at dksX4_back_2 23 rfl rfl)
theorem dX4_back_72 : decode cX4_back 72 = .ok (.iastore, 1) := dk_79 (dk_at dksX4_back_3 0 rfl rfl)
theorem dX4_back_73 : decode cX4_back 73 = .ok (.iinc 2 1, 3) := dk_132 2 1 (dk_at dksX4_back_3 1 rfl rfl)
theorem dX4_back_76 : decode cX4_back 76 = .ok (.goto (-26), 3) := dk_167 255 230 (dk_at dksX4_back_3 4 rfl rfl)
theorem dX4_back_79 : decode cX4_back 79 = .ok (.aload_n 0, 1) := dk_42 (dk_at dksX4_back_3 7 rfl rfl)
theorem dX4_back_80 : decode cX4_back 80 = .ok (.getfield 39, 3) := dk_180 0 39 (dk_at dksX4_back_3 8 rfl rfl)
theorem dX4_back_83 : decode cX4_back 83 = .ok (.bipush 10, 2) := dk_16 10 (dk_at dksX4_back_3 11 rfl rfl)
theorem dX4_back_85 : decode cX4_back 85 = .ok (.iaload, 1) := dk_46 (dk_at dksX4_back_3 13 rfl rfl)
theorem dX4_back_86 : decode cX4_back 86 = .ok (.ireturn, 1) := dk_172 (dk_at dksX4_back_3 14 rfl rfl)
theorem q139 : (Jvm.Cond.initialized "SweptSnowModel") ∈ lw_all := lw_g (lw_at lw_m1 10 rfl) rfl
theorem q657 : (Jvm.Cond.selects "SweptSnowModel" ({ cls := "java/lang/Object", name := "getClass", desc := "()Ljava/lang/Class;" } : Jvm.MethodName) ({ cls := "java/lang/Object", name := "getClass", desc := "()Ljava/lang/Class;" } : Jvm.MethodName)) ∈ lw_all := lw_g (lw_at lw_m3 48 rfl) rfl
theorem q1276 : (Jvm.Cond.instantiable "SweptSnowModel" (40 : Nat)) ∈ lw_all := lw_g (lw_at lw_m5 187 rfl) rfl
theorem q1278 : (Jvm.Cond.instanceMethod ({ cls := "SweptSnowModel", name := "<init>", desc := "()V" } : Jvm.MethodName)) ∈ lw_all := lw_g (lw_at lw_m5 189 rfl) rfl
theorem q1279 : (Jvm.Cond.code ({ cls := "SweptSnowModel", name := "<init>", desc := "()V" } : Jvm.MethodName) prog_19_method_1_code (1 : Nat) (Option.none : Option Jvm.ClassFile.FieldType)) ∈ lw_all := lw_g (lw_at lw_m5 190 rfl) rfl
theorem q1280 : (Jvm.Cond.methodLink "SweptSnowModel" (1 : Nat) ({ cls := "java/lang/Object", name := "<init>", desc := "()V" } : Jvm.MethodName)) ∈ lw_all := lw_g (lw_at lw_m5 191 rfl) rfl
theorem q1281 : (Jvm.Cond.fieldLink "SweptSnowModel" (7 : Nat) "SweptSnowModel" "tape" "[B") ∈ lw_all := lw_g (lw_at lw_m5 192 rfl) rfl
theorem q1282 : (Jvm.Cond.fieldLink "SweptSnowModel" (86 : Nat) "SweptSnowModel" "taped" "I") ∈ lw_all := lw_g (lw_at lw_m5 193 rfl) rfl
theorem q1283 : (Jvm.Cond.fieldLink "SweptSnowModel" (280 : Nat) "SweptSnowModel" "rules" "I") ∈ lw_all := lw_g (lw_at lw_m5 194 rfl) rfl
theorem q1284 : (Jvm.Cond.fieldLink "SweptSnowModel" (13 : Nat) "SweptSnowModel" "sign" "[I") ∈ lw_all := lw_g (lw_at lw_m5 195 rfl) rfl
theorem q1285 : (Jvm.Cond.fieldLink "SweptSnowModel" (17 : Nat) "SweptSnowModel" "length" "[I") ∈ lw_all := lw_g (lw_at lw_m5 196 rfl) rfl
theorem q1286 : (Jvm.Cond.fieldLink "SweptSnowModel" (20 : Nat) "SweptSnowModel" "clause" "[I") ∈ lw_all := lw_g (lw_at lw_m5 197 rfl) rfl
theorem q1287 : (Jvm.Cond.fieldLink "SweptSnowModel" (23 : Nat) "SweptSnowModel" "clauses" "[I") ∈ lw_all := lw_g (lw_at lw_m5 198 rfl) rfl
theorem q1288 : (Jvm.Cond.fieldLink "SweptSnowModel" (26 : Nat) "SweptSnowModel" "read" "[I") ∈ lw_all := lw_g (lw_at lw_m5 199 rfl) rfl
theorem q1289 : (Jvm.Cond.fieldLink "SweptSnowModel" (96 : Nat) "SweptSnowModel" "next" "I") ∈ lw_all := lw_g (lw_at lw_m5 200 rfl) rfl
theorem q1290 : (Jvm.Cond.fieldLink "SweptSnowModel" (93 : Nat) "SweptSnowModel" "wrong" "I") ∈ lw_all := lw_g (lw_at lw_m5 201 rfl) rfl
theorem q1291 : (Jvm.Cond.fieldLink "SweptSnowModel" (121 : Nat) "SweptSnowModel" "number" "I") ∈ lw_all := lw_g (lw_at lw_m5 202 rfl) rfl
theorem q1292 : (Jvm.Cond.fieldLink "SweptSnowModel" (152 : Nat) "SweptSnowModel" "text" "I") ∈ lw_all := lw_g (lw_at lw_m5 203 rfl) rfl
theorem q1293 : (Jvm.Cond.fieldLink "SweptSnowModel" (155 : Nat) "SweptSnowModel" "made" "I") ∈ lw_all := lw_g (lw_at lw_m5 204 rfl) rfl
theorem q1294 : (Jvm.Cond.fieldLink "SweptSnowModel" (158 : Nat) "SweptSnowModel" "deep" "I") ∈ lw_all := lw_g (lw_at lw_m5 205 rfl) rfl
theorem q1295 : (Jvm.Cond.fieldLink "SweptSnowModel" (268 : Nat) "SweptSnowModel" "lines" "I") ∈ lw_all := lw_g (lw_at lw_m5 206 rfl) rfl
theorem q1296 : (Jvm.Cond.fieldLink "SweptSnowModel" (29 : Nat) "SweptSnowModel" "open" "[I") ∈ lw_all := lw_g (lw_at lw_m5 207 rfl) rfl
theorem q1297 : (Jvm.Cond.fieldLink "SweptSnowModel" (161 : Nat) "SweptSnowModel" "opened" "I") ∈ lw_all := lw_g (lw_at lw_m5 208 rfl) rfl
theorem q1298 : (Jvm.Cond.fieldLink "SweptSnowModel" (228 : Nat) "SweptSnowModel" "firstStep" "I") ∈ lw_all := lw_g (lw_at lw_m5 209 rfl) rfl
theorem q1299 : (Jvm.Cond.fieldLink "SweptSnowModel" (231 : Nat) "SweptSnowModel" "secondStep" "I") ∈ lw_all := lw_g (lw_at lw_m5 210 rfl) rfl
theorem q1300 : (Jvm.Cond.fieldLink "SweptSnowModel" (32 : Nat) "SweptSnowModel" "stack" "[J") ∈ lw_all := lw_g (lw_at lw_m5 211 rfl) rfl
theorem q1301 : (Jvm.Cond.fieldLink "SweptSnowModel" (292 : Nat) "SweptSnowModel" "top" "I") ∈ lw_all := lw_g (lw_at lw_m5 212 rfl) rfl
theorem q1302 : (Jvm.Cond.fieldLink "SweptSnowModel" (36 : Nat) "SweptSnowModel" "word" "[J") ∈ lw_all := lw_g (lw_at lw_m5 213 rfl) rfl
theorem q1303 : (Jvm.Cond.fieldLink "SweptSnowModel" (39 : Nat) "SweptSnowModel" "said" "[I") ∈ lw_all := lw_g (lw_at lw_m5 214 rfl) rfl
theorem q1304 : (Jvm.Cond.fieldLink "SweptSnowModel" (42 : Nat) "SweptSnowModel" "force" "I") ∈ lw_all := lw_g (lw_at lw_m5 215 rfl) rfl
theorem q1305 : (Jvm.Cond.fieldLink "SweptSnowModel" (441 : Nat) "SweptSnowModel" "x" "I") ∈ lw_all := lw_g (lw_at lw_m5 216 rfl) rfl
theorem q1306 : (Jvm.Cond.fieldLink "SweptSnowModel" (46 : Nat) "SweptSnowModel" "thrown" "[I") ∈ lw_all := lw_g (lw_at lw_m5 217 rfl) rfl
theorem q1307 : (Jvm.Cond.fieldLink "SweptSnowModel" (49 : Nat) "SweptSnowModel" "fallen" "[I") ∈ lw_all := lw_g (lw_at lw_m5 218 rfl) rfl
theorem q1308 : (Jvm.Cond.fieldLink "SweptSnowModel" (52 : Nat) "SweptSnowModel" "wasSaid" "[I") ∈ lw_all := lw_g (lw_at lw_m5 219 rfl) rfl
theorem q1309 : (Jvm.Cond.fieldLink "SweptSnowModel" (289 : Nat) "SweptSnowModel" "undone" "I") ∈ lw_all := lw_g (lw_at lw_m5 220 rfl) rfl
theorem q1310 : (Jvm.Cond.fieldLink "SweptSnowModel" (55 : Nat) "SweptSnowModel" "kept" "[I") ∈ lw_all := lw_g (lw_at lw_m5 221 rfl) rfl
theorem q1311 : (Jvm.Cond.fieldLink "SweptSnowModel" (58 : Nat) "SweptSnowModel" "lies" "[I") ∈ lw_all := lw_g (lw_at lw_m5 222 rfl) rfl
theorem q1312 : (Jvm.Cond.fieldLink "SweptSnowModel" (61 : Nat) "SweptSnowModel" "price" "[I") ∈ lw_all := lw_g (lw_at lw_m5 223 rfl) rfl
theorem q1313 : (Jvm.Cond.fieldLink "SweptSnowModel" (64 : Nat) "SweptSnowModel" "hasBy" "[I") ∈ lw_all := lw_g (lw_at lw_m5 224 rfl) rfl
theorem q1314 : (Jvm.Cond.fieldLink "SweptSnowModel" (67 : Nat) "SweptSnowModel" "isFit" "[Z") ∈ lw_all := lw_g (lw_at lw_m5 225 rfl) rfl
theorem q1315 : (Jvm.Cond.fieldLink "SweptSnowModel" (71 : Nat) "SweptSnowModel" "snowThen" "[I") ∈ lw_all := lw_g (lw_at lw_m5 226 rfl) rfl
theorem q1316 : (Jvm.Cond.fieldLink "SweptSnowModel" (444 : Nat) "SweptSnowModel" "drawX" "J") ∈ lw_all := lw_g (lw_at lw_m5 227 rfl) rfl
theorem q1317 : (Jvm.Cond.fieldLink "SweptSnowModel" (74 : Nat) "SweptSnowModel" "images" "[I") ∈ lw_all := lw_g (lw_at lw_m5 228 rfl) rfl
theorem q1318 : (Jvm.Cond.fieldLink "SweptSnowModel" (77 : Nat) "SweptSnowModel" "imageForce" "[I") ∈ lw_all := lw_g (lw_at lw_m5 229 rfl) rfl
theorem q1319 : (Jvm.Cond.fieldLink "SweptSnowModel" (80 : Nat) "SweptSnowModel" "imageX" "[I") ∈ lw_all := lw_g (lw_at lw_m5 230 rfl) rfl
theorem q1320 : (Jvm.Cond.fieldLink "SweptSnowModel" (83 : Nat) "SweptSnowModel" "isMade" "[Z") ∈ lw_all := lw_g (lw_at lw_m5 231 rfl) rfl
theorem q1321 : (Jvm.Cond.laysFinal "SweptSnowModel" "SweptSnowModel" "tape" "[B") ∈ lw_all := lw_g (lw_at lw_m5 232 rfl) rfl
theorem q1322 : (Jvm.Cond.soleField "SweptSnowModel" "tape") ∈ lw_all := lw_g (lw_at lw_m5 233 rfl) rfl
theorem q1323 : (Jvm.Cond.lays "SweptSnowModel" "SweptSnowModel" "taped" "I") ∈ lw_all := lw_g (lw_at lw_m5 234 rfl) rfl
theorem q1324 : (Jvm.Cond.soleField "SweptSnowModel" "taped") ∈ lw_all := lw_g (lw_at lw_m5 235 rfl) rfl
theorem q1325 : (Jvm.Cond.lays "SweptSnowModel" "SweptSnowModel" "rules" "I") ∈ lw_all := lw_g (lw_at lw_m5 236 rfl) rfl
theorem q1326 : (Jvm.Cond.soleField "SweptSnowModel" "rules") ∈ lw_all := lw_g (lw_at lw_m5 237 rfl) rfl
theorem q1327 : (Jvm.Cond.laysFinal "SweptSnowModel" "SweptSnowModel" "sign" "[I") ∈ lw_all := lw_g (lw_at lw_m5 238 rfl) rfl
theorem q1328 : (Jvm.Cond.soleField "SweptSnowModel" "sign") ∈ lw_all := lw_g (lw_at lw_m5 239 rfl) rfl
theorem q1329 : (Jvm.Cond.laysFinal "SweptSnowModel" "SweptSnowModel" "length" "[I") ∈ lw_all := lw_g (lw_at lw_m6 0 rfl) rfl
theorem q1330 : (Jvm.Cond.soleField "SweptSnowModel" "length") ∈ lw_all := lw_g (lw_at lw_m6 1 rfl) rfl
theorem q1331 : (Jvm.Cond.laysFinal "SweptSnowModel" "SweptSnowModel" "clause" "[I") ∈ lw_all := lw_g (lw_at lw_m6 2 rfl) rfl
theorem q1332 : (Jvm.Cond.soleField "SweptSnowModel" "clause") ∈ lw_all := lw_g (lw_at lw_m6 3 rfl) rfl
theorem q1333 : (Jvm.Cond.laysFinal "SweptSnowModel" "SweptSnowModel" "clauses" "[I") ∈ lw_all := lw_g (lw_at lw_m6 4 rfl) rfl
theorem q1334 : (Jvm.Cond.soleField "SweptSnowModel" "clauses") ∈ lw_all := lw_g (lw_at lw_m6 5 rfl) rfl
theorem q1335 : (Jvm.Cond.laysFinal "SweptSnowModel" "SweptSnowModel" "read" "[I") ∈ lw_all := lw_g (lw_at lw_m6 6 rfl) rfl
theorem q1336 : (Jvm.Cond.soleField "SweptSnowModel" "read") ∈ lw_all := lw_g (lw_at lw_m6 7 rfl) rfl
theorem q1337 : (Jvm.Cond.lays "SweptSnowModel" "SweptSnowModel" "next" "I") ∈ lw_all := lw_g (lw_at lw_m6 8 rfl) rfl
theorem q1338 : (Jvm.Cond.soleField "SweptSnowModel" "next") ∈ lw_all := lw_g (lw_at lw_m6 9 rfl) rfl
theorem q1339 : (Jvm.Cond.lays "SweptSnowModel" "SweptSnowModel" "wrong" "I") ∈ lw_all := lw_g (lw_at lw_m6 10 rfl) rfl
theorem q1340 : (Jvm.Cond.soleField "SweptSnowModel" "wrong") ∈ lw_all := lw_g (lw_at lw_m6 11 rfl) rfl
theorem q1341 : (Jvm.Cond.lays "SweptSnowModel" "SweptSnowModel" "number" "I") ∈ lw_all := lw_g (lw_at lw_m6 12 rfl) rfl
theorem q1342 : (Jvm.Cond.soleField "SweptSnowModel" "number") ∈ lw_all := lw_g (lw_at lw_m6 13 rfl) rfl
theorem q1343 : (Jvm.Cond.lays "SweptSnowModel" "SweptSnowModel" "text" "I") ∈ lw_all := lw_g (lw_at lw_m6 14 rfl) rfl
theorem q1344 : (Jvm.Cond.soleField "SweptSnowModel" "text") ∈ lw_all := lw_g (lw_at lw_m6 15 rfl) rfl
theorem q1345 : (Jvm.Cond.lays "SweptSnowModel" "SweptSnowModel" "made" "I") ∈ lw_all := lw_g (lw_at lw_m6 16 rfl) rfl
theorem q1346 : (Jvm.Cond.soleField "SweptSnowModel" "made") ∈ lw_all := lw_g (lw_at lw_m6 17 rfl) rfl
theorem q1347 : (Jvm.Cond.lays "SweptSnowModel" "SweptSnowModel" "deep" "I") ∈ lw_all := lw_g (lw_at lw_m6 18 rfl) rfl
theorem q1348 : (Jvm.Cond.soleField "SweptSnowModel" "deep") ∈ lw_all := lw_g (lw_at lw_m6 19 rfl) rfl
theorem q1349 : (Jvm.Cond.lays "SweptSnowModel" "SweptSnowModel" "lines" "I") ∈ lw_all := lw_g (lw_at lw_m6 20 rfl) rfl
theorem q1350 : (Jvm.Cond.soleField "SweptSnowModel" "lines") ∈ lw_all := lw_g (lw_at lw_m6 21 rfl) rfl
theorem q1351 : (Jvm.Cond.laysFinal "SweptSnowModel" "SweptSnowModel" "open" "[I") ∈ lw_all := lw_g (lw_at lw_m6 22 rfl) rfl
theorem q1352 : (Jvm.Cond.soleField "SweptSnowModel" "open") ∈ lw_all := lw_g (lw_at lw_m6 23 rfl) rfl
theorem q1353 : (Jvm.Cond.lays "SweptSnowModel" "SweptSnowModel" "opened" "I") ∈ lw_all := lw_g (lw_at lw_m6 24 rfl) rfl
theorem q1354 : (Jvm.Cond.soleField "SweptSnowModel" "opened") ∈ lw_all := lw_g (lw_at lw_m6 25 rfl) rfl
theorem q1355 : (Jvm.Cond.lays "SweptSnowModel" "SweptSnowModel" "firstStep" "I") ∈ lw_all := lw_g (lw_at lw_m6 26 rfl) rfl
theorem q1356 : (Jvm.Cond.soleField "SweptSnowModel" "firstStep") ∈ lw_all := lw_g (lw_at lw_m6 27 rfl) rfl
theorem q1357 : (Jvm.Cond.lays "SweptSnowModel" "SweptSnowModel" "secondStep" "I") ∈ lw_all := lw_g (lw_at lw_m6 28 rfl) rfl
theorem q1358 : (Jvm.Cond.soleField "SweptSnowModel" "secondStep") ∈ lw_all := lw_g (lw_at lw_m6 29 rfl) rfl
theorem q1359 : (Jvm.Cond.laysFinal "SweptSnowModel" "SweptSnowModel" "stack" "[J") ∈ lw_all := lw_g (lw_at lw_m6 30 rfl) rfl
theorem q1360 : (Jvm.Cond.soleField "SweptSnowModel" "stack") ∈ lw_all := lw_g (lw_at lw_m6 31 rfl) rfl
theorem q1361 : (Jvm.Cond.lays "SweptSnowModel" "SweptSnowModel" "top" "I") ∈ lw_all := lw_g (lw_at lw_m6 32 rfl) rfl
theorem q1362 : (Jvm.Cond.soleField "SweptSnowModel" "top") ∈ lw_all := lw_g (lw_at lw_m6 33 rfl) rfl
theorem q1363 : (Jvm.Cond.laysFinal "SweptSnowModel" "SweptSnowModel" "word" "[J") ∈ lw_all := lw_g (lw_at lw_m6 34 rfl) rfl
theorem q1364 : (Jvm.Cond.soleField "SweptSnowModel" "word") ∈ lw_all := lw_g (lw_at lw_m6 35 rfl) rfl
theorem q1365 : (Jvm.Cond.laysFinal "SweptSnowModel" "SweptSnowModel" "said" "[I") ∈ lw_all := lw_g (lw_at lw_m6 36 rfl) rfl
theorem q1366 : (Jvm.Cond.soleField "SweptSnowModel" "said") ∈ lw_all := lw_g (lw_at lw_m6 37 rfl) rfl
theorem q1367 : (Jvm.Cond.lays "SweptSnowModel" "SweptSnowModel" "force" "I") ∈ lw_all := lw_g (lw_at lw_m6 38 rfl) rfl
theorem q1368 : (Jvm.Cond.soleField "SweptSnowModel" "force") ∈ lw_all := lw_g (lw_at lw_m6 39 rfl) rfl
theorem q1369 : (Jvm.Cond.lays "SweptSnowModel" "SweptSnowModel" "x" "I") ∈ lw_all := lw_g (lw_at lw_m6 40 rfl) rfl
theorem q1370 : (Jvm.Cond.soleField "SweptSnowModel" "x") ∈ lw_all := lw_g (lw_at lw_m6 41 rfl) rfl
theorem q1371 : (Jvm.Cond.laysFinal "SweptSnowModel" "SweptSnowModel" "thrown" "[I") ∈ lw_all := lw_g (lw_at lw_m6 42 rfl) rfl
theorem q1372 : (Jvm.Cond.soleField "SweptSnowModel" "thrown") ∈ lw_all := lw_g (lw_at lw_m6 43 rfl) rfl
theorem q1373 : (Jvm.Cond.laysFinal "SweptSnowModel" "SweptSnowModel" "fallen" "[I") ∈ lw_all := lw_g (lw_at lw_m6 44 rfl) rfl
theorem q1374 : (Jvm.Cond.soleField "SweptSnowModel" "fallen") ∈ lw_all := lw_g (lw_at lw_m6 45 rfl) rfl
theorem q1375 : (Jvm.Cond.laysFinal "SweptSnowModel" "SweptSnowModel" "wasSaid" "[I") ∈ lw_all := lw_g (lw_at lw_m6 46 rfl) rfl
theorem q1376 : (Jvm.Cond.soleField "SweptSnowModel" "wasSaid") ∈ lw_all := lw_g (lw_at lw_m6 47 rfl) rfl
theorem q1377 : (Jvm.Cond.lays "SweptSnowModel" "SweptSnowModel" "undone" "I") ∈ lw_all := lw_g (lw_at lw_m6 48 rfl) rfl
theorem q1378 : (Jvm.Cond.soleField "SweptSnowModel" "undone") ∈ lw_all := lw_g (lw_at lw_m6 49 rfl) rfl
theorem q1379 : (Jvm.Cond.laysFinal "SweptSnowModel" "SweptSnowModel" "kept" "[I") ∈ lw_all := lw_g (lw_at lw_m6 50 rfl) rfl
theorem q1380 : (Jvm.Cond.soleField "SweptSnowModel" "kept") ∈ lw_all := lw_g (lw_at lw_m6 51 rfl) rfl
theorem q1381 : (Jvm.Cond.laysFinal "SweptSnowModel" "SweptSnowModel" "lies" "[I") ∈ lw_all := lw_g (lw_at lw_m6 52 rfl) rfl
theorem q1382 : (Jvm.Cond.soleField "SweptSnowModel" "lies") ∈ lw_all := lw_g (lw_at lw_m6 53 rfl) rfl
theorem q1383 : (Jvm.Cond.laysFinal "SweptSnowModel" "SweptSnowModel" "price" "[I") ∈ lw_all := lw_g (lw_at lw_m6 54 rfl) rfl
theorem q1384 : (Jvm.Cond.soleField "SweptSnowModel" "price") ∈ lw_all := lw_g (lw_at lw_m6 55 rfl) rfl
theorem q1385 : (Jvm.Cond.laysFinal "SweptSnowModel" "SweptSnowModel" "hasBy" "[I") ∈ lw_all := lw_g (lw_at lw_m6 56 rfl) rfl
theorem q1386 : (Jvm.Cond.soleField "SweptSnowModel" "hasBy") ∈ lw_all := lw_g (lw_at lw_m6 57 rfl) rfl
theorem q1387 : (Jvm.Cond.laysFinal "SweptSnowModel" "SweptSnowModel" "isFit" "[Z") ∈ lw_all := lw_g (lw_at lw_m6 58 rfl) rfl
theorem q1388 : (Jvm.Cond.soleField "SweptSnowModel" "isFit") ∈ lw_all := lw_g (lw_at lw_m6 59 rfl) rfl
theorem q1389 : (Jvm.Cond.laysFinal "SweptSnowModel" "SweptSnowModel" "snowThen" "[I") ∈ lw_all := lw_g (lw_at lw_m6 60 rfl) rfl
theorem q1390 : (Jvm.Cond.soleField "SweptSnowModel" "snowThen") ∈ lw_all := lw_g (lw_at lw_m6 61 rfl) rfl
theorem q1391 : (Jvm.Cond.lays "SweptSnowModel" "SweptSnowModel" "drawX" "J") ∈ lw_all := lw_g (lw_at lw_m6 62 rfl) rfl
theorem q1392 : (Jvm.Cond.soleField "SweptSnowModel" "drawX") ∈ lw_all := lw_g (lw_at lw_m6 63 rfl) rfl
theorem q1393 : (Jvm.Cond.laysFinal "SweptSnowModel" "SweptSnowModel" "images" "[I") ∈ lw_all := lw_g (lw_at lw_m6 64 rfl) rfl
theorem q1394 : (Jvm.Cond.soleField "SweptSnowModel" "images") ∈ lw_all := lw_g (lw_at lw_m6 65 rfl) rfl
theorem q1395 : (Jvm.Cond.laysFinal "SweptSnowModel" "SweptSnowModel" "imageForce" "[I") ∈ lw_all := lw_g (lw_at lw_m6 66 rfl) rfl
theorem q1396 : (Jvm.Cond.soleField "SweptSnowModel" "imageForce") ∈ lw_all := lw_g (lw_at lw_m6 67 rfl) rfl
theorem q1397 : (Jvm.Cond.laysFinal "SweptSnowModel" "SweptSnowModel" "imageX" "[I") ∈ lw_all := lw_g (lw_at lw_m6 68 rfl) rfl
theorem q1398 : (Jvm.Cond.soleField "SweptSnowModel" "imageX") ∈ lw_all := lw_g (lw_at lw_m6 69 rfl) rfl
theorem q1399 : (Jvm.Cond.laysFinal "SweptSnowModel" "SweptSnowModel" "isMade" "[Z") ∈ lw_all := lw_g (lw_at lw_m6 70 rfl) rfl
theorem q1400 : (Jvm.Cond.soleField "SweptSnowModel" "isMade") ∈ lw_all := lw_g (lw_at lw_m6 71 rfl) rfl
theorem q1401 : (Jvm.Cond.superclass "SweptSnowModel" "java/lang/Object") ∈ lw_all := lw_g (lw_at lw_m6 72 rfl) rfl
theorem q1404 : (Jvm.Cond.instanceMethod ({ cls := "SweptSnowModel", name := "feed", desc := "(IIIII)I" } : Jvm.MethodName)) ∈ lw_all := lw_g (lw_at lw_m6 75 rfl) rfl
theorem q1405 : (Jvm.Cond.selects "SweptSnowModel" ({ cls := "SweptSnowModel", name := "feed", desc := "(IIIII)I" } : Jvm.MethodName) ({ cls := "SweptSnowModel", name := "feed", desc := "(IIIII)I" } : Jvm.MethodName)) ∈ lw_all := lw_g (lw_at lw_m6 76 rfl) rfl
theorem q1406 : (Jvm.Cond.code ({ cls := "SweptSnowModel", name := "feed", desc := "(IIIII)I" } : Jvm.MethodName) prog_19_method_7_code (6 : Nat) (Option.some Jvm.ClassFile.FieldType.int)) ∈ lw_all := lw_g (lw_at lw_m6 77 rfl) rfl
theorem q1407 : (Jvm.Cond.methodLink "SweptSnowModel" (89 : Nat) ({ cls := "SweptSnowModel", name := "four", desc := "(I)V" } : Jvm.MethodName)) ∈ lw_all := lw_g (lw_at lw_m6 78 rfl) rfl
theorem q1408 : (Jvm.Cond.privateMethod ({ cls := "SweptSnowModel", name := "four", desc := "(I)V" } : Jvm.MethodName)) ∈ lw_tbl := lw_at lw_m6 79 rfl
theorem q1409 : (Jvm.Cond.instanceMethod ({ cls := "SweptSnowModel", name := "four", desc := "(I)V" } : Jvm.MethodName)) ∈ lw_all := lw_g (lw_at lw_m6 80 rfl) rfl
theorem q1410 : (Jvm.Cond.code ({ cls := "SweptSnowModel", name := "four", desc := "(I)V" } : Jvm.MethodName) prog_19_method_6_code (3 : Nat) (Option.none : Option Jvm.ClassFile.FieldType)) ∈ lw_all := lw_g (lw_at lw_m6 81 rfl) rfl
theorem q1412 : (Jvm.Cond.instanceMethod ({ cls := "SweptSnowModel", name := "end", desc := "(I)I" } : Jvm.MethodName)) ∈ lw_all := lw_g (lw_at lw_m6 83 rfl) rfl
theorem q1413 : (Jvm.Cond.selects "SweptSnowModel" ({ cls := "SweptSnowModel", name := "end", desc := "(I)I" } : Jvm.MethodName) ({ cls := "SweptSnowModel", name := "end", desc := "(I)I" } : Jvm.MethodName)) ∈ lw_all := lw_g (lw_at lw_m6 84 rfl) rfl
theorem q1414 : (Jvm.Cond.code ({ cls := "SweptSnowModel", name := "end", desc := "(I)I" } : Jvm.MethodName) prog_19_method_8_code (2 : Nat) (Option.some Jvm.ClassFile.FieldType.int)) ∈ lw_all := lw_g (lw_at lw_m6 85 rfl) rfl
theorem q1416 : (Jvm.Cond.instanceMethod ({ cls := "SweptSnowModel", name := "rule", desc := "()I" } : Jvm.MethodName)) ∈ lw_all := lw_g (lw_at lw_m6 87 rfl) rfl
theorem q1417 : (Jvm.Cond.selects "SweptSnowModel" ({ cls := "SweptSnowModel", name := "rule", desc := "()I" } : Jvm.MethodName) ({ cls := "SweptSnowModel", name := "rule", desc := "()I" } : Jvm.MethodName)) ∈ lw_all := lw_g (lw_at lw_m6 88 rfl) rfl
theorem q1418 : (Jvm.Cond.code ({ cls := "SweptSnowModel", name := "rule", desc := "()I" } : Jvm.MethodName) prog_19_method_44_code (1 : Nat) (Option.some Jvm.ClassFile.FieldType.int)) ∈ lw_all := lw_g (lw_at lw_m6 89 rfl) rfl
theorem q1419 : (Jvm.Cond.methodLink "SweptSnowModel" (283 : Nat) ({ cls := "SweptSnowModel", name := "readsAll", desc := "()Z" } : Jvm.MethodName)) ∈ lw_all := lw_g (lw_at lw_m6 90 rfl) rfl
theorem q1420 : (Jvm.Cond.privateMethod ({ cls := "SweptSnowModel", name := "readsAll", desc := "()Z" } : Jvm.MethodName)) ∈ lw_tbl := lw_at lw_m6 91 rfl
theorem q1421 : (Jvm.Cond.instanceMethod ({ cls := "SweptSnowModel", name := "readsAll", desc := "()Z" } : Jvm.MethodName)) ∈ lw_all := lw_g (lw_at lw_m6 92 rfl) rfl
theorem q1422 : (Jvm.Cond.code ({ cls := "SweptSnowModel", name := "readsAll", desc := "()Z" } : Jvm.MethodName) prog_19_method_43_code (2 : Nat) (Option.some Jvm.ClassFile.FieldType.boolean)) ∈ lw_all := lw_g (lw_at lw_m6 93 rfl) rfl
theorem q1423 : (Jvm.Cond.methodLink "SweptSnowModel" (277 : Nat) ({ cls := "SweptSnowModel", name := "clauseHere", desc := "()Z" } : Jvm.MethodName)) ∈ lw_all := lw_g (lw_at lw_m6 94 rfl) rfl
theorem q1424 : (Jvm.Cond.privateMethod ({ cls := "SweptSnowModel", name := "clauseHere", desc := "()Z" } : Jvm.MethodName)) ∈ lw_tbl := lw_at lw_m6 95 rfl
theorem q1425 : (Jvm.Cond.instanceMethod ({ cls := "SweptSnowModel", name := "clauseHere", desc := "()Z" } : Jvm.MethodName)) ∈ lw_all := lw_g (lw_at lw_m6 96 rfl) rfl
theorem q1426 : (Jvm.Cond.code ({ cls := "SweptSnowModel", name := "clauseHere", desc := "()Z" } : Jvm.MethodName) prog_19_method_42_code (3 : Nat) (Option.some Jvm.ClassFile.FieldType.boolean)) ∈ lw_all := lw_g (lw_at lw_m6 97 rfl) rfl
theorem q1427 : (Jvm.Cond.methodLink "SweptSnowModel" (99 : Nat) ({ cls := "SweptSnowModel", name := "see", desc := "()I" } : Jvm.MethodName)) ∈ lw_all := lw_g (lw_at lw_m6 98 rfl) rfl
theorem q1428 : (Jvm.Cond.privateMethod ({ cls := "SweptSnowModel", name := "see", desc := "()I" } : Jvm.MethodName)) ∈ lw_tbl := lw_at lw_m6 99 rfl
theorem q1429 : (Jvm.Cond.instanceMethod ({ cls := "SweptSnowModel", name := "see", desc := "()I" } : Jvm.MethodName)) ∈ lw_all := lw_g (lw_at lw_m6 100 rfl) rfl
theorem q1430 : (Jvm.Cond.code ({ cls := "SweptSnowModel", name := "see", desc := "()I" } : Jvm.MethodName) prog_19_method_10_code (1 : Nat) (Option.some Jvm.ClassFile.FieldType.int)) ∈ lw_all := lw_g (lw_at lw_m6 101 rfl) rfl
theorem q1431 : (Jvm.Cond.methodLink "SweptSnowModel" (263 : Nat) ({ cls := "SweptSnowModel", name := "isValleyWord", desc := "()Z" } : Jvm.MethodName)) ∈ lw_all := lw_g (lw_at lw_m6 102 rfl) rfl
theorem q1432 : (Jvm.Cond.privateMethod ({ cls := "SweptSnowModel", name := "isValleyWord", desc := "()Z" } : Jvm.MethodName)) ∈ lw_tbl := lw_at lw_m6 103 rfl
theorem q1433 : (Jvm.Cond.instanceMethod ({ cls := "SweptSnowModel", name := "isValleyWord", desc := "()Z" } : Jvm.MethodName)) ∈ lw_all := lw_g (lw_at lw_m6 104 rfl) rfl
theorem q1434 : (Jvm.Cond.code ({ cls := "SweptSnowModel", name := "isValleyWord", desc := "()Z" } : Jvm.MethodName) prog_19_method_41_code (1 : Nat) (Option.some Jvm.ClassFile.FieldType.boolean)) ∈ lw_all := lw_g (lw_at lw_m6 105 rfl) rfl
theorem q1435 : (Jvm.Cond.constantLong "SweptSnowModel" (237 : Nat) (130160802948473 : Int64)) ∈ lw_all := lw_g (lw_at lw_m6 106 rfl) rfl
theorem q1436 : (Jvm.Cond.methodLink "SweptSnowModel" (107 : Nat) ({ cls := "SweptSnowModel", name := "isWord", desc := "(J)Z" } : Jvm.MethodName)) ∈ lw_all := lw_g (lw_at lw_m6 107 rfl) rfl
theorem q1437 : (Jvm.Cond.privateMethod ({ cls := "SweptSnowModel", name := "isWord", desc := "(J)Z" } : Jvm.MethodName)) ∈ lw_tbl := lw_at lw_m6 108 rfl
theorem q1438 : (Jvm.Cond.instanceMethod ({ cls := "SweptSnowModel", name := "isWord", desc := "(J)Z" } : Jvm.MethodName)) ∈ lw_all := lw_g (lw_at lw_m6 109 rfl) rfl
theorem q1439 : (Jvm.Cond.code ({ cls := "SweptSnowModel", name := "isWord", desc := "(J)Z" } : Jvm.MethodName) prog_19_method_13_code (6 : Nat) (Option.some Jvm.ClassFile.FieldType.boolean)) ∈ lw_all := lw_g (lw_at lw_m6 110 rfl) rfl
theorem q1440 : (Jvm.Cond.methodLink "SweptSnowModel" (103 : Nat) ({ cls := "SweptSnowModel", name := "isLetter", desc := "(I)Z" } : Jvm.MethodName)) ∈ lw_all := lw_g (lw_at lw_m6 111 rfl) rfl
theorem q1441 : (Jvm.Cond.privateMethod ({ cls := "SweptSnowModel", name := "isLetter", desc := "(I)Z" } : Jvm.MethodName)) ∈ lw_tbl := lw_at lw_m6 112 rfl
theorem q1442 : (Jvm.Cond.instanceMethod ({ cls := "SweptSnowModel", name := "isLetter", desc := "(I)Z" } : Jvm.MethodName)) ∈ lw_all := lw_g (lw_at lw_m6 113 rfl) rfl
theorem q1443 : (Jvm.Cond.code ({ cls := "SweptSnowModel", name := "isLetter", desc := "(I)Z" } : Jvm.MethodName) prog_19_method_12_code (2 : Nat) (Option.some Jvm.ClassFile.FieldType.boolean)) ∈ lw_all := lw_g (lw_at lw_m6 114 rfl) rfl
theorem q1444 : (Jvm.Cond.constantLong "SweptSnowModel" (130 : Nat) (1937007984 : Int64)) ∈ lw_all := lw_g (lw_at lw_m6 115 rfl) rfl
theorem q1445 : (Jvm.Cond.constantLong "SweptSnowModel" (128 : Nat) (448546567013 : Int64)) ∈ lw_all := lw_g (lw_at lw_m6 116 rfl) rfl
theorem q1446 : (Jvm.Cond.constantLong "SweptSnowModel" (248 : Nat) (1885434984 : Int64)) ∈ lw_all := lw_g (lw_at lw_m6 117 rfl) rfl
theorem q1447 : (Jvm.Cond.constantLong "SweptSnowModel" (253 : Nat) (2002873452 : Int64)) ∈ lw_all := lw_g (lw_at lw_m6 118 rfl) rfl
theorem q1448 : (Jvm.Cond.constantLong "SweptSnowModel" (261 : Nat) (1852138852 : Int64)) ∈ lw_all := lw_g (lw_at lw_m6 119 rfl) rfl
theorem q1449 : (Jvm.Cond.constantLong "SweptSnowModel" (266 : Nat) (495924372848 : Int64)) ∈ lw_all := lw_g (lw_at lw_m6 120 rfl) rfl
theorem q1450 : (Jvm.Cond.methodLink "SweptSnowModel" (117 : Nat) ({ cls := "SweptSnowModel", name := "fails", desc := "(II)Z" } : Jvm.MethodName)) ∈ lw_all := lw_g (lw_at lw_m6 121 rfl) rfl
theorem q1451 : (Jvm.Cond.privateMethod ({ cls := "SweptSnowModel", name := "fails", desc := "(II)Z" } : Jvm.MethodName)) ∈ lw_tbl := lw_at lw_m6 122 rfl
theorem q1452 : (Jvm.Cond.instanceMethod ({ cls := "SweptSnowModel", name := "fails", desc := "(II)Z" } : Jvm.MethodName)) ∈ lw_all := lw_g (lw_at lw_m6 123 rfl) rfl
theorem q1453 : (Jvm.Cond.code ({ cls := "SweptSnowModel", name := "fails", desc := "(II)Z" } : Jvm.MethodName) prog_19_method_9_code (3 : Nat) (Option.some Jvm.ClassFile.FieldType.boolean)) ∈ lw_all := lw_g (lw_at lw_m6 124 rfl) rfl
theorem q1454 : (Jvm.Cond.methodLink "SweptSnowModel" (271 : Nat) ({ cls := "SweptSnowModel", name := "valleyLineHere", desc := "(I)Z" } : Jvm.MethodName)) ∈ lw_all := lw_g (lw_at lw_m6 125 rfl) rfl
theorem q1455 : (Jvm.Cond.privateMethod ({ cls := "SweptSnowModel", name := "valleyLineHere", desc := "(I)Z" } : Jvm.MethodName)) ∈ lw_tbl := lw_at lw_m6 126 rfl
theorem q1456 : (Jvm.Cond.instanceMethod ({ cls := "SweptSnowModel", name := "valleyLineHere", desc := "(I)Z" } : Jvm.MethodName)) ∈ lw_all := lw_g (lw_at lw_m6 127 rfl) rfl
theorem q1457 : (Jvm.Cond.code ({ cls := "SweptSnowModel", name := "valleyLineHere", desc := "(I)Z" } : Jvm.MethodName) prog_19_method_40_code (2 : Nat) (Option.some Jvm.ClassFile.FieldType.boolean)) ∈ lw_all := lw_g (lw_at lw_m6 128 rfl) rfl
theorem q1458 : (Jvm.Cond.methodLink "SweptSnowModel" (239 : Nat) ({ cls := "SweptSnowModel", name := "isValleyHere", desc := "(I)Z" } : Jvm.MethodName)) ∈ lw_all := lw_g (lw_at lw_m6 129 rfl) rfl
theorem q1459 : (Jvm.Cond.privateMethod ({ cls := "SweptSnowModel", name := "isValleyHere", desc := "(I)Z" } : Jvm.MethodName)) ∈ lw_tbl := lw_at lw_m6 130 rfl
theorem q1460 : (Jvm.Cond.instanceMethod ({ cls := "SweptSnowModel", name := "isValleyHere", desc := "(I)Z" } : Jvm.MethodName)) ∈ lw_all := lw_g (lw_at lw_m6 131 rfl) rfl
theorem q1461 : (Jvm.Cond.code ({ cls := "SweptSnowModel", name := "isValleyHere", desc := "(I)Z" } : Jvm.MethodName) prog_19_method_33_code (3 : Nat) (Option.some Jvm.ClassFile.FieldType.boolean)) ∈ lw_all := lw_g (lw_at lw_m6 132 rfl) rfl
theorem q1462 : (Jvm.Cond.methodLink "SweptSnowModel" (111 : Nat) ({ cls := "SweptSnowModel", name := "passWord", desc := "()V" } : Jvm.MethodName)) ∈ lw_all := lw_g (lw_at lw_m6 133 rfl) rfl
theorem q1463 : (Jvm.Cond.privateMethod ({ cls := "SweptSnowModel", name := "passWord", desc := "()V" } : Jvm.MethodName)) ∈ lw_tbl := lw_at lw_m6 134 rfl
theorem q1464 : (Jvm.Cond.instanceMethod ({ cls := "SweptSnowModel", name := "passWord", desc := "()V" } : Jvm.MethodName)) ∈ lw_all := lw_g (lw_at lw_m6 135 rfl) rfl
theorem q1465 : (Jvm.Cond.code ({ cls := "SweptSnowModel", name := "passWord", desc := "()V" } : Jvm.MethodName) prog_19_method_14_code (1 : Nat) (Option.none : Option Jvm.ClassFile.FieldType)) ∈ lw_all := lw_g (lw_at lw_m6 136 rfl) rfl
theorem q1466 : (Jvm.Cond.methodLink "SweptSnowModel" (224 : Nat) ({ cls := "SweptSnowModel", name := "cellHere", desc := "(III)Z" } : Jvm.MethodName)) ∈ lw_all := lw_g (lw_at lw_m6 137 rfl) rfl
theorem q1467 : (Jvm.Cond.privateMethod ({ cls := "SweptSnowModel", name := "cellHere", desc := "(III)Z" } : Jvm.MethodName)) ∈ lw_tbl := lw_at lw_m6 138 rfl
theorem q1468 : (Jvm.Cond.instanceMethod ({ cls := "SweptSnowModel", name := "cellHere", desc := "(III)Z" } : Jvm.MethodName)) ∈ lw_all := lw_g (lw_at lw_m6 139 rfl) rfl
theorem q1469 : (Jvm.Cond.code ({ cls := "SweptSnowModel", name := "cellHere", desc := "(III)Z" } : Jvm.MethodName) prog_19_method_32_code (4 : Nat) (Option.some Jvm.ClassFile.FieldType.boolean)) ∈ lw_all := lw_g (lw_at lw_m6 140 rfl) rfl
theorem q1470 : (Jvm.Cond.methodLink "SweptSnowModel" (173 : Nat) ({ cls := "SweptSnowModel", name := "numberHere", desc := "(II)Z" } : Jvm.MethodName)) ∈ lw_all := lw_g (lw_at lw_m6 141 rfl) rfl
theorem q1471 : (Jvm.Cond.privateMethod ({ cls := "SweptSnowModel", name := "numberHere", desc := "(II)Z" } : Jvm.MethodName)) ∈ lw_tbl := lw_at lw_m6 142 rfl
theorem q1472 : (Jvm.Cond.instanceMethod ({ cls := "SweptSnowModel", name := "numberHere", desc := "(II)Z" } : Jvm.MethodName)) ∈ lw_all := lw_g (lw_at lw_m6 143 rfl) rfl
theorem q1473 : (Jvm.Cond.code ({ cls := "SweptSnowModel", name := "numberHere", desc := "(II)Z" } : Jvm.MethodName) prog_19_method_16_code (5 : Nat) (Option.some Jvm.ClassFile.FieldType.boolean)) ∈ lw_all := lw_g (lw_at lw_m6 144 rfl) rfl
theorem q1474 : (Jvm.Cond.methodLink "SweptSnowModel" (114 : Nat) ({ cls := "SweptSnowModel", name := "isDigit", desc := "(I)Z" } : Jvm.MethodName)) ∈ lw_all := lw_g (lw_at lw_m6 145 rfl) rfl
theorem q1475 : (Jvm.Cond.privateMethod ({ cls := "SweptSnowModel", name := "isDigit", desc := "(I)Z" } : Jvm.MethodName)) ∈ lw_tbl := lw_at lw_m6 146 rfl
theorem q1476 : (Jvm.Cond.instanceMethod ({ cls := "SweptSnowModel", name := "isDigit", desc := "(I)Z" } : Jvm.MethodName)) ∈ lw_all := lw_g (lw_at lw_m6 147 rfl) rfl
theorem q1477 : (Jvm.Cond.code ({ cls := "SweptSnowModel", name := "isDigit", desc := "(I)Z" } : Jvm.MethodName) prog_19_method_11_code (2 : Nat) (Option.some Jvm.ClassFile.FieldType.boolean)) ∈ lw_all := lw_g (lw_at lw_m6 148 rfl) rfl
theorem q1478 : (Jvm.Cond.methodLink "SweptSnowModel" (124 : Nat) ({ cls := "SweptSnowModel", name := "in", desc := "(JJJ)Z" } : Jvm.MethodName)) ∈ lw_all := lw_g (lw_at lw_m6 149 rfl) rfl
theorem q1479 : (Jvm.Cond.static ({ cls := "SweptSnowModel", name := "in", desc := "(JJJ)Z" } : Jvm.MethodName)) ∈ lw_all := lw_g (lw_at lw_m6 150 rfl) rfl
theorem q1480 : (Jvm.Cond.code ({ cls := "SweptSnowModel", name := "in", desc := "(JJJ)Z" } : Jvm.MethodName) prog_19_method_2_code (6 : Nat) (Option.some Jvm.ClassFile.FieldType.boolean)) ∈ lw_all := lw_g (lw_at lw_m6 151 rfl) rfl
theorem q1481 : (Jvm.Cond.methodLink "SweptSnowModel" (242 : Nat) ({ cls := "SweptSnowModel", name := "isStepHere", desc := "(I)Z" } : Jvm.MethodName)) ∈ lw_all := lw_g (lw_at lw_m6 152 rfl) rfl
theorem q1482 : (Jvm.Cond.privateMethod ({ cls := "SweptSnowModel", name := "isStepHere", desc := "(I)Z" } : Jvm.MethodName)) ∈ lw_tbl := lw_at lw_m6 153 rfl
theorem q1483 : (Jvm.Cond.instanceMethod ({ cls := "SweptSnowModel", name := "isStepHere", desc := "(I)Z" } : Jvm.MethodName)) ∈ lw_all := lw_g (lw_at lw_m6 154 rfl) rfl
theorem q1484 : (Jvm.Cond.code ({ cls := "SweptSnowModel", name := "isStepHere", desc := "(I)Z" } : Jvm.MethodName) prog_19_method_34_code (2 : Nat) (Option.some Jvm.ClassFile.FieldType.boolean)) ∈ lw_all := lw_g (lw_at lw_m6 155 rfl) rfl
theorem q1485 : (Jvm.Cond.methodLink "SweptSnowModel" (245 : Nat) ({ cls := "SweptSnowModel", name := "isHouseHere", desc := "(I)Z" } : Jvm.MethodName)) ∈ lw_all := lw_g (lw_at lw_m6 156 rfl) rfl
theorem q1486 : (Jvm.Cond.privateMethod ({ cls := "SweptSnowModel", name := "isHouseHere", desc := "(I)Z" } : Jvm.MethodName)) ∈ lw_tbl := lw_at lw_m6 157 rfl
theorem q1487 : (Jvm.Cond.instanceMethod ({ cls := "SweptSnowModel", name := "isHouseHere", desc := "(I)Z" } : Jvm.MethodName)) ∈ lw_all := lw_g (lw_at lw_m6 158 rfl) rfl
theorem q1488 : (Jvm.Cond.code ({ cls := "SweptSnowModel", name := "isHouseHere", desc := "(I)Z" } : Jvm.MethodName) prog_19_method_35_code (3 : Nat) (Option.some Jvm.ClassFile.FieldType.boolean)) ∈ lw_all := lw_g (lw_at lw_m6 159 rfl) rfl
theorem q1489 : (Jvm.Cond.methodLink "SweptSnowModel" (250 : Nat) ({ cls := "SweptSnowModel", name := "isPathHere", desc := "()Z" } : Jvm.MethodName)) ∈ lw_all := lw_g (lw_at lw_m6 160 rfl) rfl
theorem q1490 : (Jvm.Cond.privateMethod ({ cls := "SweptSnowModel", name := "isPathHere", desc := "()Z" } : Jvm.MethodName)) ∈ lw_tbl := lw_at lw_m6 161 rfl
theorem q1491 : (Jvm.Cond.instanceMethod ({ cls := "SweptSnowModel", name := "isPathHere", desc := "()Z" } : Jvm.MethodName)) ∈ lw_all := lw_g (lw_at lw_m6 162 rfl) rfl
theorem q1492 : (Jvm.Cond.code ({ cls := "SweptSnowModel", name := "isPathHere", desc := "()Z" } : Jvm.MethodName) prog_19_method_37_code (1 : Nat) (Option.some Jvm.ClassFile.FieldType.boolean)) ∈ lw_all := lw_g (lw_at lw_m6 163 rfl) rfl
theorem q1493 : (Jvm.Cond.methodLink "SweptSnowModel" (234 : Nat) ({ cls := "SweptSnowModel", name := "areStepsHere", desc := "()Z" } : Jvm.MethodName)) ∈ lw_all := lw_g (lw_at lw_m6 164 rfl) rfl
theorem q1494 : (Jvm.Cond.privateMethod ({ cls := "SweptSnowModel", name := "areStepsHere", desc := "()Z" } : Jvm.MethodName)) ∈ lw_tbl := lw_at lw_m6 165 rfl
theorem q1495 : (Jvm.Cond.instanceMethod ({ cls := "SweptSnowModel", name := "areStepsHere", desc := "()Z" } : Jvm.MethodName)) ∈ lw_all := lw_g (lw_at lw_m6 166 rfl) rfl
theorem q1496 : (Jvm.Cond.code ({ cls := "SweptSnowModel", name := "areStepsHere", desc := "()Z" } : Jvm.MethodName) prog_19_method_36_code (2 : Nat) (Option.some Jvm.ClassFile.FieldType.boolean)) ∈ lw_all := lw_g (lw_at lw_m6 167 rfl) rfl
theorem q1497 : (Jvm.Cond.methodLink "SweptSnowModel" (255 : Nat) ({ cls := "SweptSnowModel", name := "isWallHere", desc := "()Z" } : Jvm.MethodName)) ∈ lw_all := lw_g (lw_at lw_m6 168 rfl) rfl
theorem q1498 : (Jvm.Cond.privateMethod ({ cls := "SweptSnowModel", name := "isWallHere", desc := "()Z" } : Jvm.MethodName)) ∈ lw_tbl := lw_at lw_m6 169 rfl
theorem q1499 : (Jvm.Cond.instanceMethod ({ cls := "SweptSnowModel", name := "isWallHere", desc := "()Z" } : Jvm.MethodName)) ∈ lw_all := lw_g (lw_at lw_m6 170 rfl) rfl
theorem q1500 : (Jvm.Cond.code ({ cls := "SweptSnowModel", name := "isWallHere", desc := "()Z" } : Jvm.MethodName) prog_19_method_38_code (1 : Nat) (Option.some Jvm.ClassFile.FieldType.boolean)) ∈ lw_all := lw_g (lw_at lw_m6 171 rfl) rfl
theorem q1501 : (Jvm.Cond.methodLink "SweptSnowModel" (258 : Nat) ({ cls := "SweptSnowModel", name := "isNeedHere", desc := "()Z" } : Jvm.MethodName)) ∈ lw_all := lw_g (lw_at lw_m6 172 rfl) rfl
theorem q1502 : (Jvm.Cond.privateMethod ({ cls := "SweptSnowModel", name := "isNeedHere", desc := "()Z" } : Jvm.MethodName)) ∈ lw_tbl := lw_at lw_m6 173 rfl
theorem q1503 : (Jvm.Cond.instanceMethod ({ cls := "SweptSnowModel", name := "isNeedHere", desc := "()Z" } : Jvm.MethodName)) ∈ lw_all := lw_g (lw_at lw_m6 174 rfl) rfl
theorem q1504 : (Jvm.Cond.code ({ cls := "SweptSnowModel", name := "isNeedHere", desc := "()Z" } : Jvm.MethodName) prog_19_method_39_code (2 : Nat) (Option.some Jvm.ClassFile.FieldType.boolean)) ∈ lw_all := lw_g (lw_at lw_m6 175 rfl) rfl
theorem q1505 : (Jvm.Cond.methodLink "SweptSnowModel" (274 : Nat) ({ cls := "SweptSnowModel", name := "isSweepHere", desc := "()Z" } : Jvm.MethodName)) ∈ lw_all := lw_g (lw_at lw_m6 176 rfl) rfl
theorem q1506 : (Jvm.Cond.privateMethod ({ cls := "SweptSnowModel", name := "isSweepHere", desc := "()Z" } : Jvm.MethodName)) ∈ lw_tbl := lw_at lw_m6 177 rfl
theorem q1507 : (Jvm.Cond.instanceMethod ({ cls := "SweptSnowModel", name := "isSweepHere", desc := "()Z" } : Jvm.MethodName)) ∈ lw_all := lw_g (lw_at lw_m6 178 rfl) rfl
theorem q1508 : (Jvm.Cond.code ({ cls := "SweptSnowModel", name := "isSweepHere", desc := "()Z" } : Jvm.MethodName) prog_19_method_31_code (2 : Nat) (Option.some Jvm.ClassFile.FieldType.boolean)) ∈ lw_all := lw_g (lw_at lw_m6 179 rfl) rfl
theorem q1509 : (Jvm.Cond.methodLink "SweptSnowModel" (189 : Nat) ({ cls := "SweptSnowModel", name := "sum", desc := "()Z" } : Jvm.MethodName)) ∈ lw_all := lw_g (lw_at lw_m6 180 rfl) rfl
theorem q1510 : (Jvm.Cond.privateMethod ({ cls := "SweptSnowModel", name := "sum", desc := "()Z" } : Jvm.MethodName)) ∈ lw_tbl := lw_at lw_m6 181 rfl
theorem q1511 : (Jvm.Cond.instanceMethod ({ cls := "SweptSnowModel", name := "sum", desc := "()Z" } : Jvm.MethodName)) ∈ lw_all := lw_g (lw_at lw_m6 182 rfl) rfl
theorem q1512 : (Jvm.Cond.code ({ cls := "SweptSnowModel", name := "sum", desc := "()Z" } : Jvm.MethodName) prog_19_method_25_code (2 : Nat) (Option.some Jvm.ClassFile.FieldType.boolean)) ∈ lw_all := lw_g (lw_at lw_m6 183 rfl) rfl
theorem q1513 : (Jvm.Cond.methodLink "SweptSnowModel" (186 : Nat) ({ cls := "SweptSnowModel", name := "term", desc := "()Z" } : Jvm.MethodName)) ∈ lw_all := lw_g (lw_at lw_m6 184 rfl) rfl
theorem q1514 : (Jvm.Cond.privateMethod ({ cls := "SweptSnowModel", name := "term", desc := "()Z" } : Jvm.MethodName)) ∈ lw_tbl := lw_at lw_m6 185 rfl
theorem q1515 : (Jvm.Cond.instanceMethod ({ cls := "SweptSnowModel", name := "term", desc := "()Z" } : Jvm.MethodName)) ∈ lw_all := lw_g (lw_at lw_m6 186 rfl) rfl
theorem q1516 : (Jvm.Cond.code ({ cls := "SweptSnowModel", name := "term", desc := "()Z" } : Jvm.MethodName) prog_19_method_24_code (2 : Nat) (Option.some Jvm.ClassFile.FieldType.boolean)) ∈ lw_all := lw_g (lw_at lw_m6 187 rfl) rfl
theorem q1517 : (Jvm.Cond.methodLink "SweptSnowModel" (182 : Nat) ({ cls := "SweptSnowModel", name := "value", desc := "()Z" } : Jvm.MethodName)) ∈ lw_all := lw_g (lw_at lw_m6 188 rfl) rfl
theorem q1518 : (Jvm.Cond.privateMethod ({ cls := "SweptSnowModel", name := "value", desc := "()Z" } : Jvm.MethodName)) ∈ lw_tbl := lw_at lw_m6 189 rfl
theorem q1519 : (Jvm.Cond.instanceMethod ({ cls := "SweptSnowModel", name := "value", desc := "()Z" } : Jvm.MethodName)) ∈ lw_all := lw_g (lw_at lw_m6 190 rfl) rfl
theorem q1520 : (Jvm.Cond.code ({ cls := "SweptSnowModel", name := "value", desc := "()Z" } : Jvm.MethodName) prog_19_method_23_code (3 : Nat) (Option.some Jvm.ClassFile.FieldType.boolean)) ∈ lw_all := lw_g (lw_at lw_m6 191 rfl) rfl
theorem q1521 : (Jvm.Cond.constant "SweptSnowModel" (172 : Nat) (99999 : Int32)) ∈ lw_all := lw_g (lw_at lw_m6 192 rfl) rfl
theorem q1522 : (Jvm.Cond.methodLink "SweptSnowModel" (176 : Nat) ({ cls := "SweptSnowModel", name := "makes", desc := "(I)Z" } : Jvm.MethodName)) ∈ lw_all := lw_g (lw_at lw_m6 193 rfl) rfl
theorem q1523 : (Jvm.Cond.privateMethod ({ cls := "SweptSnowModel", name := "makes", desc := "(I)Z" } : Jvm.MethodName)) ∈ lw_tbl := lw_at lw_m6 194 rfl
theorem q1524 : (Jvm.Cond.instanceMethod ({ cls := "SweptSnowModel", name := "makes", desc := "(I)Z" } : Jvm.MethodName)) ∈ lw_all := lw_g (lw_at lw_m6 195 rfl) rfl
theorem q1525 : (Jvm.Cond.code ({ cls := "SweptSnowModel", name := "makes", desc := "(I)Z" } : Jvm.MethodName) prog_19_method_19_code (2 : Nat) (Option.some Jvm.ClassFile.FieldType.boolean)) ∈ lw_all := lw_g (lw_at lw_m6 196 rfl) rfl
theorem q1526 : (Jvm.Cond.methodLink "SweptSnowModel" (168 : Nat) ({ cls := "SweptSnowModel", name := "puts", desc := "(II)V" } : Jvm.MethodName)) ∈ lw_all := lw_g (lw_at lw_m6 197 rfl) rfl
theorem q1527 : (Jvm.Cond.privateMethod ({ cls := "SweptSnowModel", name := "puts", desc := "(II)V" } : Jvm.MethodName)) ∈ lw_tbl := lw_at lw_m6 198 rfl
theorem q1528 : (Jvm.Cond.instanceMethod ({ cls := "SweptSnowModel", name := "puts", desc := "(II)V" } : Jvm.MethodName)) ∈ lw_all := lw_g (lw_at lw_m6 199 rfl) rfl
theorem q1529 : (Jvm.Cond.code ({ cls := "SweptSnowModel", name := "puts", desc := "(II)V" } : Jvm.MethodName) prog_19_method_18_code (3 : Nat) (Option.none : Option Jvm.ClassFile.FieldType)) ∈ lw_all := lw_g (lw_at lw_m6 200 rfl) rfl
theorem q1530 : (Jvm.Cond.methodLink "SweptSnowModel" (179 : Nat) ({ cls := "SweptSnowModel", name := "wordHere", desc := "()I" } : Jvm.MethodName)) ∈ lw_all := lw_g (lw_at lw_m6 201 rfl) rfl
theorem q1531 : (Jvm.Cond.privateMethod ({ cls := "SweptSnowModel", name := "wordHere", desc := "()I" } : Jvm.MethodName)) ∈ lw_tbl := lw_at lw_m6 202 rfl
theorem q1532 : (Jvm.Cond.instanceMethod ({ cls := "SweptSnowModel", name := "wordHere", desc := "()I" } : Jvm.MethodName)) ∈ lw_all := lw_g (lw_at lw_m6 203 rfl) rfl
theorem q1533 : (Jvm.Cond.code ({ cls := "SweptSnowModel", name := "wordHere", desc := "()I" } : Jvm.MethodName) prog_19_method_17_code (1 : Nat) (Option.some Jvm.ClassFile.FieldType.int)) ∈ lw_all := lw_g (lw_at lw_m6 204 rfl) rfl
theorem q1534 : (Jvm.Cond.constantLong "SweptSnowModel" (132 : Nat) (7305070 : Int64)) ∈ lw_all := lw_g (lw_at lw_m6 205 rfl) rfl
theorem q1535 : (Jvm.Cond.constantLong "SweptSnowModel" (134 : Nat) (1936617335 : Int64)) ∈ lw_all := lw_g (lw_at lw_m6 206 rfl) rfl
theorem q1536 : (Jvm.Cond.constantLong "SweptSnowModel" (136 : Nat) (8319400191629685864 : Int64)) ∈ lw_all := lw_g (lw_at lw_m6 207 rfl) rfl
theorem q1537 : (Jvm.Cond.constantLong "SweptSnowModel" (138 : Nat) (495924375668 : Int64)) ∈ lw_all := lw_g (lw_at lw_m6 208 rfl) rfl
theorem q1538 : (Jvm.Cond.constantLong "SweptSnowModel" (140 : Nat) (108187649798757 : Int64)) ∈ lw_all := lw_g (lw_at lw_m6 209 rfl) rfl
theorem q1539 : (Jvm.Cond.constantLong "SweptSnowModel" (142 : Nat) (109317377451364 : Int64)) ∈ lw_all := lw_g (lw_at lw_m6 210 rfl) rfl
theorem q1540 : (Jvm.Cond.constantLong "SweptSnowModel" (144 : Nat) (121381771830628 : Int64)) ∈ lw_all := lw_g (lw_at lw_m6 211 rfl) rfl
theorem q1541 : (Jvm.Cond.constantLong "SweptSnowModel" (146 : Nat) (1852143732 : Int64)) ∈ lw_all := lw_g (lw_at lw_m6 212 rfl) rfl
theorem q1542 : (Jvm.Cond.constantLong "SweptSnowModel" (148 : Nat) (108187867505765 : Int64)) ∈ lw_all := lw_g (lw_at lw_m6 213 rfl) rfl
theorem q1543 : (Jvm.Cond.constantLong "SweptSnowModel" (150 : Nat) (6578553 : Int64)) ∈ lw_all := lw_g (lw_at lw_m6 214 rfl) rfl
theorem q1544 : (Jvm.Cond.constantLong "SweptSnowModel" (216 : Nat) (26982 : Int64)) ∈ lw_all := lw_g (lw_at lw_m6 215 rfl) rfl
theorem q1545 : (Jvm.Cond.methodLink "SweptSnowModel" (218 : Nat) ({ cls := "SweptSnowModel", name := "takesWord", desc := "(J)Z" } : Jvm.MethodName)) ∈ lw_all := lw_g (lw_at lw_m6 216 rfl) rfl
theorem q1546 : (Jvm.Cond.privateMethod ({ cls := "SweptSnowModel", name := "takesWord", desc := "(J)Z" } : Jvm.MethodName)) ∈ lw_tbl := lw_at lw_m6 217 rfl
theorem q1547 : (Jvm.Cond.instanceMethod ({ cls := "SweptSnowModel", name := "takesWord", desc := "(J)Z" } : Jvm.MethodName)) ∈ lw_all := lw_g (lw_at lw_m6 218 rfl) rfl
theorem q1548 : (Jvm.Cond.code ({ cls := "SweptSnowModel", name := "takesWord", desc := "(J)Z" } : Jvm.MethodName) prog_19_method_15_code (3 : Nat) (Option.some Jvm.ClassFile.FieldType.boolean)) ∈ lw_all := lw_g (lw_at lw_m6 219 rfl) rfl
theorem q1549 : (Jvm.Cond.methodLink "SweptSnowModel" (221 : Nat) ({ cls := "SweptSnowModel", name := "tested", desc := "()Z" } : Jvm.MethodName)) ∈ lw_all := lw_g (lw_at lw_m6 220 rfl) rfl
theorem q1550 : (Jvm.Cond.privateMethod ({ cls := "SweptSnowModel", name := "tested", desc := "()Z" } : Jvm.MethodName)) ∈ lw_tbl := lw_at lw_m6 221 rfl
theorem q1551 : (Jvm.Cond.instanceMethod ({ cls := "SweptSnowModel", name := "tested", desc := "()Z" } : Jvm.MethodName)) ∈ lw_all := lw_g (lw_at lw_m6 222 rfl) rfl
theorem q1552 : (Jvm.Cond.code ({ cls := "SweptSnowModel", name := "tested", desc := "()Z" } : Jvm.MethodName) prog_19_method_30_code (3 : Nat) (Option.some Jvm.ClassFile.FieldType.boolean)) ∈ lw_all := lw_g (lw_at lw_m6 223 rfl) rfl
theorem q1553 : (Jvm.Cond.methodLink "SweptSnowModel" (206 : Nat) ({ cls := "SweptSnowModel", name := "fact", desc := "()Z" } : Jvm.MethodName)) ∈ lw_all := lw_g (lw_at lw_m6 224 rfl) rfl
theorem q1554 : (Jvm.Cond.privateMethod ({ cls := "SweptSnowModel", name := "fact", desc := "()Z" } : Jvm.MethodName)) ∈ lw_tbl := lw_at lw_m6 225 rfl
theorem q1555 : (Jvm.Cond.instanceMethod ({ cls := "SweptSnowModel", name := "fact", desc := "()Z" } : Jvm.MethodName)) ∈ lw_all := lw_g (lw_at lw_m6 226 rfl) rfl
theorem q1556 : (Jvm.Cond.code ({ cls := "SweptSnowModel", name := "fact", desc := "()Z" } : Jvm.MethodName) prog_19_method_27_code (3 : Nat) (Option.some Jvm.ClassFile.FieldType.boolean)) ∈ lw_all := lw_g (lw_at lw_m6 227 rfl) rfl
theorem q1557 : (Jvm.Cond.constantLong "SweptSnowModel" (192 : Nat) (7237492 : Int64)) ∈ lw_all := lw_g (lw_at lw_m6 228 rfl) rfl
theorem q1558 : (Jvm.Cond.methodLink "SweptSnowModel" (194 : Nat) ({ cls := "SweptSnowModel", name := "opens", desc := "(I)Z" } : Jvm.MethodName)) ∈ lw_all := lw_g (lw_at lw_m6 229 rfl) rfl
theorem q1559 : (Jvm.Cond.privateMethod ({ cls := "SweptSnowModel", name := "opens", desc := "(I)Z" } : Jvm.MethodName)) ∈ lw_tbl := lw_at lw_m6 230 rfl
theorem q1560 : (Jvm.Cond.instanceMethod ({ cls := "SweptSnowModel", name := "opens", desc := "(I)Z" } : Jvm.MethodName)) ∈ lw_all := lw_g (lw_at lw_m6 231 rfl) rfl
theorem q1561 : (Jvm.Cond.code ({ cls := "SweptSnowModel", name := "opens", desc := "(I)Z" } : Jvm.MethodName) prog_19_method_20_code (2 : Nat) (Option.some Jvm.ClassFile.FieldType.boolean)) ∈ lw_all := lw_g (lw_at lw_m6 232 rfl) rfl
theorem q1562 : (Jvm.Cond.methodLink "SweptSnowModel" (197 : Nat) ({ cls := "SweptSnowModel", name := "compare", desc := "()Z" } : Jvm.MethodName)) ∈ lw_all := lw_g (lw_at lw_m6 233 rfl) rfl
theorem q1563 : (Jvm.Cond.privateMethod ({ cls := "SweptSnowModel", name := "compare", desc := "()Z" } : Jvm.MethodName)) ∈ lw_tbl := lw_at lw_m6 234 rfl
theorem q1564 : (Jvm.Cond.instanceMethod ({ cls := "SweptSnowModel", name := "compare", desc := "()Z" } : Jvm.MethodName)) ∈ lw_all := lw_g (lw_at lw_m6 235 rfl) rfl
theorem q1565 : (Jvm.Cond.code ({ cls := "SweptSnowModel", name := "compare", desc := "()Z" } : Jvm.MethodName) prog_19_method_26_code (5 : Nat) (Option.some Jvm.ClassFile.FieldType.boolean)) ∈ lw_all := lw_g (lw_at lw_m6 236 rfl) rfl
theorem q1566 : (Jvm.Cond.methodLink "SweptSnowModel" (209 : Nat) ({ cls := "SweptSnowModel", name := "closes", desc := "()V" } : Jvm.MethodName)) ∈ lw_all := lw_g (lw_at lw_m6 237 rfl) rfl
theorem q1567 : (Jvm.Cond.privateMethod ({ cls := "SweptSnowModel", name := "closes", desc := "()V" } : Jvm.MethodName)) ∈ lw_tbl := lw_at lw_m6 238 rfl
theorem q1568 : (Jvm.Cond.instanceMethod ({ cls := "SweptSnowModel", name := "closes", desc := "()V" } : Jvm.MethodName)) ∈ lw_all := lw_g (lw_at lw_m6 239 rfl) rfl
theorem q1569 : (Jvm.Cond.code ({ cls := "SweptSnowModel", name := "closes", desc := "()V" } : Jvm.MethodName) prog_19_method_29_code (1 : Nat) (Option.none : Option Jvm.ClassFile.FieldType)) ∈ lw_all := lw_g (lw_at lw_m7 0 rfl) rfl
theorem q1570 : (Jvm.Cond.methodLink "SweptSnowModel" (200 : Nat) ({ cls := "SweptSnowModel", name := "settles", desc := "(I)V" } : Jvm.MethodName)) ∈ lw_all := lw_g (lw_at lw_m7 1 rfl) rfl
theorem q1571 : (Jvm.Cond.privateMethod ({ cls := "SweptSnowModel", name := "settles", desc := "(I)V" } : Jvm.MethodName)) ∈ lw_tbl := lw_at lw_m7 2 rfl
theorem q1572 : (Jvm.Cond.instanceMethod ({ cls := "SweptSnowModel", name := "settles", desc := "(I)V" } : Jvm.MethodName)) ∈ lw_all := lw_g (lw_at lw_m7 3 rfl) rfl
theorem q1573 : (Jvm.Cond.code ({ cls := "SweptSnowModel", name := "settles", desc := "(I)V" } : Jvm.MethodName) prog_19_method_22_code (2 : Nat) (Option.none : Option Jvm.ClassFile.FieldType)) ∈ lw_all := lw_g (lw_at lw_m7 4 rfl) rfl
theorem q1574 : (Jvm.Cond.methodLink "SweptSnowModel" (164 : Nat) ({ cls := "SweptSnowModel", name := "strength", desc := "(I)I" } : Jvm.MethodName)) ∈ lw_all := lw_g (lw_at lw_m7 5 rfl) rfl
theorem q1575 : (Jvm.Cond.static ({ cls := "SweptSnowModel", name := "strength", desc := "(I)I" } : Jvm.MethodName)) ∈ lw_all := lw_g (lw_at lw_m7 6 rfl) rfl
theorem q1576 : (Jvm.Cond.code ({ cls := "SweptSnowModel", name := "strength", desc := "(I)I" } : Jvm.MethodName) prog_19_method_21_code (1 : Nat) (Option.some Jvm.ClassFile.FieldType.int)) ∈ lw_all := lw_g (lw_at lw_m7 7 rfl) rfl
theorem q1577 : (Jvm.Cond.methodLink "SweptSnowModel" (203 : Nat) ({ cls := "SweptSnowModel", name := "isInside", desc := "()Z" } : Jvm.MethodName)) ∈ lw_all := lw_g (lw_at lw_m7 8 rfl) rfl
theorem q1578 : (Jvm.Cond.privateMethod ({ cls := "SweptSnowModel", name := "isInside", desc := "()Z" } : Jvm.MethodName)) ∈ lw_tbl := lw_at lw_m7 9 rfl
theorem q1579 : (Jvm.Cond.instanceMethod ({ cls := "SweptSnowModel", name := "isInside", desc := "()Z" } : Jvm.MethodName)) ∈ lw_all := lw_g (lw_at lw_m7 10 rfl) rfl
theorem q1580 : (Jvm.Cond.code ({ cls := "SweptSnowModel", name := "isInside", desc := "()Z" } : Jvm.MethodName) prog_19_method_28_code (2 : Nat) (Option.some Jvm.ClassFile.FieldType.boolean)) ∈ lw_all := lw_g (lw_at lw_m7 11 rfl) rfl
theorem q1581 : (Jvm.Cond.constantLong "SweptSnowModel" (212 : Nat) (6385252 : Int64)) ∈ lw_all := lw_g (lw_at lw_m7 12 rfl) rfl
theorem q1582 : (Jvm.Cond.constantLong "SweptSnowModel" (214 : Nat) (28530 : Int64)) ∈ lw_all := lw_g (lw_at lw_m7 13 rfl) rfl
theorem q1584 : (Jvm.Cond.instanceMethod ({ cls := "SweptSnowModel", name := "valley", desc := "()I" } : Jvm.MethodName)) ∈ lw_all := lw_g (lw_at lw_m7 15 rfl) rfl
theorem q1585 : (Jvm.Cond.selects "SweptSnowModel" ({ cls := "SweptSnowModel", name := "valley", desc := "()I" } : Jvm.MethodName) ({ cls := "SweptSnowModel", name := "valley", desc := "()I" } : Jvm.MethodName)) ∈ lw_all := lw_g (lw_at lw_m7 16 rfl) rfl
theorem q1586 : (Jvm.Cond.code ({ cls := "SweptSnowModel", name := "valley", desc := "()I" } : Jvm.MethodName) prog_19_method_45_code (2 : Nat) (Option.some Jvm.ClassFile.FieldType.int)) ∈ lw_all := lw_g (lw_at lw_m7 17 rfl) rfl
theorem q1587 : (Jvm.Cond.methodLink "SweptSnowModel" (286 : Nat) ({ cls := "SweptSnowModel", name := "begins", desc := "()V" } : Jvm.MethodName)) ∈ lw_all := lw_g (lw_at lw_m7 18 rfl) rfl
theorem q1588 : (Jvm.Cond.privateMethod ({ cls := "SweptSnowModel", name := "begins", desc := "()V" } : Jvm.MethodName)) ∈ lw_tbl := lw_at lw_m7 19 rfl
theorem q1589 : (Jvm.Cond.instanceMethod ({ cls := "SweptSnowModel", name := "begins", desc := "()V" } : Jvm.MethodName)) ∈ lw_all := lw_g (lw_at lw_m7 20 rfl) rfl
theorem q1590 : (Jvm.Cond.code ({ cls := "SweptSnowModel", name := "begins", desc := "()V" } : Jvm.MethodName) prog_19_method_60_code (2 : Nat) (Option.none : Option Jvm.ClassFile.FieldType)) ∈ lw_all := lw_g (lw_at lw_m7 21 rfl) rfl
theorem q1592 : (Jvm.Cond.instanceMethod ({ cls := "SweptSnowModel", name := "force", desc := "(I)I" } : Jvm.MethodName)) ∈ lw_all := lw_g (lw_at lw_m7 23 rfl) rfl
theorem q1593 : (Jvm.Cond.selects "SweptSnowModel" ({ cls := "SweptSnowModel", name := "force", desc := "(I)I" } : Jvm.MethodName) ({ cls := "SweptSnowModel", name := "force", desc := "(I)I" } : Jvm.MethodName)) ∈ lw_all := lw_g (lw_at lw_m7 24 rfl) rfl
theorem q1594 : (Jvm.Cond.code ({ cls := "SweptSnowModel", name := "force", desc := "(I)I" } : Jvm.MethodName) prog_19_method_61_code (3 : Nat) (Option.some Jvm.ClassFile.FieldType.int)) ∈ lw_all := lw_g (lw_at lw_m7 25 rfl) rfl
theorem q1595 : (Jvm.Cond.methodLink "SweptSnowModel" (310 : Nat) ({ cls := "SweptSnowModel", name := "isRule", desc := "(I)Z" } : Jvm.MethodName)) ∈ lw_all := lw_g (lw_at lw_m7 26 rfl) rfl
theorem q1596 : (Jvm.Cond.privateMethod ({ cls := "SweptSnowModel", name := "isRule", desc := "(I)Z" } : Jvm.MethodName)) ∈ lw_tbl := lw_at lw_m7 27 rfl
theorem q1597 : (Jvm.Cond.instanceMethod ({ cls := "SweptSnowModel", name := "isRule", desc := "(I)Z" } : Jvm.MethodName)) ∈ lw_all := lw_g (lw_at lw_m7 28 rfl) rfl
theorem q1598 : (Jvm.Cond.code ({ cls := "SweptSnowModel", name := "isRule", desc := "(I)Z" } : Jvm.MethodName) prog_19_method_46_code (2 : Nat) (Option.some Jvm.ClassFile.FieldType.boolean)) ∈ lw_all := lw_g (lw_at lw_m7 29 rfl) rfl
theorem q1600 : (Jvm.Cond.instanceMethod ({ cls := "SweptSnowModel", name := "step", desc := "(II)I" } : Jvm.MethodName)) ∈ lw_all := lw_g (lw_at lw_m7 31 rfl) rfl
theorem q1601 : (Jvm.Cond.selects "SweptSnowModel" ({ cls := "SweptSnowModel", name := "step", desc := "(II)I" } : Jvm.MethodName) ({ cls := "SweptSnowModel", name := "step", desc := "(II)I" } : Jvm.MethodName)) ∈ lw_all := lw_g (lw_at lw_m7 32 rfl) rfl
theorem q1602 : (Jvm.Cond.code ({ cls := "SweptSnowModel", name := "step", desc := "(II)I" } : Jvm.MethodName) prog_19_method_62_code (3 : Nat) (Option.some Jvm.ClassFile.FieldType.int)) ∈ lw_all := lw_g (lw_at lw_m7 33 rfl) rfl
theorem q1603 : (Jvm.Cond.methodLink "SweptSnowModel" (313 : Nat) ({ cls := "SweptSnowModel", name := "isStep", desc := "(I)Z" } : Jvm.MethodName)) ∈ lw_all := lw_g (lw_at lw_m7 34 rfl) rfl
theorem q1604 : (Jvm.Cond.privateMethod ({ cls := "SweptSnowModel", name := "isStep", desc := "(I)Z" } : Jvm.MethodName)) ∈ lw_tbl := lw_at lw_m7 35 rfl
theorem q1605 : (Jvm.Cond.instanceMethod ({ cls := "SweptSnowModel", name := "isStep", desc := "(I)Z" } : Jvm.MethodName)) ∈ lw_all := lw_g (lw_at lw_m7 36 rfl) rfl
theorem q1606 : (Jvm.Cond.code ({ cls := "SweptSnowModel", name := "isStep", desc := "(I)Z" } : Jvm.MethodName) prog_19_method_52_code (2 : Nat) (Option.some Jvm.ClassFile.FieldType.boolean)) ∈ lw_all := lw_g (lw_at lw_m7 37 rfl) rfl
theorem q1607 : (Jvm.Cond.methodLink "SweptSnowModel" (307 : Nat) ({ cls := "SweptSnowModel", name := "isClosed", desc := "(I)Z" } : Jvm.MethodName)) ∈ lw_all := lw_g (lw_at lw_m7 38 rfl) rfl
theorem q1608 : (Jvm.Cond.privateMethod ({ cls := "SweptSnowModel", name := "isClosed", desc := "(I)Z" } : Jvm.MethodName)) ∈ lw_tbl := lw_at lw_m7 39 rfl
theorem q1609 : (Jvm.Cond.instanceMethod ({ cls := "SweptSnowModel", name := "isClosed", desc := "(I)Z" } : Jvm.MethodName)) ∈ lw_all := lw_g (lw_at lw_m7 40 rfl) rfl
theorem q1610 : (Jvm.Cond.code ({ cls := "SweptSnowModel", name := "isClosed", desc := "(I)Z" } : Jvm.MethodName) prog_19_method_54_code (2 : Nat) (Option.some Jvm.ClassFile.FieldType.boolean)) ∈ lw_all := lw_g (lw_at lw_m7 41 rfl) rfl
theorem q1611 : (Jvm.Cond.methodLink "SweptSnowModel" (316 : Nat) ({ cls := "SweptSnowModel", name := "isOf", desc := "(II)Z" } : Jvm.MethodName)) ∈ lw_all := lw_g (lw_at lw_m7 42 rfl) rfl
theorem q1612 : (Jvm.Cond.static ({ cls := "SweptSnowModel", name := "isOf", desc := "(II)Z" } : Jvm.MethodName)) ∈ lw_all := lw_g (lw_at lw_m7 43 rfl) rfl
theorem q1613 : (Jvm.Cond.code ({ cls := "SweptSnowModel", name := "isOf", desc := "(II)Z" } : Jvm.MethodName) prog_19_method_3_code (2 : Nat) (Option.some Jvm.ClassFile.FieldType.boolean)) ∈ lw_all := lw_g (lw_at lw_m7 44 rfl) rfl
theorem q1614 : (Jvm.Cond.methodLink "SweptSnowModel" (319 : Nat) ({ cls := "SweptSnowModel", name := "neededOn", desc := "(I)I" } : Jvm.MethodName)) ∈ lw_all := lw_g (lw_at lw_m7 45 rfl) rfl
theorem q1615 : (Jvm.Cond.privateMethod ({ cls := "SweptSnowModel", name := "neededOn", desc := "(I)I" } : Jvm.MethodName)) ∈ lw_tbl := lw_at lw_m7 46 rfl
theorem q1616 : (Jvm.Cond.instanceMethod ({ cls := "SweptSnowModel", name := "neededOn", desc := "(I)I" } : Jvm.MethodName)) ∈ lw_all := lw_g (lw_at lw_m7 47 rfl) rfl
theorem q1617 : (Jvm.Cond.code ({ cls := "SweptSnowModel", name := "neededOn", desc := "(I)I" } : Jvm.MethodName) prog_19_method_57_code (2 : Nat) (Option.some Jvm.ClassFile.FieldType.int)) ∈ lw_all := lw_g (lw_at lw_m7 48 rfl) rfl
theorem q1619 : (Jvm.Cond.instanceMethod ({ cls := "SweptSnowModel", name := "house", desc := "(II)I" } : Jvm.MethodName)) ∈ lw_all := lw_g (lw_at lw_m7 50 rfl) rfl
theorem q1620 : (Jvm.Cond.selects "SweptSnowModel" ({ cls := "SweptSnowModel", name := "house", desc := "(II)I" } : Jvm.MethodName) ({ cls := "SweptSnowModel", name := "house", desc := "(II)I" } : Jvm.MethodName)) ∈ lw_all := lw_g (lw_at lw_m7 51 rfl) rfl
theorem q1621 : (Jvm.Cond.code ({ cls := "SweptSnowModel", name := "house", desc := "(II)I" } : Jvm.MethodName) prog_19_method_63_code (3 : Nat) (Option.some Jvm.ClassFile.FieldType.int)) ∈ lw_all := lw_g (lw_at lw_m7 52 rfl) rfl
theorem q1622 : (Jvm.Cond.methodLink "SweptSnowModel" (322 : Nat) ({ cls := "SweptSnowModel", name := "isHouse", desc := "(I)Z" } : Jvm.MethodName)) ∈ lw_all := lw_g (lw_at lw_m7 53 rfl) rfl
theorem q1623 : (Jvm.Cond.privateMethod ({ cls := "SweptSnowModel", name := "isHouse", desc := "(I)Z" } : Jvm.MethodName)) ∈ lw_tbl := lw_at lw_m7 54 rfl
theorem q1624 : (Jvm.Cond.instanceMethod ({ cls := "SweptSnowModel", name := "isHouse", desc := "(I)Z" } : Jvm.MethodName)) ∈ lw_all := lw_g (lw_at lw_m7 55 rfl) rfl
theorem q1625 : (Jvm.Cond.code ({ cls := "SweptSnowModel", name := "isHouse", desc := "(I)Z" } : Jvm.MethodName) prog_19_method_53_code (2 : Nat) (Option.some Jvm.ClassFile.FieldType.boolean)) ∈ lw_all := lw_g (lw_at lw_m7 56 rfl) rfl
theorem q1626 : (Jvm.Cond.constantLong "SweptSnowModel" (325 : Nat) (2 : Int64)) ∈ lw_all := lw_g (lw_at lw_m7 57 rfl) rfl
theorem q1627 : (Jvm.Cond.methodLink "SweptSnowModel" (327 : Nat) ({ cls := "SweptSnowModel", name := "ownOf", desc := "(I)I" } : Jvm.MethodName)) ∈ lw_all := lw_g (lw_at lw_m7 58 rfl) rfl
theorem q1628 : (Jvm.Cond.privateMethod ({ cls := "SweptSnowModel", name := "ownOf", desc := "(I)I" } : Jvm.MethodName)) ∈ lw_tbl := lw_at lw_m7 59 rfl
theorem q1629 : (Jvm.Cond.instanceMethod ({ cls := "SweptSnowModel", name := "ownOf", desc := "(I)I" } : Jvm.MethodName)) ∈ lw_all := lw_g (lw_at lw_m7 60 rfl) rfl
theorem q1630 : (Jvm.Cond.code ({ cls := "SweptSnowModel", name := "ownOf", desc := "(I)I" } : Jvm.MethodName) prog_19_method_58_code (2 : Nat) (Option.some Jvm.ClassFile.FieldType.int)) ∈ lw_all := lw_g (lw_at lw_m7 61 rfl) rfl
theorem q1631 : (Jvm.Cond.methodLink "SweptSnowModel" (330 : Nat) ({ cls := "SweptSnowModel", name := "strengthOf", desc := "(I)I" } : Jvm.MethodName)) ∈ lw_all := lw_g (lw_at lw_m7 62 rfl) rfl
theorem q1632 : (Jvm.Cond.privateMethod ({ cls := "SweptSnowModel", name := "strengthOf", desc := "(I)I" } : Jvm.MethodName)) ∈ lw_tbl := lw_at lw_m7 63 rfl
theorem q1633 : (Jvm.Cond.instanceMethod ({ cls := "SweptSnowModel", name := "strengthOf", desc := "(I)I" } : Jvm.MethodName)) ∈ lw_all := lw_g (lw_at lw_m7 64 rfl) rfl
theorem q1634 : (Jvm.Cond.code ({ cls := "SweptSnowModel", name := "strengthOf", desc := "(I)I" } : Jvm.MethodName) prog_19_method_59_code (2 : Nat) (Option.some Jvm.ClassFile.FieldType.int)) ∈ lw_all := lw_g (lw_at lw_m7 65 rfl) rfl
theorem q1636 : (Jvm.Cond.instanceMethod ({ cls := "SweptSnowModel", name := "undo", desc := "()I" } : Jvm.MethodName)) ∈ lw_all := lw_g (lw_at lw_m7 67 rfl) rfl
theorem q1637 : (Jvm.Cond.selects "SweptSnowModel" ({ cls := "SweptSnowModel", name := "undo", desc := "()I" } : Jvm.MethodName) ({ cls := "SweptSnowModel", name := "undo", desc := "()I" } : Jvm.MethodName)) ∈ lw_all := lw_g (lw_at lw_m7 68 rfl) rfl
theorem q1638 : (Jvm.Cond.code ({ cls := "SweptSnowModel", name := "undo", desc := "()I" } : Jvm.MethodName) prog_19_method_72_code (2 : Nat) (Option.some Jvm.ClassFile.FieldType.int)) ∈ lw_all := lw_g (lw_at lw_m7 69 rfl) rfl
theorem q1640 : (Jvm.Cond.instanceMethod ({ cls := "SweptSnowModel", name := "day", desc := "()I" } : Jvm.MethodName)) ∈ lw_all := lw_g (lw_at lw_m7 71 rfl) rfl
theorem q1641 : (Jvm.Cond.selects "SweptSnowModel" ({ cls := "SweptSnowModel", name := "day", desc := "()I" } : Jvm.MethodName) ({ cls := "SweptSnowModel", name := "day", desc := "()I" } : Jvm.MethodName)) ∈ lw_all := lw_g (lw_at lw_m7 72 rfl) rfl
theorem q1642 : (Jvm.Cond.code ({ cls := "SweptSnowModel", name := "day", desc := "()I" } : Jvm.MethodName) prog_19_method_73_code (1 : Nat) (Option.some Jvm.ClassFile.FieldType.int)) ∈ lw_all := lw_g (lw_at lw_m7 73 rfl) rfl
theorem q1643 : (Jvm.Cond.methodLink "SweptSnowModel" (366 : Nat) ({ cls := "SweptSnowModel", name := "isValley", desc := "()Z" } : Jvm.MethodName)) ∈ lw_all := lw_g (lw_at lw_m7 74 rfl) rfl
theorem q1644 : (Jvm.Cond.privateMethod ({ cls := "SweptSnowModel", name := "isValley", desc := "()Z" } : Jvm.MethodName)) ∈ lw_tbl := lw_at lw_m7 75 rfl
theorem q1645 : (Jvm.Cond.instanceMethod ({ cls := "SweptSnowModel", name := "isValley", desc := "()Z" } : Jvm.MethodName)) ∈ lw_all := lw_g (lw_at lw_m7 76 rfl) rfl
theorem q1646 : (Jvm.Cond.code ({ cls := "SweptSnowModel", name := "isValley", desc := "()Z" } : Jvm.MethodName) prog_19_method_51_code (1 : Nat) (Option.some Jvm.ClassFile.FieldType.boolean)) ∈ lw_all := lw_g (lw_at lw_m7 77 rfl) rfl
theorem q1647 : (Jvm.Cond.methodLink "SweptSnowModel" (369 : Nat) ({ cls := "SweptSnowModel", name := "keepsAct", desc := "()V" } : Jvm.MethodName)) ∈ lw_all := lw_g (lw_at lw_m7 78 rfl) rfl
theorem q1648 : (Jvm.Cond.privateMethod ({ cls := "SweptSnowModel", name := "keepsAct", desc := "()V" } : Jvm.MethodName)) ∈ lw_tbl := lw_at lw_m7 79 rfl
theorem q1649 : (Jvm.Cond.instanceMethod ({ cls := "SweptSnowModel", name := "keepsAct", desc := "()V" } : Jvm.MethodName)) ∈ lw_all := lw_g (lw_at lw_m7 80 rfl) rfl
theorem q1650 : (Jvm.Cond.code ({ cls := "SweptSnowModel", name := "keepsAct", desc := "()V" } : Jvm.MethodName) prog_19_method_71_code (2 : Nat) (Option.none : Option Jvm.ClassFile.FieldType)) ∈ lw_all := lw_g (lw_at lw_m7 81 rfl) rfl
theorem q1651 : (Jvm.Cond.methodLink "SweptSnowModel" (372 : Nat) ({ cls := "SweptSnowModel", name := "passes", desc := "()I" } : Jvm.MethodName)) ∈ lw_all := lw_g (lw_at lw_m7 82 rfl) rfl
theorem q1652 : (Jvm.Cond.privateMethod ({ cls := "SweptSnowModel", name := "passes", desc := "()I" } : Jvm.MethodName)) ∈ lw_tbl := lw_at lw_m7 83 rfl
theorem q1653 : (Jvm.Cond.instanceMethod ({ cls := "SweptSnowModel", name := "passes", desc := "()I" } : Jvm.MethodName)) ∈ lw_all := lw_g (lw_at lw_m7 84 rfl) rfl
theorem q1654 : (Jvm.Cond.code ({ cls := "SweptSnowModel", name := "passes", desc := "()I" } : Jvm.MethodName) prog_19_method_70_code (3 : Nat) (Option.some Jvm.ClassFile.FieldType.int)) ∈ lw_all := lw_g (lw_at lw_m7 85 rfl) rfl
theorem q1655 : (Jvm.Cond.methodLink "SweptSnowModel" (356 : Nat) ({ cls := "SweptSnowModel", name := "choice", desc := "(I)I" } : Jvm.MethodName)) ∈ lw_all := lw_g (lw_at lw_m7 86 rfl) rfl
theorem q1656 : (Jvm.Cond.privateMethod ({ cls := "SweptSnowModel", name := "choice", desc := "(I)I" } : Jvm.MethodName)) ∈ lw_tbl := lw_at lw_m7 87 rfl
theorem q1657 : (Jvm.Cond.instanceMethod ({ cls := "SweptSnowModel", name := "choice", desc := "(I)I" } : Jvm.MethodName)) ∈ lw_all := lw_g (lw_at lw_m7 88 rfl) rfl
theorem q1658 : (Jvm.Cond.code ({ cls := "SweptSnowModel", name := "choice", desc := "(I)I" } : Jvm.MethodName) prog_19_method_68_code (8 : Nat) (Option.some Jvm.ClassFile.FieldType.int)) ∈ lw_all := lw_g (lw_at lw_m7 89 rfl) rfl
theorem q1659 : (Jvm.Cond.methodLink "SweptSnowModel" (349 : Nat) ({ cls := "SweptSnowModel", name := "words", desc := "(II)V" } : Jvm.MethodName)) ∈ lw_all := lw_g (lw_at lw_m7 90 rfl) rfl
theorem q1660 : (Jvm.Cond.privateMethod ({ cls := "SweptSnowModel", name := "words", desc := "(II)V" } : Jvm.MethodName)) ∈ lw_tbl := lw_at lw_m7 91 rfl
theorem q1661 : (Jvm.Cond.instanceMethod ({ cls := "SweptSnowModel", name := "words", desc := "(II)V" } : Jvm.MethodName)) ∈ lw_all := lw_g (lw_at lw_m7 92 rfl) rfl
theorem q1662 : (Jvm.Cond.code ({ cls := "SweptSnowModel", name := "words", desc := "(II)V" } : Jvm.MethodName) prog_19_method_67_code (3 : Nat) (Option.none : Option Jvm.ClassFile.FieldType)) ∈ lw_all := lw_g (lw_at lw_m7 93 rfl) rfl
theorem q1663 : (Jvm.Cond.methodLink "SweptSnowModel" (340 : Nat) ({ cls := "SweptSnowModel", name := "closed", desc := "()I" } : Jvm.MethodName)) ∈ lw_all := lw_g (lw_at lw_m7 94 rfl) rfl
theorem q1664 : (Jvm.Cond.privateMethod ({ cls := "SweptSnowModel", name := "closed", desc := "()I" } : Jvm.MethodName)) ∈ lw_tbl := lw_at lw_m7 95 rfl
theorem q1665 : (Jvm.Cond.instanceMethod ({ cls := "SweptSnowModel", name := "closed", desc := "()I" } : Jvm.MethodName)) ∈ lw_all := lw_g (lw_at lw_m7 96 rfl) rfl
theorem q1666 : (Jvm.Cond.code ({ cls := "SweptSnowModel", name := "closed", desc := "()I" } : Jvm.MethodName) prog_19_method_55_code (3 : Nat) (Option.some Jvm.ClassFile.FieldType.int)) ∈ lw_all := lw_g (lw_at lw_m7 97 rfl) rfl
theorem q1667 : (Jvm.Cond.methodLink "SweptSnowModel" (343 : Nat) ({ cls := "SweptSnowModel", name := "bits", desc := "(I)I" } : Jvm.MethodName)) ∈ lw_all := lw_g (lw_at lw_m7 98 rfl) rfl
theorem q1668 : (Jvm.Cond.static ({ cls := "SweptSnowModel", name := "bits", desc := "(I)I" } : Jvm.MethodName)) ∈ lw_all := lw_g (lw_at lw_m7 99 rfl) rfl
theorem q1669 : (Jvm.Cond.code ({ cls := "SweptSnowModel", name := "bits", desc := "(I)I" } : Jvm.MethodName) prog_19_method_4_code (3 : Nat) (Option.some Jvm.ClassFile.FieldType.int)) ∈ lw_all := lw_g (lw_at lw_m7 100 rfl) rfl
theorem q1670 : (Jvm.Cond.methodLink "SweptSnowModel" (346 : Nat) ({ cls := "SweptSnowModel", name := "nextNeed", desc := "(I)I" } : Jvm.MethodName)) ∈ lw_all := lw_g (lw_at lw_m7 101 rfl) rfl
theorem q1671 : (Jvm.Cond.privateMethod ({ cls := "SweptSnowModel", name := "nextNeed", desc := "(I)I" } : Jvm.MethodName)) ∈ lw_tbl := lw_at lw_m7 102 rfl
theorem q1672 : (Jvm.Cond.instanceMethod ({ cls := "SweptSnowModel", name := "nextNeed", desc := "(I)I" } : Jvm.MethodName)) ∈ lw_all := lw_g (lw_at lw_m7 103 rfl) rfl
theorem q1673 : (Jvm.Cond.code ({ cls := "SweptSnowModel", name := "nextNeed", desc := "(I)I" } : Jvm.MethodName) prog_19_method_66_code (3 : Nat) (Option.some Jvm.ClassFile.FieldType.int)) ∈ lw_all := lw_g (lw_at lw_m7 104 rfl) rfl
theorem q1674 : (Jvm.Cond.methodLink "SweptSnowModel" (352 : Nat) ({ cls := "SweptSnowModel", name := "summedBy", desc := "(I)J" } : Jvm.MethodName)) ∈ lw_all := lw_g (lw_at lw_m7 105 rfl) rfl
theorem q1675 : (Jvm.Cond.privateMethod ({ cls := "SweptSnowModel", name := "summedBy", desc := "(I)J" } : Jvm.MethodName)) ∈ lw_tbl := lw_at lw_m7 106 rfl
theorem q1676 : (Jvm.Cond.instanceMethod ({ cls := "SweptSnowModel", name := "summedBy", desc := "(I)J" } : Jvm.MethodName)) ∈ lw_all := lw_g (lw_at lw_m7 107 rfl) rfl
theorem q1677 : (Jvm.Cond.code ({ cls := "SweptSnowModel", name := "summedBy", desc := "(I)J" } : Jvm.MethodName) prog_19_method_65_code (4 : Nat) (Option.some Jvm.ClassFile.FieldType.long)) ∈ lw_all := lw_g (lw_at lw_m7 108 rfl) rfl
theorem q1678 : (Jvm.Cond.methodLink "SweptSnowModel" (336 : Nat) ({ cls := "SweptSnowModel", name := "reckons", desc := "(III)J" } : Jvm.MethodName)) ∈ lw_all := lw_g (lw_at lw_m7 109 rfl) rfl
theorem q1679 : (Jvm.Cond.privateMethod ({ cls := "SweptSnowModel", name := "reckons", desc := "(III)J" } : Jvm.MethodName)) ∈ lw_tbl := lw_at lw_m7 110 rfl
theorem q1680 : (Jvm.Cond.instanceMethod ({ cls := "SweptSnowModel", name := "reckons", desc := "(III)J" } : Jvm.MethodName)) ∈ lw_all := lw_g (lw_at lw_m7 111 rfl) rfl
theorem q1681 : (Jvm.Cond.code ({ cls := "SweptSnowModel", name := "reckons", desc := "(III)J" } : Jvm.MethodName) prog_19_method_50_code (11 : Nat) (Option.some Jvm.ClassFile.FieldType.long)) ∈ lw_all := lw_g (lw_at lw_m7 112 rfl) rfl
theorem q1682 : (Jvm.Cond.methodLink "SweptSnowModel" (295 : Nat) ({ cls := "SweptSnowModel", name := "push", desc := "(J)V" } : Jvm.MethodName)) ∈ lw_all := lw_g (lw_at lw_m7 113 rfl) rfl
theorem q1683 : (Jvm.Cond.privateMethod ({ cls := "SweptSnowModel", name := "push", desc := "(J)V" } : Jvm.MethodName)) ∈ lw_tbl := lw_at lw_m7 114 rfl
theorem q1684 : (Jvm.Cond.instanceMethod ({ cls := "SweptSnowModel", name := "push", desc := "(J)V" } : Jvm.MethodName)) ∈ lw_all := lw_g (lw_at lw_m7 115 rfl) rfl
theorem q1685 : (Jvm.Cond.code ({ cls := "SweptSnowModel", name := "push", desc := "(J)V" } : Jvm.MethodName) prog_19_method_47_code (3 : Nat) (Option.none : Option Jvm.ClassFile.FieldType)) ∈ lw_all := lw_g (lw_at lw_m7 116 rfl) rfl
theorem q1686 : (Jvm.Cond.methodLink "SweptSnowModel" (299 : Nat) ({ cls := "SweptSnowModel", name := "pop", desc := "()J" } : Jvm.MethodName)) ∈ lw_all := lw_g (lw_at lw_m7 117 rfl) rfl
theorem q1687 : (Jvm.Cond.privateMethod ({ cls := "SweptSnowModel", name := "pop", desc := "()J" } : Jvm.MethodName)) ∈ lw_tbl := lw_at lw_m7 118 rfl
theorem q1688 : (Jvm.Cond.instanceMethod ({ cls := "SweptSnowModel", name := "pop", desc := "()J" } : Jvm.MethodName)) ∈ lw_all := lw_g (lw_at lw_m7 119 rfl) rfl
theorem q1689 : (Jvm.Cond.code ({ cls := "SweptSnowModel", name := "pop", desc := "()J" } : Jvm.MethodName) prog_19_method_48_code (1 : Nat) (Option.some Jvm.ClassFile.FieldType.long)) ∈ lw_all := lw_g (lw_at lw_m7 120 rfl) rfl
theorem q1690 : (Jvm.Cond.methodLink "SweptSnowModel" (303 : Nat) ({ cls := "SweptSnowModel", name := "one", desc := "(IJJ)J" } : Jvm.MethodName)) ∈ lw_all := lw_g (lw_at lw_m7 121 rfl) rfl
theorem q1691 : (Jvm.Cond.static ({ cls := "SweptSnowModel", name := "one", desc := "(IJJ)J" } : Jvm.MethodName)) ∈ lw_all := lw_g (lw_at lw_m7 122 rfl) rfl
theorem q1692 : (Jvm.Cond.code ({ cls := "SweptSnowModel", name := "one", desc := "(IJJ)J" } : Jvm.MethodName) prog_19_method_49_code (5 : Nat) (Option.some Jvm.ClassFile.FieldType.long)) ∈ lw_all := lw_g (lw_at lw_m7 123 rfl) rfl
theorem q1693 : (Jvm.Cond.methodLink "SweptSnowModel" (359 : Nat) ({ cls := "SweptSnowModel", name := "takes", desc := "(II)I" } : Jvm.MethodName)) ∈ lw_all := lw_g (lw_at lw_m7 124 rfl) rfl
theorem q1694 : (Jvm.Cond.privateMethod ({ cls := "SweptSnowModel", name := "takes", desc := "(II)I" } : Jvm.MethodName)) ∈ lw_tbl := lw_at lw_m7 125 rfl
theorem q1695 : (Jvm.Cond.instanceMethod ({ cls := "SweptSnowModel", name := "takes", desc := "(II)I" } : Jvm.MethodName)) ∈ lw_all := lw_g (lw_at lw_m7 126 rfl) rfl
theorem q1696 : (Jvm.Cond.code ({ cls := "SweptSnowModel", name := "takes", desc := "(II)I" } : Jvm.MethodName) prog_19_method_64_code (5 : Nat) (Option.some Jvm.ClassFile.FieldType.int)) ∈ lw_all := lw_g (lw_at lw_m7 127 rfl) rfl
theorem q1697 : (Jvm.Cond.methodLink "SweptSnowModel" (333 : Nat) ({ cls := "SweptSnowModel", name := "held", desc := "(I)I" } : Jvm.MethodName)) ∈ lw_all := lw_g (lw_at lw_m7 128 rfl) rfl
theorem q1698 : (Jvm.Cond.static ({ cls := "SweptSnowModel", name := "held", desc := "(I)I" } : Jvm.MethodName)) ∈ lw_all := lw_g (lw_at lw_m7 129 rfl) rfl
theorem q1699 : (Jvm.Cond.code ({ cls := "SweptSnowModel", name := "held", desc := "(I)I" } : Jvm.MethodName) prog_19_method_5_code (1 : Nat) (Option.some Jvm.ClassFile.FieldType.int)) ∈ lw_all := lw_g (lw_at lw_m7 130 rfl) rfl
theorem q1700 : (Jvm.Cond.methodLink "SweptSnowModel" (363 : Nat) ({ cls := "SweptSnowModel", name := "snows", desc := "()I" } : Jvm.MethodName)) ∈ lw_all := lw_g (lw_at lw_m7 131 rfl) rfl
theorem q1701 : (Jvm.Cond.privateMethod ({ cls := "SweptSnowModel", name := "snows", desc := "()I" } : Jvm.MethodName)) ∈ lw_tbl := lw_at lw_m7 132 rfl
theorem q1702 : (Jvm.Cond.instanceMethod ({ cls := "SweptSnowModel", name := "snows", desc := "()I" } : Jvm.MethodName)) ∈ lw_all := lw_g (lw_at lw_m7 133 rfl) rfl
theorem q1703 : (Jvm.Cond.code ({ cls := "SweptSnowModel", name := "snows", desc := "()I" } : Jvm.MethodName) prog_19_method_69_code (3 : Nat) (Option.some Jvm.ClassFile.FieldType.int)) ∈ lw_all := lw_g (lw_at lw_m7 134 rfl) rfl
theorem q1705 : (Jvm.Cond.instanceMethod ({ cls := "SweptSnowModel", name := "sweep", desc := "(II)I" } : Jvm.MethodName)) ∈ lw_all := lw_g (lw_at lw_m7 136 rfl) rfl
theorem q1706 : (Jvm.Cond.selects "SweptSnowModel" ({ cls := "SweptSnowModel", name := "sweep", desc := "(II)I" } : Jvm.MethodName) ({ cls := "SweptSnowModel", name := "sweep", desc := "(II)I" } : Jvm.MethodName)) ∈ lw_all := lw_g (lw_at lw_m7 137 rfl) rfl
theorem q1707 : (Jvm.Cond.code ({ cls := "SweptSnowModel", name := "sweep", desc := "(II)I" } : Jvm.MethodName) prog_19_method_75_code (3 : Nat) (Option.some Jvm.ClassFile.FieldType.int)) ∈ lw_all := lw_g (lw_at lw_m7 138 rfl) rfl
theorem q1708 : (Jvm.Cond.methodLink "SweptSnowModel" (375 : Nat) ({ cls := "SweptSnowModel", name := "canSweep", desc := "(II)Z" } : Jvm.MethodName)) ∈ lw_all := lw_g (lw_at lw_m7 139 rfl) rfl
theorem q1709 : (Jvm.Cond.privateMethod ({ cls := "SweptSnowModel", name := "canSweep", desc := "(II)Z" } : Jvm.MethodName)) ∈ lw_tbl := lw_at lw_m7 140 rfl
theorem q1710 : (Jvm.Cond.instanceMethod ({ cls := "SweptSnowModel", name := "canSweep", desc := "(II)Z" } : Jvm.MethodName)) ∈ lw_all := lw_g (lw_at lw_m7 141 rfl) rfl
theorem q1711 : (Jvm.Cond.code ({ cls := "SweptSnowModel", name := "canSweep", desc := "(II)Z" } : Jvm.MethodName) prog_19_method_74_code (3 : Nat) (Option.some Jvm.ClassFile.FieldType.boolean)) ∈ lw_all := lw_g (lw_at lw_m7 142 rfl) rfl
theorem q1713 : (Jvm.Cond.instanceMethod ({ cls := "SweptSnowModel", name := "toss", desc := "(II)I" } : Jvm.MethodName)) ∈ lw_all := lw_g (lw_at lw_m7 144 rfl) rfl
theorem q1714 : (Jvm.Cond.selects "SweptSnowModel" ({ cls := "SweptSnowModel", name := "toss", desc := "(II)I" } : Jvm.MethodName) ({ cls := "SweptSnowModel", name := "toss", desc := "(II)I" } : Jvm.MethodName)) ∈ lw_all := lw_g (lw_at lw_m7 145 rfl) rfl
theorem q1715 : (Jvm.Cond.code ({ cls := "SweptSnowModel", name := "toss", desc := "(II)I" } : Jvm.MethodName) prog_19_method_76_code (3 : Nat) (Option.some Jvm.ClassFile.FieldType.int)) ∈ lw_all := lw_g (lw_at lw_m7 146 rfl) rfl
theorem q1716 : (Jvm.Cond.constantLong "SweptSnowModel" (378 : Nat) (99 : Int64)) ∈ lw_all := lw_g (lw_at lw_m7 147 rfl) rfl
theorem q1718 : (Jvm.Cond.instanceMethod ({ cls := "SweptSnowModel", name := "pull", desc := "(I)I" } : Jvm.MethodName)) ∈ lw_all := lw_g (lw_at lw_m7 149 rfl) rfl
theorem q1719 : (Jvm.Cond.selects "SweptSnowModel" ({ cls := "SweptSnowModel", name := "pull", desc := "(I)I" } : Jvm.MethodName) ({ cls := "SweptSnowModel", name := "pull", desc := "(I)I" } : Jvm.MethodName)) ∈ lw_all := lw_g (lw_at lw_m7 150 rfl) rfl
theorem q1720 : (Jvm.Cond.code ({ cls := "SweptSnowModel", name := "pull", desc := "(I)I" } : Jvm.MethodName) prog_19_method_77_code (3 : Nat) (Option.some Jvm.ClassFile.FieldType.int)) ∈ lw_all := lw_g (lw_at lw_m7 151 rfl) rfl
theorem q1722 : (Jvm.Cond.instanceMethod ({ cls := "SweptSnowModel", name := "thaw", desc := "()I" } : Jvm.MethodName)) ∈ lw_all := lw_g (lw_at lw_m7 153 rfl) rfl
theorem q1723 : (Jvm.Cond.selects "SweptSnowModel" ({ cls := "SweptSnowModel", name := "thaw", desc := "()I" } : Jvm.MethodName) ({ cls := "SweptSnowModel", name := "thaw", desc := "()I" } : Jvm.MethodName)) ∈ lw_all := lw_g (lw_at lw_m7 154 rfl) rfl
theorem q1724 : (Jvm.Cond.code ({ cls := "SweptSnowModel", name := "thaw", desc := "()I" } : Jvm.MethodName) prog_19_method_78_code (2 : Nat) (Option.some Jvm.ClassFile.FieldType.int)) ∈ lw_all := lw_g (lw_at lw_m7 155 rfl) rfl
theorem q1725 : (Jvm.Cond.methodLink "SweptSnowModel" (380 : Nat) ({ cls := "SweptSnowModel", name := "snowAll", desc := "()I" } : Jvm.MethodName)) ∈ lw_all := lw_g (lw_at lw_m7 156 rfl) rfl
theorem q1726 : (Jvm.Cond.privateMethod ({ cls := "SweptSnowModel", name := "snowAll", desc := "()I" } : Jvm.MethodName)) ∈ lw_tbl := lw_at lw_m7 157 rfl
theorem q1727 : (Jvm.Cond.instanceMethod ({ cls := "SweptSnowModel", name := "snowAll", desc := "()I" } : Jvm.MethodName)) ∈ lw_all := lw_g (lw_at lw_m7 158 rfl) rfl
theorem q1728 : (Jvm.Cond.code ({ cls := "SweptSnowModel", name := "snowAll", desc := "()I" } : Jvm.MethodName) prog_19_method_56_code (3 : Nat) (Option.some Jvm.ClassFile.FieldType.int)) ∈ lw_all := lw_g (lw_at lw_m7 159 rfl) rfl
theorem q1730 : (Jvm.Cond.instanceMethod ({ cls := "SweptSnowModel", name := "ahead", desc := "(III)I" } : Jvm.MethodName)) ∈ lw_all := lw_g (lw_at lw_m7 161 rfl) rfl
theorem q1731 : (Jvm.Cond.selects "SweptSnowModel" ({ cls := "SweptSnowModel", name := "ahead", desc := "(III)I" } : Jvm.MethodName) ({ cls := "SweptSnowModel", name := "ahead", desc := "(III)I" } : Jvm.MethodName)) ∈ lw_all := lw_g (lw_at lw_m7 162 rfl) rfl
theorem q1732 : (Jvm.Cond.code ({ cls := "SweptSnowModel", name := "ahead", desc := "(III)I" } : Jvm.MethodName) prog_19_method_81_code (5 : Nat) (Option.some Jvm.ClassFile.FieldType.int)) ∈ lw_all := lw_g (lw_at lw_m7 163 rfl) rfl
theorem q1733 : (Jvm.Cond.constantLong "SweptSnowModel" (383 : Nat) (100 : Int64)) ∈ lw_all := lw_g (lw_at lw_m7 164 rfl) rfl
theorem q1734 : (Jvm.Cond.methodLink "SweptSnowModel" (385 : Nat) ({ cls := "SweptSnowModel", name := "keeps", desc := "()V" } : Jvm.MethodName)) ∈ lw_all := lw_g (lw_at lw_m7 165 rfl) rfl
theorem q1735 : (Jvm.Cond.privateMethod ({ cls := "SweptSnowModel", name := "keeps", desc := "()V" } : Jvm.MethodName)) ∈ lw_tbl := lw_at lw_m7 166 rfl
theorem q1736 : (Jvm.Cond.instanceMethod ({ cls := "SweptSnowModel", name := "keeps", desc := "()V" } : Jvm.MethodName)) ∈ lw_all := lw_g (lw_at lw_m7 167 rfl) rfl
theorem q1737 : (Jvm.Cond.code ({ cls := "SweptSnowModel", name := "keeps", desc := "()V" } : Jvm.MethodName) prog_19_method_79_code (2 : Nat) (Option.none : Option Jvm.ClassFile.FieldType)) ∈ lw_all := lw_g (lw_at lw_m7 168 rfl) rfl
theorem q1738 : (Jvm.Cond.methodLink "SweptSnowModel" (388 : Nat) ({ cls := "SweptSnowModel", name := "laysBack", desc := "()V" } : Jvm.MethodName)) ∈ lw_all := lw_g (lw_at lw_m7 169 rfl) rfl
theorem q1739 : (Jvm.Cond.privateMethod ({ cls := "SweptSnowModel", name := "laysBack", desc := "()V" } : Jvm.MethodName)) ∈ lw_tbl := lw_at lw_m7 170 rfl
theorem q1740 : (Jvm.Cond.instanceMethod ({ cls := "SweptSnowModel", name := "laysBack", desc := "()V" } : Jvm.MethodName)) ∈ lw_all := lw_g (lw_at lw_m7 171 rfl) rfl
theorem q1741 : (Jvm.Cond.code ({ cls := "SweptSnowModel", name := "laysBack", desc := "()V" } : Jvm.MethodName) prog_19_method_80_code (2 : Nat) (Option.none : Option Jvm.ClassFile.FieldType)) ∈ lw_all := lw_g (lw_at lw_m7 172 rfl) rfl
theorem q1743 : (Jvm.Cond.instanceMethod ({ cls := "SweptSnowModel", name := "stays", desc := "(I)I" } : Jvm.MethodName)) ∈ lw_all := lw_g (lw_at lw_m7 174 rfl) rfl
theorem q1744 : (Jvm.Cond.selects "SweptSnowModel" ({ cls := "SweptSnowModel", name := "stays", desc := "(I)I" } : Jvm.MethodName) ({ cls := "SweptSnowModel", name := "stays", desc := "(I)I" } : Jvm.MethodName)) ∈ lw_all := lw_g (lw_at lw_m7 175 rfl) rfl
theorem q1745 : (Jvm.Cond.code ({ cls := "SweptSnowModel", name := "stays", desc := "(I)I" } : Jvm.MethodName) prog_19_method_82_code (4 : Nat) (Option.some Jvm.ClassFile.FieldType.int)) ∈ lw_all := lw_g (lw_at lw_m7 176 rfl) rfl
theorem q1746 : (Jvm.Cond.constantLong "SweptSnowModel" (391 : Nat) (60 : Int64)) ∈ lw_all := lw_g (lw_at lw_m7 177 rfl) rfl
theorem q1748 : (Jvm.Cond.instanceMethod ({ cls := "SweptSnowModel", name := "closes", desc := "(I)I" } : Jvm.MethodName)) ∈ lw_all := lw_g (lw_at lw_m7 179 rfl) rfl
theorem q1749 : (Jvm.Cond.selects "SweptSnowModel" ({ cls := "SweptSnowModel", name := "closes", desc := "(I)I" } : Jvm.MethodName) ({ cls := "SweptSnowModel", name := "closes", desc := "(I)I" } : Jvm.MethodName)) ∈ lw_all := lw_g (lw_at lw_m7 180 rfl) rfl
theorem q1750 : (Jvm.Cond.code ({ cls := "SweptSnowModel", name := "closes", desc := "(I)I" } : Jvm.MethodName) prog_19_method_83_code (4 : Nat) (Option.some Jvm.ClassFile.FieldType.int)) ∈ lw_all := lw_g (lw_at lw_m7 181 rfl) rfl
theorem q1752 : (Jvm.Cond.instanceMethod ({ cls := "SweptSnowModel", name := "ring", desc := "(I)I" } : Jvm.MethodName)) ∈ lw_all := lw_g (lw_at lw_m7 183 rfl) rfl
theorem q1753 : (Jvm.Cond.selects "SweptSnowModel" ({ cls := "SweptSnowModel", name := "ring", desc := "(I)I" } : Jvm.MethodName) ({ cls := "SweptSnowModel", name := "ring", desc := "(I)I" } : Jvm.MethodName)) ∈ lw_all := lw_g (lw_at lw_m7 184 rfl) rfl
theorem q1754 : (Jvm.Cond.code ({ cls := "SweptSnowModel", name := "ring", desc := "(I)I" } : Jvm.MethodName) prog_19_method_85_code (4 : Nat) (Option.some Jvm.ClassFile.FieldType.int)) ∈ lw_all := lw_g (lw_at lw_m7 185 rfl) rfl
theorem q1755 : (Jvm.Cond.methodLink "SweptSnowModel" (393 : Nat) ({ cls := "SweptSnowModel", name := "areAlike", desc := "(II)Z" } : Jvm.MethodName)) ∈ lw_all := lw_g (lw_at lw_m7 186 rfl) rfl
theorem q1756 : (Jvm.Cond.privateMethod ({ cls := "SweptSnowModel", name := "areAlike", desc := "(II)Z" } : Jvm.MethodName)) ∈ lw_tbl := lw_at lw_m7 187 rfl
theorem q1757 : (Jvm.Cond.instanceMethod ({ cls := "SweptSnowModel", name := "areAlike", desc := "(II)Z" } : Jvm.MethodName)) ∈ lw_all := lw_g (lw_at lw_m7 188 rfl) rfl
theorem q1758 : (Jvm.Cond.code ({ cls := "SweptSnowModel", name := "areAlike", desc := "(II)Z" } : Jvm.MethodName) prog_19_method_84_code (4 : Nat) (Option.some Jvm.ClassFile.FieldType.boolean)) ∈ lw_all := lw_g (lw_at lw_m7 189 rfl) rfl
theorem q1760 : (Jvm.Cond.instanceMethod ({ cls := "SweptSnowModel", name := "spare", desc := "(III)I" } : Jvm.MethodName)) ∈ lw_all := lw_g (lw_at lw_m7 191 rfl) rfl
theorem q1761 : (Jvm.Cond.selects "SweptSnowModel" ({ cls := "SweptSnowModel", name := "spare", desc := "(III)I" } : Jvm.MethodName) ({ cls := "SweptSnowModel", name := "spare", desc := "(III)I" } : Jvm.MethodName)) ∈ lw_all := lw_g (lw_at lw_m7 192 rfl) rfl
theorem q1762 : (Jvm.Cond.code ({ cls := "SweptSnowModel", name := "spare", desc := "(III)I" } : Jvm.MethodName) prog_19_method_87_code (6 : Nat) (Option.some Jvm.ClassFile.FieldType.int)) ∈ lw_all := lw_g (lw_at lw_m7 193 rfl) rfl
theorem q1763 : (Jvm.Cond.constantLong "SweptSnowModel" (396 : Nat) (10 : Int64)) ∈ lw_all := lw_g (lw_at lw_m7 194 rfl) rfl
theorem q1764 : (Jvm.Cond.methodLink "SweptSnowModel" (398 : Nat) ({ cls := "SweptSnowModel", name := "isSpared", desc := "(III)Z" } : Jvm.MethodName)) ∈ lw_all := lw_g (lw_at lw_m7 195 rfl) rfl
theorem q1765 : (Jvm.Cond.privateMethod ({ cls := "SweptSnowModel", name := "isSpared", desc := "(III)Z" } : Jvm.MethodName)) ∈ lw_tbl := lw_at lw_m7 196 rfl
theorem q1766 : (Jvm.Cond.instanceMethod ({ cls := "SweptSnowModel", name := "isSpared", desc := "(III)Z" } : Jvm.MethodName)) ∈ lw_all := lw_g (lw_at lw_m7 197 rfl) rfl
theorem q1767 : (Jvm.Cond.code ({ cls := "SweptSnowModel", name := "isSpared", desc := "(III)Z" } : Jvm.MethodName) prog_19_method_86_code (6 : Nat) (Option.some Jvm.ClassFile.FieldType.boolean)) ∈ lw_all := lw_g (lw_at lw_m7 198 rfl) rfl
theorem q1769 : (Jvm.Cond.instanceMethod ({ cls := "SweptSnowModel", name := "figure", desc := "(II)I" } : Jvm.MethodName)) ∈ lw_all := lw_g (lw_at lw_m7 200 rfl) rfl
theorem q1770 : (Jvm.Cond.selects "SweptSnowModel" ({ cls := "SweptSnowModel", name := "figure", desc := "(II)I" } : Jvm.MethodName) ({ cls := "SweptSnowModel", name := "figure", desc := "(II)I" } : Jvm.MethodName)) ∈ lw_all := lw_g (lw_at lw_m7 201 rfl) rfl
theorem q1771 : (Jvm.Cond.code ({ cls := "SweptSnowModel", name := "figure", desc := "(II)I" } : Jvm.MethodName) prog_19_method_89_code (6 : Nat) (Option.some Jvm.ClassFile.FieldType.int)) ∈ lw_all := lw_g (lw_at lw_m7 202 rfl) rfl
theorem q1772 : (Jvm.Cond.methodLink "SweptSnowModel" (401 : Nat) ({ cls := "SweptSnowModel", name := "closedBy", desc := "(I)I" } : Jvm.MethodName)) ∈ lw_all := lw_g (lw_at lw_m7 203 rfl) rfl
theorem q1773 : (Jvm.Cond.privateMethod ({ cls := "SweptSnowModel", name := "closedBy", desc := "(I)I" } : Jvm.MethodName)) ∈ lw_tbl := lw_at lw_m7 204 rfl
theorem q1774 : (Jvm.Cond.instanceMethod ({ cls := "SweptSnowModel", name := "closedBy", desc := "(I)I" } : Jvm.MethodName)) ∈ lw_all := lw_g (lw_at lw_m7 205 rfl) rfl
theorem q1775 : (Jvm.Cond.code ({ cls := "SweptSnowModel", name := "closedBy", desc := "(I)I" } : Jvm.MethodName) prog_19_method_88_code (6 : Nat) (Option.some Jvm.ClassFile.FieldType.int)) ∈ lw_all := lw_g (lw_at lw_m7 206 rfl) rfl
theorem q1777 : (Jvm.Cond.instanceMethod ({ cls := "SweptSnowModel", name := "way", desc := "(III)I" } : Jvm.MethodName)) ∈ lw_all := lw_g (lw_at lw_m7 208 rfl) rfl
theorem q1778 : (Jvm.Cond.selects "SweptSnowModel" ({ cls := "SweptSnowModel", name := "way", desc := "(III)I" } : Jvm.MethodName) ({ cls := "SweptSnowModel", name := "way", desc := "(III)I" } : Jvm.MethodName)) ∈ lw_all := lw_g (lw_at lw_m7 209 rfl) rfl
theorem q1779 : (Jvm.Cond.code ({ cls := "SweptSnowModel", name := "way", desc := "(III)I" } : Jvm.MethodName) prog_19_method_93_code (4 : Nat) (Option.some Jvm.ClassFile.FieldType.int)) ∈ lw_all := lw_g (lw_at lw_m7 210 rfl) rfl
theorem q1780 : (Jvm.Cond.methodLink "SweptSnowModel" (410 : Nat) ({ cls := "SweptSnowModel", name := "fillsPrices", desc := "(I)V" } : Jvm.MethodName)) ∈ lw_all := lw_g (lw_at lw_m7 211 rfl) rfl
theorem q1781 : (Jvm.Cond.privateMethod ({ cls := "SweptSnowModel", name := "fillsPrices", desc := "(I)V" } : Jvm.MethodName)) ∈ lw_tbl := lw_at lw_m7 212 rfl
theorem q1782 : (Jvm.Cond.instanceMethod ({ cls := "SweptSnowModel", name := "fillsPrices", desc := "(I)V" } : Jvm.MethodName)) ∈ lw_all := lw_g (lw_at lw_m7 213 rfl) rfl
theorem q1783 : (Jvm.Cond.code ({ cls := "SweptSnowModel", name := "fillsPrices", desc := "(I)V" } : Jvm.MethodName) prog_19_method_92_code (5 : Nat) (Option.none : Option Jvm.ClassFile.FieldType)) ∈ lw_all := lw_g (lw_at lw_m7 214 rfl) rfl
theorem q1784 : (Jvm.Cond.methodLink "SweptSnowModel" (404 : Nat) ({ cls := "SweptSnowModel", name := "priceOf", desc := "(I)I" } : Jvm.MethodName)) ∈ lw_all := lw_g (lw_at lw_m7 215 rfl) rfl
theorem q1785 : (Jvm.Cond.privateMethod ({ cls := "SweptSnowModel", name := "priceOf", desc := "(I)I" } : Jvm.MethodName)) ∈ lw_tbl := lw_at lw_m7 216 rfl
theorem q1786 : (Jvm.Cond.instanceMethod ({ cls := "SweptSnowModel", name := "priceOf", desc := "(I)I" } : Jvm.MethodName)) ∈ lw_all := lw_g (lw_at lw_m7 217 rfl) rfl
theorem q1787 : (Jvm.Cond.code ({ cls := "SweptSnowModel", name := "priceOf", desc := "(I)I" } : Jvm.MethodName) prog_19_method_90_code (2 : Nat) (Option.some Jvm.ClassFile.FieldType.int)) ∈ lw_all := lw_g (lw_at lw_m7 218 rfl) rfl
theorem q1788 : (Jvm.Cond.methodLink "SweptSnowModel" (407 : Nat) ({ cls := "SweptSnowModel", name := "nextTo", desc := "(I)I" } : Jvm.MethodName)) ∈ lw_all := lw_g (lw_at lw_m7 219 rfl) rfl
theorem q1789 : (Jvm.Cond.privateMethod ({ cls := "SweptSnowModel", name := "nextTo", desc := "(I)I" } : Jvm.MethodName)) ∈ lw_tbl := lw_at lw_m7 220 rfl
theorem q1790 : (Jvm.Cond.instanceMethod ({ cls := "SweptSnowModel", name := "nextTo", desc := "(I)I" } : Jvm.MethodName)) ∈ lw_all := lw_g (lw_at lw_m7 221 rfl) rfl
theorem q1791 : (Jvm.Cond.code ({ cls := "SweptSnowModel", name := "nextTo", desc := "(I)I" } : Jvm.MethodName) prog_19_method_91_code (4 : Nat) (Option.some Jvm.ClassFile.FieldType.int)) ∈ lw_all := lw_g (lw_at lw_m7 222 rfl) rfl
theorem q1793 : (Jvm.Cond.instanceMethod ({ cls := "SweptSnowModel", name := "pacts", desc := "(II)I" } : Jvm.MethodName)) ∈ lw_all := lw_g (lw_at lw_m7 224 rfl) rfl
theorem q1794 : (Jvm.Cond.selects "SweptSnowModel" ({ cls := "SweptSnowModel", name := "pacts", desc := "(II)I" } : Jvm.MethodName) ({ cls := "SweptSnowModel", name := "pacts", desc := "(II)I" } : Jvm.MethodName)) ∈ lw_all := lw_g (lw_at lw_m7 225 rfl) rfl
theorem q1795 : (Jvm.Cond.code ({ cls := "SweptSnowModel", name := "pacts", desc := "(II)I" } : Jvm.MethodName) prog_19_method_97_code (9 : Nat) (Option.some Jvm.ClassFile.FieldType.int)) ∈ lw_all := lw_g (lw_at lw_m7 226 rfl) rfl
theorem q1796 : (Jvm.Cond.constantLong "SweptSnowModel" (413 : Nat) (30 : Int64)) ∈ lw_all := lw_g (lw_at lw_m7 227 rfl) rfl
theorem q1797 : (Jvm.Cond.methodLink "SweptSnowModel" (415 : Nat) ({ cls := "SweptSnowModel", name := "fillsPact", desc := "(II)V" } : Jvm.MethodName)) ∈ lw_all := lw_g (lw_at lw_m7 228 rfl) rfl
theorem q1798 : (Jvm.Cond.privateMethod ({ cls := "SweptSnowModel", name := "fillsPact", desc := "(II)V" } : Jvm.MethodName)) ∈ lw_tbl := lw_at lw_m7 229 rfl
theorem q1799 : (Jvm.Cond.instanceMethod ({ cls := "SweptSnowModel", name := "fillsPact", desc := "(II)V" } : Jvm.MethodName)) ∈ lw_all := lw_g (lw_at lw_m7 230 rfl) rfl
theorem q1800 : (Jvm.Cond.code ({ cls := "SweptSnowModel", name := "fillsPact", desc := "(II)V" } : Jvm.MethodName) prog_19_method_94_code (5 : Nat) (Option.none : Option Jvm.ClassFile.FieldType)) ∈ lw_all := lw_g (lw_at lw_m7 231 rfl) rfl
theorem q1801 : (Jvm.Cond.methodLink "SweptSnowModel" (418 : Nat) ({ cls := "SweptSnowModel", name := "allBy", desc := "(I)I" } : Jvm.MethodName)) ∈ lw_all := lw_g (lw_at lw_m7 232 rfl) rfl
theorem q1802 : (Jvm.Cond.privateMethod ({ cls := "SweptSnowModel", name := "allBy", desc := "(I)I" } : Jvm.MethodName)) ∈ lw_tbl := lw_at lw_m7 233 rfl
theorem q1803 : (Jvm.Cond.instanceMethod ({ cls := "SweptSnowModel", name := "allBy", desc := "(I)I" } : Jvm.MethodName)) ∈ lw_all := lw_g (lw_at lw_m7 234 rfl) rfl
theorem q1804 : (Jvm.Cond.code ({ cls := "SweptSnowModel", name := "allBy", desc := "(I)I" } : Jvm.MethodName) prog_19_method_95_code (4 : Nat) (Option.some Jvm.ClassFile.FieldType.int)) ∈ lw_all := lw_g (lw_at lw_m7 235 rfl) rfl
theorem q1805 : (Jvm.Cond.methodLink "SweptSnowModel" (421 : Nat) ({ cls := "SweptSnowModel", name := "isPact", desc := "(I)Z" } : Jvm.MethodName)) ∈ lw_all := lw_g (lw_at lw_m7 236 rfl) rfl
theorem q1806 : (Jvm.Cond.privateMethod ({ cls := "SweptSnowModel", name := "isPact", desc := "(I)Z" } : Jvm.MethodName)) ∈ lw_tbl := lw_at lw_m7 237 rfl
theorem q1807 : (Jvm.Cond.instanceMethod ({ cls := "SweptSnowModel", name := "isPact", desc := "(I)Z" } : Jvm.MethodName)) ∈ lw_all := lw_g (lw_at lw_m7 238 rfl) rfl
theorem q1808 : (Jvm.Cond.code ({ cls := "SweptSnowModel", name := "isPact", desc := "(I)Z" } : Jvm.MethodName) prog_19_method_96_code (3 : Nat) (Option.some Jvm.ClassFile.FieldType.boolean)) ∈ lw_all := lw_g (lw_at lw_m7 239 rfl) rfl
theorem q1810 : (Jvm.Cond.instanceMethod ({ cls := "SweptSnowModel", name := "thrownOn", desc := "(III)I" } : Jvm.MethodName)) ∈ lw_all := lw_g (lw_at lw_m8 1 rfl) rfl
theorem q1811 : (Jvm.Cond.selects "SweptSnowModel" ({ cls := "SweptSnowModel", name := "thrownOn", desc := "(III)I" } : Jvm.MethodName) ({ cls := "SweptSnowModel", name := "thrownOn", desc := "(III)I" } : Jvm.MethodName)) ∈ lw_all := lw_g (lw_at lw_m8 2 rfl) rfl
theorem q1812 : (Jvm.Cond.code ({ cls := "SweptSnowModel", name := "thrownOn", desc := "(III)I" } : Jvm.MethodName) prog_19_method_98_code (5 : Nat) (Option.some Jvm.ClassFile.FieldType.int)) ∈ lw_all := lw_g (lw_at lw_m8 3 rfl) rfl
theorem q1814 : (Jvm.Cond.instanceMethod ({ cls := "SweptSnowModel", name := "best", desc := "(III)I" } : Jvm.MethodName)) ∈ lw_all := lw_g (lw_at lw_m8 5 rfl) rfl
theorem q1815 : (Jvm.Cond.selects "SweptSnowModel" ({ cls := "SweptSnowModel", name := "best", desc := "(III)I" } : Jvm.MethodName) ({ cls := "SweptSnowModel", name := "best", desc := "(III)I" } : Jvm.MethodName)) ∈ lw_all := lw_g (lw_at lw_m8 6 rfl) rfl
theorem q1816 : (Jvm.Cond.code ({ cls := "SweptSnowModel", name := "best", desc := "(III)I" } : Jvm.MethodName) prog_19_method_100_code (8 : Nat) (Option.some Jvm.ClassFile.FieldType.int)) ∈ lw_all := lw_g (lw_at lw_m8 7 rfl) rfl
theorem q1817 : (Jvm.Cond.methodLink "SweptSnowModel" (424 : Nat) ({ cls := "SweptSnowModel", name := "closedIn", desc := "(I)I" } : Jvm.MethodName)) ∈ lw_all := lw_g (lw_at lw_m8 8 rfl) rfl
theorem q1818 : (Jvm.Cond.privateMethod ({ cls := "SweptSnowModel", name := "closedIn", desc := "(I)I" } : Jvm.MethodName)) ∈ lw_tbl := lw_at lw_m8 9 rfl
theorem q1819 : (Jvm.Cond.instanceMethod ({ cls := "SweptSnowModel", name := "closedIn", desc := "(I)I" } : Jvm.MethodName)) ∈ lw_all := lw_g (lw_at lw_m8 10 rfl) rfl
theorem q1820 : (Jvm.Cond.code ({ cls := "SweptSnowModel", name := "closedIn", desc := "(I)I" } : Jvm.MethodName) prog_19_method_99_code (3 : Nat) (Option.some Jvm.ClassFile.FieldType.int)) ∈ lw_all := lw_g (lw_at lw_m8 11 rfl) rfl
theorem q1822 : (Jvm.Cond.instanceMethod ({ cls := "SweptSnowModel", name := "might", desc := "(II)I" } : Jvm.MethodName)) ∈ lw_all := lw_g (lw_at lw_m8 13 rfl) rfl
theorem q1823 : (Jvm.Cond.selects "SweptSnowModel" ({ cls := "SweptSnowModel", name := "might", desc := "(II)I" } : Jvm.MethodName) ({ cls := "SweptSnowModel", name := "might", desc := "(II)I" } : Jvm.MethodName)) ∈ lw_all := lw_g (lw_at lw_m8 14 rfl) rfl
theorem q1824 : (Jvm.Cond.code ({ cls := "SweptSnowModel", name := "might", desc := "(II)I" } : Jvm.MethodName) prog_19_method_102_code (6 : Nat) (Option.some Jvm.ClassFile.FieldType.int)) ∈ lw_all := lw_g (lw_at lw_m8 15 rfl) rfl
theorem q1825 : (Jvm.Cond.methodLink "SweptSnowModel" (427 : Nat) ({ cls := "SweptSnowModel", name := "staysOpen", desc := "(II)Z" } : Jvm.MethodName)) ∈ lw_all := lw_g (lw_at lw_m8 16 rfl) rfl
theorem q1826 : (Jvm.Cond.privateMethod ({ cls := "SweptSnowModel", name := "staysOpen", desc := "(II)Z" } : Jvm.MethodName)) ∈ lw_tbl := lw_at lw_m8 17 rfl
theorem q1827 : (Jvm.Cond.instanceMethod ({ cls := "SweptSnowModel", name := "staysOpen", desc := "(II)Z" } : Jvm.MethodName)) ∈ lw_all := lw_g (lw_at lw_m8 18 rfl) rfl
theorem q1828 : (Jvm.Cond.code ({ cls := "SweptSnowModel", name := "staysOpen", desc := "(II)Z" } : Jvm.MethodName) prog_19_method_101_code (5 : Nat) (Option.some Jvm.ClassFile.FieldType.boolean)) ∈ lw_all := lw_g (lw_at lw_m8 19 rfl) rfl
theorem q1830 : (Jvm.Cond.instanceMethod ({ cls := "SweptSnowModel", name := "note", desc := "(III)I" } : Jvm.MethodName)) ∈ lw_all := lw_g (lw_at lw_m8 21 rfl) rfl
theorem q1831 : (Jvm.Cond.selects "SweptSnowModel" ({ cls := "SweptSnowModel", name := "note", desc := "(III)I" } : Jvm.MethodName) ({ cls := "SweptSnowModel", name := "note", desc := "(III)I" } : Jvm.MethodName)) ∈ lw_all := lw_g (lw_at lw_m8 22 rfl) rfl
theorem q1832 : (Jvm.Cond.code ({ cls := "SweptSnowModel", name := "note", desc := "(III)I" } : Jvm.MethodName) prog_19_method_103_code (5 : Nat) (Option.some Jvm.ClassFile.FieldType.int)) ∈ lw_all := lw_g (lw_at lw_m8 23 rfl) rfl
theorem q1833 : (Jvm.Cond.constantLong "SweptSnowModel" (430 : Nat) (999 : Int64)) ∈ lw_all := lw_g (lw_at lw_m8 24 rfl) rfl
theorem q1835 : (Jvm.Cond.instanceMethod ({ cls := "SweptSnowModel", name := "ruled", desc := "(I)I" } : Jvm.MethodName)) ∈ lw_all := lw_g (lw_at lw_m8 26 rfl) rfl
theorem q1836 : (Jvm.Cond.selects "SweptSnowModel" ({ cls := "SweptSnowModel", name := "ruled", desc := "(I)I" } : Jvm.MethodName) ({ cls := "SweptSnowModel", name := "ruled", desc := "(I)I" } : Jvm.MethodName)) ∈ lw_all := lw_g (lw_at lw_m8 27 rfl) rfl
theorem q1837 : (Jvm.Cond.code ({ cls := "SweptSnowModel", name := "ruled", desc := "(I)I" } : Jvm.MethodName) prog_19_method_106_code (5 : Nat) (Option.some Jvm.ClassFile.FieldType.int)) ∈ lw_all := lw_g (lw_at lw_m8 28 rfl) rfl
theorem q1838 : (Jvm.Cond.methodLink "SweptSnowModel" (435 : Nat) ({ cls := "SweptSnowModel", name := "fillsFits", desc := "(I)V" } : Jvm.MethodName)) ∈ lw_all := lw_g (lw_at lw_m8 29 rfl) rfl
theorem q1839 : (Jvm.Cond.privateMethod ({ cls := "SweptSnowModel", name := "fillsFits", desc := "(I)V" } : Jvm.MethodName)) ∈ lw_tbl := lw_at lw_m8 30 rfl
theorem q1840 : (Jvm.Cond.instanceMethod ({ cls := "SweptSnowModel", name := "fillsFits", desc := "(I)V" } : Jvm.MethodName)) ∈ lw_all := lw_g (lw_at lw_m8 31 rfl) rfl
theorem q1841 : (Jvm.Cond.code ({ cls := "SweptSnowModel", name := "fillsFits", desc := "(I)V" } : Jvm.MethodName) prog_19_method_105_code (7 : Nat) (Option.none : Option Jvm.ClassFile.FieldType)) ∈ lw_all := lw_g (lw_at lw_m8 32 rfl) rfl
theorem q1842 : (Jvm.Cond.methodLink "SweptSnowModel" (432 : Nat) ({ cls := "SweptSnowModel", name := "areNotesSo", desc := "(I)Z" } : Jvm.MethodName)) ∈ lw_all := lw_g (lw_at lw_m8 33 rfl) rfl
theorem q1843 : (Jvm.Cond.privateMethod ({ cls := "SweptSnowModel", name := "areNotesSo", desc := "(I)Z" } : Jvm.MethodName)) ∈ lw_tbl := lw_at lw_m8 34 rfl
theorem q1844 : (Jvm.Cond.instanceMethod ({ cls := "SweptSnowModel", name := "areNotesSo", desc := "(I)Z" } : Jvm.MethodName)) ∈ lw_all := lw_g (lw_at lw_m8 35 rfl) rfl
theorem q1845 : (Jvm.Cond.code ({ cls := "SweptSnowModel", name := "areNotesSo", desc := "(I)Z" } : Jvm.MethodName) prog_19_method_104_code (3 : Nat) (Option.some Jvm.ClassFile.FieldType.boolean)) ∈ lw_all := lw_g (lw_at lw_m8 36 rfl) rfl
theorem q1847 : (Jvm.Cond.instanceMethod ({ cls := "SweptSnowModel", name := "look", desc := "(II)I" } : Jvm.MethodName)) ∈ lw_all := lw_g (lw_at lw_m8 38 rfl) rfl
theorem q1848 : (Jvm.Cond.selects "SweptSnowModel" ({ cls := "SweptSnowModel", name := "look", desc := "(II)I" } : Jvm.MethodName) ({ cls := "SweptSnowModel", name := "look", desc := "(II)I" } : Jvm.MethodName)) ∈ lw_all := lw_g (lw_at lw_m8 39 rfl) rfl
theorem q1849 : (Jvm.Cond.code ({ cls := "SweptSnowModel", name := "look", desc := "(II)I" } : Jvm.MethodName) prog_19_method_108_code (7 : Nat) (Option.some Jvm.ClassFile.FieldType.int)) ∈ lw_all := lw_g (lw_at lw_m8 40 rfl) rfl
theorem q1850 : (Jvm.Cond.methodLink "SweptSnowModel" (438 : Nat) ({ cls := "SweptSnowModel", name := "alikeAt", desc := "(I)I" } : Jvm.MethodName)) ∈ lw_all := lw_g (lw_at lw_m8 41 rfl) rfl
theorem q1851 : (Jvm.Cond.privateMethod ({ cls := "SweptSnowModel", name := "alikeAt", desc := "(I)I" } : Jvm.MethodName)) ∈ lw_tbl := lw_at lw_m8 42 rfl
theorem q1852 : (Jvm.Cond.instanceMethod ({ cls := "SweptSnowModel", name := "alikeAt", desc := "(I)I" } : Jvm.MethodName)) ∈ lw_all := lw_g (lw_at lw_m8 43 rfl) rfl
theorem q1853 : (Jvm.Cond.code ({ cls := "SweptSnowModel", name := "alikeAt", desc := "(I)I" } : Jvm.MethodName) prog_19_method_107_code (6 : Nat) (Option.some Jvm.ClassFile.FieldType.int)) ∈ lw_all := lw_g (lw_at lw_m8 44 rfl) rfl
theorem q1855 : (Jvm.Cond.instanceMethod ({ cls := "SweptSnowModel", name := "seed", desc := "(I)I" } : Jvm.MethodName)) ∈ lw_all := lw_g (lw_at lw_m8 46 rfl) rfl
theorem q1856 : (Jvm.Cond.selects "SweptSnowModel" ({ cls := "SweptSnowModel", name := "seed", desc := "(I)I" } : Jvm.MethodName) ({ cls := "SweptSnowModel", name := "seed", desc := "(I)I" } : Jvm.MethodName)) ∈ lw_all := lw_g (lw_at lw_m8 47 rfl) rfl
theorem q1857 : (Jvm.Cond.code ({ cls := "SweptSnowModel", name := "seed", desc := "(I)I" } : Jvm.MethodName) prog_19_method_109_code (3 : Nat) (Option.some Jvm.ClassFile.FieldType.int)) ∈ lw_all := lw_g (lw_at lw_m8 48 rfl) rfl
theorem q1859 : (Jvm.Cond.instanceMethod ({ cls := "SweptSnowModel", name := "storms", desc := "(IIII)I" } : Jvm.MethodName)) ∈ lw_all := lw_g (lw_at lw_m8 50 rfl) rfl
theorem q1860 : (Jvm.Cond.selects "SweptSnowModel" ({ cls := "SweptSnowModel", name := "storms", desc := "(IIII)I" } : Jvm.MethodName) ({ cls := "SweptSnowModel", name := "storms", desc := "(IIII)I" } : Jvm.MethodName)) ∈ lw_all := lw_g (lw_at lw_m8 51 rfl) rfl
theorem q1861 : (Jvm.Cond.code ({ cls := "SweptSnowModel", name := "storms", desc := "(IIII)I" } : Jvm.MethodName) prog_19_method_111_code (10 : Nat) (Option.some Jvm.ClassFile.FieldType.int)) ∈ lw_all := lw_g (lw_at lw_m8 52 rfl) rfl
theorem q1862 : (Jvm.Cond.methodLink "SweptSnowModel" (456 : Nat) ({ cls := "SweptSnowModel", name := "draw", desc := "(I)I" } : Jvm.MethodName)) ∈ lw_all := lw_g (lw_at lw_m8 53 rfl) rfl
theorem q1863 : (Jvm.Cond.privateMethod ({ cls := "SweptSnowModel", name := "draw", desc := "(I)I" } : Jvm.MethodName)) ∈ lw_tbl := lw_at lw_m8 54 rfl
theorem q1864 : (Jvm.Cond.instanceMethod ({ cls := "SweptSnowModel", name := "draw", desc := "(I)I" } : Jvm.MethodName)) ∈ lw_all := lw_g (lw_at lw_m8 55 rfl) rfl
theorem q1865 : (Jvm.Cond.code ({ cls := "SweptSnowModel", name := "draw", desc := "(I)I" } : Jvm.MethodName) prog_19_method_110_code (2 : Nat) (Option.some Jvm.ClassFile.FieldType.int)) ∈ lw_all := lw_g (lw_at lw_m8 56 rfl) rfl
theorem q1866 : (Jvm.Cond.constantLong "SweptSnowModel" (448 : Nat) (1103515245 : Int64)) ∈ lw_all := lw_g (lw_at lw_m8 57 rfl) rfl
theorem q1867 : (Jvm.Cond.constantLong "SweptSnowModel" (450 : Nat) (12345 : Int64)) ∈ lw_all := lw_g (lw_at lw_m8 58 rfl) rfl
theorem q1868 : (Jvm.Cond.constantLong "SweptSnowModel" (452 : Nat) (2147483648 : Int64)) ∈ lw_all := lw_g (lw_at lw_m8 59 rfl) rfl
theorem q1869 : (Jvm.Cond.constantLong "SweptSnowModel" (454 : Nat) (65536 : Int64)) ∈ lw_all := lw_g (lw_at lw_m8 60 rfl) rfl
theorem q1871 : (Jvm.Cond.instanceMethod ({ cls := "SweptSnowModel", name := "count", desc := "(I)I" } : Jvm.MethodName)) ∈ lw_all := lw_g (lw_at lw_m8 62 rfl) rfl
theorem q1872 : (Jvm.Cond.selects "SweptSnowModel" ({ cls := "SweptSnowModel", name := "count", desc := "(I)I" } : Jvm.MethodName) ({ cls := "SweptSnowModel", name := "count", desc := "(I)I" } : Jvm.MethodName)) ∈ lw_all := lw_g (lw_at lw_m8 63 rfl) rfl
theorem q1873 : (Jvm.Cond.code ({ cls := "SweptSnowModel", name := "count", desc := "(I)I" } : Jvm.MethodName) prog_19_method_112_code (2 : Nat) (Option.some Jvm.ClassFile.FieldType.int)) ∈ lw_all := lw_g (lw_at lw_m8 64 rfl) rfl
theorem q1875 : (Jvm.Cond.instanceMethod ({ cls := "SweptSnowModel", name := "image", desc := "(I)I" } : Jvm.MethodName)) ∈ lw_all := lw_g (lw_at lw_m8 66 rfl) rfl
theorem q1876 : (Jvm.Cond.selects "SweptSnowModel" ({ cls := "SweptSnowModel", name := "image", desc := "(I)I" } : Jvm.MethodName) ({ cls := "SweptSnowModel", name := "image", desc := "(I)I" } : Jvm.MethodName)) ∈ lw_all := lw_g (lw_at lw_m8 67 rfl) rfl
theorem q1877 : (Jvm.Cond.code ({ cls := "SweptSnowModel", name := "image", desc := "(I)I" } : Jvm.MethodName) prog_19_method_113_code (3 : Nat) (Option.some Jvm.ClassFile.FieldType.int)) ∈ lw_all := lw_g (lw_at lw_m8 68 rfl) rfl
theorem q1878 : (Jvm.Cond.constantLong "SweptSnowModel" (459 : Nat) (3 : Int64)) ∈ lw_all := lw_g (lw_at lw_m8 69 rfl) rfl
theorem q1880 : (Jvm.Cond.instanceMethod ({ cls := "SweptSnowModel", name := "back", desc := "(I)I" } : Jvm.MethodName)) ∈ lw_all := lw_g (lw_at lw_m8 71 rfl) rfl
theorem q1881 : (Jvm.Cond.selects "SweptSnowModel" ({ cls := "SweptSnowModel", name := "back", desc := "(I)I" } : Jvm.MethodName) ({ cls := "SweptSnowModel", name := "back", desc := "(I)I" } : Jvm.MethodName)) ∈ lw_all := lw_g (lw_at lw_m8 72 rfl) rfl
theorem q1882 : (Jvm.Cond.code ({ cls := "SweptSnowModel", name := "back", desc := "(I)I" } : Jvm.MethodName) prog_19_method_114_code (3 : Nat) (Option.some Jvm.ClassFile.FieldType.int)) ∈ lw_all := lw_g (lw_at lw_m8 73 rfl) rfl
theorem q1892 : (Jvm.Cond.castable "SweptSnowModel" "java/lang/Object") ∈ lw_tbl := lw_at lw_m8 83 rfl
theorem in_X4 : ∀ w ∈ wsX40, w ∈ lw_all := lw_in wsX40 [1321, 1323, 1325, 1327, 1329, 1331, 1333, 1335, 1337, 1339, 1341, 1343, 1345, 1347, 1349, 1351, 1353, 1355, 1357, 1359, 1361, 1363, 1365, 1367, 1369, 1371, 1373, 1375, 1377, 1379, 1381, 1383, 1385, 1387, 1389, 1391, 1393, 1395, 1397, 1399] (by decide +kernel) (by decide +kernel)
