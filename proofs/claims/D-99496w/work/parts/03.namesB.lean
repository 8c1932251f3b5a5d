/-! SweptSnow -/
set_option maxRecDepth 100000
def RX0 : String := "SweptSnow"
def TX0 : u_T := fun k => match k with
  | 0 => ("SweptSnow", "valley", "LSweptSnow$Valley;", false)
  | 1 => ("SweptSnow", "state", "LSweptSnow$State;", true)
  | 2 => ("SweptSnow", "kept", "LSweptSnow$State;", true)
  | 3 => ("SweptSnow", "rules", "Ljava/util/ArrayList;", true)
  | 4 => ("SweptSnow", "inForce", "I", false)
  | 5 => ("SweptSnow", "wrong", "LSweptSnow$Wrong;", true)
  | 6 => ("SweptSnow", "tape", "[B", true)
  | 7 => ("SweptSnow", "taped", "I", false)
  | 8 => ("SweptSnow", "noteWhen", "[I", true)
  | 9 => ("SweptSnow", "noteStep", "[I", true)
  | 10 => ("SweptSnow", "noteSnow", "[I", true)
  | 11 => ("SweptSnow", "notes", "I", false)
  | 12 => ("SweptSnow", "draw", "I", false)
  | 13 => ("SweptSnow", "words", "[J", true)
  | 14 => ("SweptSnow", "thrown", "[I", true)
  | 15 => ("SweptSnow", "strengthHouse", "I", false)
  | 16 => ("SweptSnow", "strengthNow", "I", false)
  | 17 => ("SweptSnow", "past", "[LSweptSnow$State;", true)
  | 18 => ("SweptSnow", "pastMany", "I", false)
  | 19 => ("SweptSnow", "pastAt", "I", false)
  | 20 => ("SweptSnow", "lay", "[I", true)
  | 21 => ("SweptSnow", "far", "[I", true)
  | 22 => ("SweptSnow", "gains", "[I", true)
  | 23 => ("SweptSnow", "best", "I", false)
  | 24 => ("SweptSnow", "fewest", "I", false)
  | 25 => ("SweptSnow", "shows", "[I", true)
  | _ => ("SweptSnow", "images", "[LSweptSnow$Image;", true)
def tyX0 : Nat → FieldType := fun k => match k with
  | 0 => .object "SweptSnow$Valley"
  | 1 => .object "SweptSnow$State"
  | 2 => .object "SweptSnow$State"
  | 3 => .object "java/util/ArrayList"
  | 4 => .int
  | 5 => .object "SweptSnow$Wrong"
  | 6 => .array .byte
  | 7 => .int
  | 8 => .array .int
  | 9 => .array .int
  | 10 => .array .int
  | 11 => .int
  | 12 => .int
  | 13 => .array .long
  | 14 => .array .int
  | 15 => .int
  | 16 => .int
  | 17 => .array (.object "SweptSnow$State")
  | 18 => .int
  | 19 => .int
  | 20 => .array .int
  | 21 => .array .int
  | 22 => .array .int
  | 23 => .int
  | 24 => .int
  | 25 => .array .int
  | _ => .array (.object "SweptSnow$Image")
abbrev wsX00 : List Cond := u_ws RX0 TX0 27
set_option maxRecDepth 100000 in
theorem nmX0 : ∀ a, a < 27 → ∀ b, b < 27 → a ≠ b → (TX0 a).2.1 ≠ (TX0 b).2.1 := by decide +kernel
set_option maxRecDepth 100000 in
theorem tyX0_ok : ∀ k, k < 27 → parseFieldDescriptor (TX0 k).2.2.1 = some (tyX0 k) := by decide +kernel
abbrev cX0_init : ByteArray := prog_1_method_4_code
def yX0_init : MethodName := ⟨RX0, "<init>", "()V"⟩
def dkwX0_init_7 : List UInt8 := [7, 189, 0, 94, 181, 0, 96, 177]
abbrev dktX0_init_7 : List UInt8 := dkwX0_init_7 ++ []
def dkwX0_init_6 : List UInt8 := [16, 8, 188, 10, 181, 0, 85, 42, 16, 64, 188, 10, 181, 0, 88, 42, 16, 56, 188, 10, 181, 0, 91, 42]
abbrev dktX0_init_6 : List UInt8 := dkwX0_init_6 ++ dktX0_init_7
def dkwX0_init_5 : List UInt8 := [2, 181, 0, 71, 42, 16, 20, 184, 0, 74, 181, 0, 78, 42, 17, 1, 232, 188, 10, 181, 0, 82, 42]
abbrev dktX0_init_5 : List UInt8 := dkwX0_init_5 ++ dktX0_init_6
def dkwX0_init_4 : List UInt8 := [188, 10, 181, 0, 57, 42, 178, 0, 60, 190, 188, 11, 181, 0, 64, 42, 16, 8, 188, 10, 181, 0, 68, 42]
abbrev dktX0_init_4 : List UInt8 := dkwX0_init_4 ++ dktX0_init_5
def dkwX0_init_3 : List UInt8 := [188, 8, 181, 0, 46, 42, 16, 10, 188, 10, 181, 0, 50, 42, 16, 10, 188, 10, 181, 0, 54, 42, 16, 10]
abbrev dktX0_init_3 : List UInt8 := dkwX0_init_3 ++ dktX0_init_4
def dkwX0_init_2 : List UInt8 := [181, 0, 31, 42, 2, 181, 0, 35, 42, 187, 0, 39, 89, 183, 0, 41, 181, 0, 42, 42, 17, 1, 144]
abbrev dktX0_init_2 : List UInt8 := dkwX0_init_2 ++ dktX0_init_3
def dkwX0_init_1 : List UInt8 := [181, 0, 19, 42, 187, 0, 16, 89, 183, 0, 18, 181, 0, 23, 42, 187, 0, 26, 89, 5, 183, 0, 28]
abbrev dktX0_init_1 : List UInt8 := dkwX0_init_1 ++ dktX0_init_2
def dkwX0_init_0 : List UInt8 := [42, 183, 0, 1, 42, 187, 0, 7, 89, 183, 0, 9, 181, 0, 10, 42, 187, 0, 16, 89, 183, 0, 18]
abbrev dktX0_init_0 : List UInt8 := dkwX0_init_0 ++ dktX0_init_1
theorem dksX0_init_0 : cX0_init.data.toList.drop 0 = dktX0_init_0 := by decide +kernel
theorem dksX0_init_1 : cX0_init.data.toList.drop 23 = dktX0_init_1 := dk_seg dksX0_init_0 23 rfl rfl
theorem dksX0_init_2 : cX0_init.data.toList.drop 46 = dktX0_init_2 := dk_seg dksX0_init_1 23 rfl rfl
theorem dksX0_init_3 : cX0_init.data.toList.drop 69 = dktX0_init_3 := dk_seg dksX0_init_2 23 rfl rfl
theorem dksX0_init_4 : cX0_init.data.toList.drop 93 = dktX0_init_4 := dk_seg dksX0_init_3 24 rfl rfl
theorem dksX0_init_5 : cX0_init.data.toList.drop 117 = dktX0_init_5 := dk_seg dksX0_init_4 24 rfl rfl
theorem dksX0_init_6 : cX0_init.data.toList.drop 140 = dktX0_init_6 := dk_seg dksX0_init_5 23 rfl rfl
theorem dksX0_init_7 : cX0_init.data.toList.drop 164 = dktX0_init_7 := dk_seg dksX0_init_6 24 rfl rfl
theorem dX0_init_0 : decode cX0_init 0 = .ok (.aload_n 0, 1) := dk_42 (dk_at dksX0_init_0 0 rfl rfl)
theorem dX0_init_1 : decode cX0_init 1 = .ok (.invokespecial 1, 3) := dk_183 0 1 (dk_at dksX0_init_0 1 rfl rfl)
theorem dX0_init_4 : decode cX0_init 4 = .ok (.aload_n 0, 1) := dk_42 (dk_at dksX0_init_0 4 rfl rfl)
theorem dX0_init_5 : decode cX0_init 5 = .ok (.new 7, 3) := dk_187 0 7 (dk_at dksX0_init_0 5 rfl rfl)
theorem dX0_init_8 : decode cX0_init 8 = .ok (.dup, 1) := dk_89 (dk_at dksX0_init_0 8 rfl rfl)
theorem dX0_init_9 : decode cX0_init 9 = .ok (.invokespecial 9, 3) := dk_183 0 9 (dk_at dksX0_init_0 9 rfl rfl)
theorem dX0_init_12 : decode cX0_init 12 = .ok (.putfield 10, 3) := dk_181 0 10 (dk_at dksX0_init_0 12 rfl rfl)
theorem dX0_init_15 : decode cX0_init 15 = .ok (.aload_n 0, 1) := dk_42 (dk_at dksX0_init_0 15 rfl rfl)
theorem dX0_init_16 : decode cX0_init 16 = .ok (.new 16, 3) := dk_187 0 16 (dk_at dksX0_init_0 16 rfl rfl)
theorem dX0_init_19 : decode cX0_init 19 = .ok (.dup, 1) := dk_89 (dk_at dksX0_init_0 19 rfl rfl)
theorem dX0_init_20 : decode cX0_init 20 = .ok (.invokespecial 18, 3) := dk_183 0 18 (dk_at dksX0_init_0 20 rfl rfl)
theorem dX0_init_23 : decode cX0_init 23 = .ok (.putfield 19, 3) := dk_181 0 19 (dk_at dksX0_init_1 0 rfl rfl)
theorem dX0_init_26 : decode cX0_init 26 = .ok (.aload_n 0, 1) := dk_42 (dk_at dksX0_init_1 3 rfl rfl)
theorem dX0_init_27 : decode cX0_init 27 = .ok (.new 16, 3) := dk_187 0 16 (dk_at dksX0_init_1 4 rfl rfl)
theorem dX0_init_30 : decode cX0_init 30 = .ok (.dup, 1) := dk_89 (dk_at dksX0_init_1 7 rfl rfl)
theorem dX0_init_31 : decode cX0_init 31 = .ok (.invokespecial 18, 3) := dk_183 0 18 (dk_at dksX0_init_1 8 rfl rfl)
theorem dX0_init_34 : decode cX0_init 34 = .ok (.putfield 23, 3) := dk_181 0 23 (dk_at dksX0_init_1 11 rfl rfl)
theorem dX0_init_37 : decode cX0_init 37 = .ok (.aload_n 0, 1) := dk_42 (dk_at dksX0_init_1 14 rfl rfl)
theorem dX0_init_38 : decode cX0_init 38 = .ok (.new 26, 3) := dk_187 0 26 (dk_at dksX0_init_1 15 rfl rfl)
theorem dX0_init_41 : decode cX0_init 41 = .ok (.dup, 1) := dk_89 (dk_at dksX0_init_1 18 rfl rfl)
theorem dX0_init_42 : decode cX0_init 42 = .ok (.iconst 2, 1) := dk_5 (dk_at dksX0_init_1 19 rfl rfl)
theorem dX0_init_43 : decode cX0_init 43 = .ok (.invokespecial 28, 3) := dk_183 0 28 (dk_at dksX0_init_1 20 rfl rfl)
theorem dX0_init_46 : decode cX0_init 46 = .ok (.putfield 31, 3) := dk_181 0 31 (dk_at dksX0_init_2 0 rfl rfl)
theorem dX0_init_49 : decode cX0_init 49 = .ok (.aload_n 0, 1) := dk_42 (dk_at dksX0_init_2 3 rfl rfl)
theorem dX0_init_50 : decode cX0_init 50 = .ok (.iconst (-1), 1) := dk_2 (dk_at dksX0_init_2 4 rfl rfl)
theorem dX0_init_51 : decode cX0_init 51 = .ok (.putfield 35, 3) := dk_181 0 35 (dk_at dksX0_init_2 5 rfl rfl)
theorem dX0_init_54 : decode cX0_init 54 = .ok (.aload_n 0, 1) := dk_42 (dk_at dksX0_init_2 8 rfl rfl)
theorem dX0_init_55 : decode cX0_init 55 = .ok (.new 39, 3) := dk_187 0 39 (dk_at dksX0_init_2 9 rfl rfl)
theorem dX0_init_58 : decode cX0_init 58 = .ok (.dup, 1) := dk_89 (dk_at dksX0_init_2 12 rfl rfl)
theorem dX0_init_59 : decode cX0_init 59 = .ok (.invokespecial 41, 3) := dk_183 0 41 (dk_at dksX0_init_2 13 rfl rfl)
theorem dX0_init_62 : decode cX0_init 62 = .ok (.putfield 42, 3) := dk_181 0 42 (dk_at dksX0_init_2 16 rfl rfl)
theorem dX0_init_65 : decode cX0_init 65 = .ok (.aload_n 0, 1) := dk_42 (dk_at dksX0_init_2 19 rfl rfl)
theorem dX0_init_66 : decode cX0_init 66 = .ok (.sipush 400, 3) := dk_17 1 144 (dk_at dksX0_init_2 20 rfl rfl)
theorem dX0_init_69 : decode cX0_init 69 = .ok (.newarray .byte, 2) := dk_188_8 (dk_at dksX0_init_3 0 rfl rfl)
theorem dX0_init_71 : decode cX0_init 71 = .ok (.putfield 46, 3) := dk_181 0 46 (dk_at dksX0_init_3 2 rfl rfl)
theorem dX0_init_74 : decode cX0_init 74 = .ok (.aload_n 0, 1) := dk_42 (dk_at dksX0_init_3 5 rfl rfl)
theorem dX0_init_75 : decode cX0_init 75 = .ok (.bipush 10, 2) := dk_16 10 (dk_at dksX0_init_3 6 rfl rfl)
theorem dX0_init_77 : decode cX0_init 77 = .ok (.newarray .int, 2) := dk_188_10 (dk_at dksX0_init_3 8 rfl rfl)
theorem dX0_init_79 : decode cX0_init 79 = .ok (.putfield 50, 3) := dk_181 0 50 (dk_at dksX0_init_3 10 rfl rfl)
theorem dX0_init_82 : decode cX0_init 82 = .ok (.aload_n 0, 1) := dk_42 (dk_at dksX0_init_3 13 rfl rfl)
theorem dX0_init_83 : decode cX0_init 83 = .ok (.bipush 10, 2) := dk_16 10 (dk_at dksX0_init_3 14 rfl rfl)
theorem dX0_init_85 : decode cX0_init 85 = .ok (.newarray .int, 2) := dk_188_10 (dk_at dksX0_init_3 16 rfl rfl)
theorem dX0_init_87 : decode cX0_init 87 = .ok (.putfield 54, 3) := dk_181 0 54 (dk_at dksX0_init_3 18 rfl rfl)
theorem dX0_init_90 : decode cX0_init 90 = .ok (.aload_n 0, 1) := dk_42 (dk_at dksX0_init_3 21 rfl rfl)
theorem dX0_init_91 : decode cX0_init 91 = .ok (.bipush 10, 2) := dk_16 10 (dk_at dksX0_init_3 22 rfl rfl)
theorem dX0_init_93 : decode cX0_init 93 = .ok (.newarray .int, 2) := dk_188_10 (dk_at dksX0_init_4 0 rfl rfl)
theorem dX0_init_95 : decode cX0_init 95 = .ok (.putfield 57, 3) := dk_181 0 57 (dk_at dksX0_init_4 2 rfl rfl)
theorem dX0_init_98 : decode cX0_init 98 = .ok (.aload_n 0, 1) := dk_42 (dk_at dksX0_init_4 5 rfl rfl)
theorem dX0_init_99 : decode cX0_init 99 = .ok (.getstatic 60, 3) := dk_178 0 60 (dk_at dksX0_init_4 6 rfl rfl)
theorem dX0_init_102 : decode cX0_init 102 = .ok (.arraylength, 1) := dk_190 (dk_at dksX0_init_4 9 rfl rfl)
theorem dX0_init_103 : decode cX0_init 103 = .ok (.newarray .long, 2) := dk_188_11 (dk_at dksX0_init_4 10 rfl rfl)
theorem dX0_init_105 : decode cX0_init 105 = .ok (.putfield 64, 3) := dk_181 0 64 (dk_at dksX0_init_4 12 rfl rfl)
theorem dX0_init_108 : decode cX0_init 108 = .ok (.aload_n 0, 1) := dk_42 (dk_at dksX0_init_4 15 rfl rfl)
theorem dX0_init_109 : decode cX0_init 109 = .ok (.bipush 8, 2) := dk_16 8 (dk_at dksX0_init_4 16 rfl rfl)
theorem dX0_init_111 : decode cX0_init 111 = .ok (.newarray .int, 2) := dk_188_10 (dk_at dksX0_init_4 18 rfl rfl)
theorem dX0_init_113 : decode cX0_init 113 = .ok (.putfield 68, 3) := dk_181 0 68 (dk_at dksX0_init_4 20 rfl rfl)
theorem dX0_init_116 : decode cX0_init 116 = .ok (.aload_n 0, 1) := dk_42 (dk_at dksX0_init_4 23 rfl rfl)
theorem dX0_init_117 : decode cX0_init 117 = .ok (.iconst (-1), 1) := dk_2 (dk_at dksX0_init_5 0 rfl rfl)
theorem dX0_init_118 : decode cX0_init 118 = .ok (.putfield 71, 3) := dk_181 0 71 (dk_at dksX0_init_5 1 rfl rfl)
theorem dX0_init_121 : decode cX0_init 121 = .ok (.aload_n 0, 1) := dk_42 (dk_at dksX0_init_5 4 rfl rfl)
theorem dX0_init_122 : decode cX0_init 122 = .ok (.bipush 20, 2) := dk_16 20 (dk_at dksX0_init_5 5 rfl rfl)
theorem dX0_init_124 : decode cX0_init 124 = .ok (.invokestatic 74, 3) := dk_184 0 74 (dk_at dksX0_init_5 7 rfl rfl)
theorem dX0_init_127 : decode cX0_init 127 = .ok (.putfield 78, 3) := dk_181 0 78 (dk_at dksX0_init_5 10 rfl rfl)
theorem dX0_init_130 : decode cX0_init 130 = .ok (.aload_n 0, 1) := dk_42 (dk_at dksX0_init_5 13 rfl rfl)
theorem dX0_init_131 : decode cX0_init 131 = .ok (.sipush 488, 3) := dk_17 1 232 (dk_at dksX0_init_5 14 rfl rfl)
theorem dX0_init_134 : decode cX0_init 134 = .ok (.newarray .int, 2) := dk_188_10 (dk_at dksX0_init_5 17 rfl rfl)
theorem dX0_init_136 : decode cX0_init 136 = .ok (.putfield 82, 3) := dk_181 0 82 (dk_at dksX0_init_5 19 rfl rfl)
theorem dX0_init_139 : decode cX0_init 139 = .ok (.aload_n 0, 1) := dk_42 (dk_at dksX0_init_5 22 rfl rfl)
theorem dX0_init_140 : decode cX0_init 140 = .ok (.bipush 8, 2) := dk_16 8 (dk_at dksX0_init_6 0 rfl rfl)
theorem dX0_init_142 : decode cX0_init 142 = .ok (.newarray .int, 2) := dk_188_10 (dk_at dksX0_init_6 2 rfl rfl)
theorem dX0_init_144 : decode cX0_init 144 = .ok (.putfield 85, 3) := dk_181 0 85 (dk_at dksX0_init_6 4 rfl rfl)
theorem dX0_init_147 : decode cX0_init 147 = .ok (.aload_n 0, 1) := dk_42 (dk_at dksX0_init_6 7 rfl rfl)
theorem dX0_init_148 : decode cX0_init 148 = .ok (.bipush 64, 2) := dk_16 64 (dk_at dksX0_init_6 8 rfl rfl)
theorem dX0_init_150 : decode cX0_init 150 = .ok (.newarray .int, 2) := dk_188_10 (dk_at dksX0_init_6 10 rfl rfl)
theorem dX0_init_152 : decode cX0_init 152 = .ok (.putfield 88, 3) := dk_181 0 88 (dk_at dksX0_init_6 12 rfl rfl)
theorem dX0_init_155 : decode cX0_init 155 = .ok (.aload_n 0, 1) := dk_42 (dk_at dksX0_init_6 15 rfl rfl)
theorem dX0_init_156 : decode cX0_init 156 = .ok (.bipush 56, 2) := dk_16 56 (dk_at dksX0_init_6 16 rfl rfl)
theorem dX0_init_158 : decode cX0_init 158 = .ok (.newarray .int, 2) := dk_188_10 (dk_at dksX0_init_6 18 rfl rfl)
theorem dX0_init_160 : decode cX0_init 160 = .ok (.putfield 91, 3) := dk_181 0 91 (dk_at dksX0_init_6 20 rfl rfl)
theorem dX0_init_163 : decode cX0_init 163 = .ok (.aload_n 0, 1) := dk_42 (dk_at dksX0_init_6 23 rfl rfl)
theorem dX0_init_164 : decode cX0_init 164 = .ok (.iconst 4, 1) := dk_7 (dk_at dksX0_init_7 0 rfl rfl)
theorem dX0_init_165 : decode cX0_init 165 = .ok (.anewarray 94, 3) := dk_189 0 94 (dk_at dksX0_init_7 1 rfl rfl)
theorem dX0_init_168 : decode cX0_init 168 = .ok (.putfield 96, 3) := dk_181 0 96 (dk_at dksX0_init_7 4 rfl rfl)
theorem dX0_init_171 : decode cX0_init 171 = .ok (.return_, 1) := dk_177 (dk_at dksX0_init_7 7 rfl rfl)
abbrev cX0_newStates : ByteArray := prog_1_method_24_code
def yX0_newStates : MethodName := ⟨RX0, "newStates", "(I)[LSweptSnow$State;"⟩
def dkwX0_newStates_1 : List UInt8 := [132, 2, 1, 167, 255, 238, 43, 176]
abbrev dktX0_newStates_1 : List UInt8 := dkwX0_newStates_1 ++ []
def dkwX0_newStates_0 : List UInt8 := [26, 189, 0, 16, 76, 3, 61, 28, 26, 162, 0, 19, 43, 28, 187, 0, 16, 89, 183, 0, 18, 83]
abbrev dktX0_newStates_0 : List UInt8 := dkwX0_newStates_0 ++ dktX0_newStates_1
theorem dksX0_newStates_0 : cX0_newStates.data.toList.drop 0 = dktX0_newStates_0 := by decide +kernel
theorem dksX0_newStates_1 : cX0_newStates.data.toList.drop 22 = dktX0_newStates_1 := dk_seg dksX0_newStates_0 22 rfl rfl
theorem dX0_newStates_0 : decode cX0_newStates 0 = .ok (.iload_n 0, 1) := dk_26 (dk_at dksX0_newStates_0 0 rfl rfl)
theorem dX0_newStates_1 : decode cX0_newStates 1 = .ok (.anewarray 16, 3) := dk_189 0 16 (dk_at dksX0_newStates_0 1 rfl rfl)
theorem dX0_newStates_4 : decode cX0_newStates 4 = .ok (.astore_n 1, 1) := dk_76 (dk_at dksX0_newStates_0 4 rfl rfl)
theorem dX0_newStates_5 : decode cX0_newStates 5 = .ok (.iconst 0, 1) := dk_3 (dk_at dksX0_newStates_0 5 rfl rfl)
theorem dX0_newStates_6 : decode cX0_newStates 6 = .ok (.istore_n 2, 1) := dk_61 (dk_at dksX0_newStates_0 6 rfl rfl)
theorem dX0_newStates_7 : decode cX0_newStates 7 = .ok (.iload_n 2, 1) := dk_28 (dk_at dksX0_newStates_0 7 rfl rfl)
theorem dX0_newStates_8 : decode cX0_newStates 8 = .ok (.iload_n 0, 1) := dk_26 (dk_at dksX0_newStates_0 8 rfl rfl)
theorem dX0_newStates_9 : decode cX0_newStates 9 = .ok (.if_icmp .ge 19, 3) := dk_162 0 19 (dk_at dksX0_newStates_0 9 rfl rfl)
theorem dX0_newStates_12 : decode cX0_newStates 12 = .ok (.aload_n 1, 1) := dk_43 (dk_at dksX0_newStates_0 12 rfl rfl)
theorem dX0_newStates_13 : decode cX0_newStates 13 = .ok (.iload_n 2, 1) := dk_28 (dk_at dksX0_newStates_0 13 rfl rfl)
theorem dX0_newStates_14 : decode cX0_newStates 14 = .ok (.new 16, 3) := dk_187 0 16 (dk_at dksX0_newStates_0 14 rfl rfl)
theorem dX0_newStates_17 : decode cX0_newStates 17 = .ok (.dup, 1) := dk_89 (dk_at dksX0_newStates_0 17 rfl rfl)
theorem dX0_newStates_18 : decode cX0_newStates 18 = .ok (.invokespecial 18, 3) := dk_183 0 18 (dk_at dksX0_newStates_0 18 rfl rfl)
theorem dX0_newStates_21 : decode cX0_newStates 21 = .ok (.aastore, 1) := dk_83 (dk_at dksX0_newStates_0 21 rfl rfl)
theorem dX0_newStates_22 : decode cX0_newStates 22 = .ok (.iinc 2 1, 3) := dk_132 2 1 (dk_at dksX0_newStates_1 0 rfl rfl)
theorem dX0_newStates_25 : decode cX0_newStates 25 = .ok (.goto (-18), 3) := dk_167 255 238 (dk_at dksX0_newStates_1 3 rfl rfl)
theorem dX0_newStates_28 : decode cX0_newStates 28 = .ok (.aload_n 1, 1) := dk_43 (dk_at dksX0_newStates_1 6 rfl rfl)
theorem dX0_newStates_29 : decode cX0_newStates 29 = .ok (.areturn, 1) := dk_176 (dk_at dksX0_newStates_1 7 rfl rfl)
abbrev cX0_feed : ByteArray := prog_1_method_9_code
def yX0_feed : MethodName := ⟨RX0, "feed", "(IIIII)I"⟩
def dkwX0_feed_2 : List UInt8 := [172]
abbrev dktX0_feed_2 : List UInt8 := dkwX0_feed_2 ++ []
def dkwX0_feed_1 : List UInt8 := [182, 0, 120, 42, 29, 182, 0, 120, 42, 21, 4, 182, 0, 120, 42, 21, 5, 182, 0, 120, 42, 180, 0, 117]
abbrev dktX0_feed_1 : List UInt8 := dkwX0_feed_1 ++ dktX0_feed_2
def dkwX0_feed_0 : List UInt8 := [42, 180, 0, 117, 16, 20, 96, 17, 1, 144, 164, 0, 5, 2, 172, 42, 27, 182, 0, 120, 42, 28]
abbrev dktX0_feed_0 : List UInt8 := dkwX0_feed_0 ++ dktX0_feed_1
theorem dksX0_feed_0 : cX0_feed.data.toList.drop 0 = dktX0_feed_0 := by decide +kernel
theorem dksX0_feed_1 : cX0_feed.data.toList.drop 22 = dktX0_feed_1 := dk_seg dksX0_feed_0 22 rfl rfl
theorem dksX0_feed_2 : cX0_feed.data.toList.drop 46 = dktX0_feed_2 := dk_seg dksX0_feed_1 24 rfl rfl
theorem dX0_feed_0 : decode cX0_feed 0 = .ok (.aload_n 0, 1) := dk_42 (dk_at dksX0_feed_0 0 rfl rfl)
theorem dX0_feed_1 : decode cX0_feed 1 = .ok (.getfield 117, 3) := dk_180 0 117 (dk_at dksX0_feed_0 1 rfl rfl)
theorem dX0_feed_4 : decode cX0_feed 4 = .ok (.bipush 20, 2) := dk_16 20 (dk_at dksX0_feed_0 4 rfl rfl)
theorem dX0_feed_6 : decode cX0_feed 6 = .ok (.iadd, 1) := dk_96 (dk_at dksX0_feed_0 6 rfl rfl)
theorem dX0_feed_7 : decode cX0_feed 7 = .ok (.sipush 400, 3) := dk_17 1 144 (dk_at dksX0_feed_0 7 rfl rfl)
theorem dX0_feed_10 : decode cX0_feed 10 = .ok (.if_icmp .le 5, 3) := dk_164 0 5 (dk_at dksX0_feed_0 10 rfl rfl)
theorem dX0_feed_13 : decode cX0_feed 13 = .ok (.iconst (-1), 1) := dk_2 (dk_at dksX0_feed_0 13 rfl rfl)
theorem dX0_feed_14 : decode cX0_feed 14 = .ok (.ireturn, 1) := dk_172 (dk_at dksX0_feed_0 14 rfl rfl)
theorem dX0_feed_15 : decode cX0_feed 15 = .ok (.aload_n 0, 1) := dk_42 (dk_at dksX0_feed_0 15 rfl rfl)
theorem dX0_feed_16 : decode cX0_feed 16 = .ok (.iload_n 1, 1) := dk_27 (dk_at dksX0_feed_0 16 rfl rfl)
theorem dX0_feed_17 : decode cX0_feed 17 = .ok (.invokevirtual 120, 3) := dk_182 0 120 (dk_at dksX0_feed_0 17 rfl rfl)
theorem dX0_feed_20 : decode cX0_feed 20 = .ok (.aload_n 0, 1) := dk_42 (dk_at dksX0_feed_0 20 rfl rfl)
theorem dX0_feed_21 : decode cX0_feed 21 = .ok (.iload_n 2, 1) := dk_28 (dk_at dksX0_feed_0 21 rfl rfl)
theorem dX0_feed_22 : decode cX0_feed 22 = .ok (.invokevirtual 120, 3) := dk_182 0 120 (dk_at dksX0_feed_1 0 rfl rfl)
theorem dX0_feed_25 : decode cX0_feed 25 = .ok (.aload_n 0, 1) := dk_42 (dk_at dksX0_feed_1 3 rfl rfl)
theorem dX0_feed_26 : decode cX0_feed 26 = .ok (.iload_n 3, 1) := dk_29 (dk_at dksX0_feed_1 4 rfl rfl)
theorem dX0_feed_27 : decode cX0_feed 27 = .ok (.invokevirtual 120, 3) := dk_182 0 120 (dk_at dksX0_feed_1 5 rfl rfl)
theorem dX0_feed_30 : decode cX0_feed 30 = .ok (.aload_n 0, 1) := dk_42 (dk_at dksX0_feed_1 8 rfl rfl)
theorem dX0_feed_31 : decode cX0_feed 31 = .ok (.iload 4, 2) := dk_21 4 (dk_at dksX0_feed_1 9 rfl rfl)
theorem dX0_feed_33 : decode cX0_feed 33 = .ok (.invokevirtual 120, 3) := dk_182 0 120 (dk_at dksX0_feed_1 11 rfl rfl)
theorem dX0_feed_36 : decode cX0_feed 36 = .ok (.aload_n 0, 1) := dk_42 (dk_at dksX0_feed_1 14 rfl rfl)
theorem dX0_feed_37 : decode cX0_feed 37 = .ok (.iload 5, 2) := dk_21 5 (dk_at dksX0_feed_1 15 rfl rfl)
theorem dX0_feed_39 : decode cX0_feed 39 = .ok (.invokevirtual 120, 3) := dk_182 0 120 (dk_at dksX0_feed_1 17 rfl rfl)
theorem dX0_feed_42 : decode cX0_feed 42 = .ok (.aload_n 0, 1) := dk_42 (dk_at dksX0_feed_1 20 rfl rfl)
theorem dX0_feed_43 : decode cX0_feed 43 = .ok (.getfield 117, 3) := dk_180 0 117 (dk_at dksX0_feed_1 21 rfl rfl)
theorem dX0_feed_46 : decode cX0_feed 46 = .ok (.ireturn, 1) := dk_172 (dk_at dksX0_feed_2 0 rfl rfl)
abbrev cX0_put : ByteArray := prog_1_method_10_code
def yX0_put : MethodName := ⟨RX0, "put", "(I)V"⟩
def dkwX0_put_1 : List UInt8 := [180, 0, 117, 4, 96, 181, 0, 117, 132, 2, 248, 167, 255, 226, 177]
abbrev dktX0_put_1 : List UInt8 := dkwX0_put_1 ++ []
def dkwX0_put_0 : List UInt8 := [16, 24, 61, 28, 155, 0, 32, 42, 180, 0, 46, 42, 180, 0, 117, 27, 28, 122, 145, 84, 42, 89]
abbrev dktX0_put_0 : List UInt8 := dkwX0_put_0 ++ dktX0_put_1
theorem dksX0_put_0 : cX0_put.data.toList.drop 0 = dktX0_put_0 := by decide +kernel
theorem dksX0_put_1 : cX0_put.data.toList.drop 22 = dktX0_put_1 := dk_seg dksX0_put_0 22 rfl rfl
theorem dX0_put_0 : decode cX0_put 0 = .ok (.bipush 24, 2) := dk_16 24 (dk_at dksX0_put_0 0 rfl rfl)
theorem dX0_put_2 : decode cX0_put 2 = .ok (.istore_n 2, 1) := dk_61 (dk_at dksX0_put_0 2 rfl rfl)
theorem dX0_put_3 : decode cX0_put 3 = .ok (.iload_n 2, 1) := dk_28 (dk_at dksX0_put_0 3 rfl rfl)
theorem dX0_put_4 : decode cX0_put 4 = .ok (.ifCond .lt 32, 3) := dk_155 0 32 (dk_at dksX0_put_0 4 rfl rfl)
theorem dX0_put_7 : decode cX0_put 7 = .ok (.aload_n 0, 1) := dk_42 (dk_at dksX0_put_0 7 rfl rfl)
theorem dX0_put_8 : decode cX0_put 8 = .ok (.getfield 46, 3) := dk_180 0 46 (dk_at dksX0_put_0 8 rfl rfl)
theorem dX0_put_11 : decode cX0_put 11 = .ok (.aload_n 0, 1) := dk_42 (dk_at dksX0_put_0 11 rfl rfl)
theorem dX0_put_12 : decode cX0_put 12 = .ok (.getfield 117, 3) := dk_180 0 117 (dk_at dksX0_put_0 12 rfl rfl)
theorem dX0_put_15 : decode cX0_put 15 = .ok (.iload_n 1, 1) := dk_27 (dk_at dksX0_put_0 15 rfl rfl)
theorem dX0_put_16 : decode cX0_put 16 = .ok (.iload_n 2, 1) := dk_28 (dk_at dksX0_put_0 16 rfl rfl)
theorem dX0_put_17 : decode cX0_put 17 = .ok (.ishr, 1) := dk_122 (dk_at dksX0_put_0 17 rfl rfl)
theorem dX0_put_18 : decode cX0_put 18 = .ok (.i2b, 1) := dk_145 (dk_at dksX0_put_0 18 rfl rfl)
theorem dX0_put_19 : decode cX0_put 19 = .ok (.bastore, 1) := dk_84 (dk_at dksX0_put_0 19 rfl rfl)
theorem dX0_put_20 : decode cX0_put 20 = .ok (.aload_n 0, 1) := dk_42 (dk_at dksX0_put_0 20 rfl rfl)
theorem dX0_put_21 : decode cX0_put 21 = .ok (.dup, 1) := dk_89 (dk_at dksX0_put_0 21 rfl rfl)
theorem dX0_put_22 : decode cX0_put 22 = .ok (.getfield 117, 3) := dk_180 0 117 (dk_at dksX0_put_1 0 rfl rfl)
theorem dX0_put_25 : decode cX0_put 25 = .ok (.iconst 1, 1) := dk_4 (dk_at dksX0_put_1 3 rfl rfl)
theorem dX0_put_26 : decode cX0_put 26 = .ok (.iadd, 1) := dk_96 (dk_at dksX0_put_1 4 rfl rfl)
theorem dX0_put_27 : decode cX0_put 27 = .ok (.putfield 117, 3) := dk_181 0 117 (dk_at dksX0_put_1 5 rfl rfl)
theorem dX0_put_30 : decode cX0_put 30 = .ok (.iinc 2 (-8), 3) := dk_132 2 248 (dk_at dksX0_put_1 8 rfl rfl)
theorem dX0_put_33 : decode cX0_put 33 = .ok (.goto (-30), 3) := dk_167 255 226 (dk_at dksX0_put_1 11 rfl rfl)
theorem dX0_put_36 : decode cX0_put 36 = .ok (.return_, 1) := dk_177 (dk_at dksX0_put_1 14 rfl rfl)
abbrev cX0_end : ByteArray := prog_1_method_11_code
def yX0_end : MethodName := ⟨RX0, "end", "(I)I"⟩
def dkwX0_end_0 : List UInt8 := [27, 155, 0, 11, 27, 42, 180, 0, 117, 164, 0, 5, 2, 172, 42, 27, 181, 0, 117, 27, 172]
abbrev dktX0_end_0 : List UInt8 := dkwX0_end_0 ++ []
theorem dksX0_end_0 : cX0_end.data.toList.drop 0 = dktX0_end_0 := by decide +kernel
theorem dX0_end_0 : decode cX0_end 0 = .ok (.iload_n 1, 1) := dk_27 (dk_at dksX0_end_0 0 rfl rfl)
theorem dX0_end_1 : decode cX0_end 1 = .ok (.ifCond .lt 11, 3) := dk_155 0 11 (dk_at dksX0_end_0 1 rfl rfl)
theorem dX0_end_4 : decode cX0_end 4 = .ok (.iload_n 1, 1) := dk_27 (dk_at dksX0_end_0 4 rfl rfl)
theorem dX0_end_5 : decode cX0_end 5 = .ok (.aload_n 0, 1) := dk_42 (dk_at dksX0_end_0 5 rfl rfl)
theorem dX0_end_6 : decode cX0_end 6 = .ok (.getfield 117, 3) := dk_180 0 117 (dk_at dksX0_end_0 6 rfl rfl)
theorem dX0_end_9 : decode cX0_end 9 = .ok (.if_icmp .le 5, 3) := dk_164 0 5 (dk_at dksX0_end_0 9 rfl rfl)
theorem dX0_end_12 : decode cX0_end 12 = .ok (.iconst (-1), 1) := dk_2 (dk_at dksX0_end_0 12 rfl rfl)
theorem dX0_end_13 : decode cX0_end 13 = .ok (.ireturn, 1) := dk_172 (dk_at dksX0_end_0 13 rfl rfl)
theorem dX0_end_14 : decode cX0_end 14 = .ok (.aload_n 0, 1) := dk_42 (dk_at dksX0_end_0 14 rfl rfl)
theorem dX0_end_15 : decode cX0_end 15 = .ok (.iload_n 1, 1) := dk_27 (dk_at dksX0_end_0 15 rfl rfl)
theorem dX0_end_16 : decode cX0_end 16 = .ok (.putfield 117, 3) := dk_181 0 117 (dk_at dksX0_end_0 16 rfl rfl)
theorem dX0_end_19 : decode cX0_end 19 = .ok (.iload_n 1, 1) := dk_27 (dk_at dksX0_end_0 19 rfl rfl)
theorem dX0_end_20 : decode cX0_end 20 = .ok (.ireturn, 1) := dk_172 (dk_at dksX0_end_0 20 rfl rfl)
abbrev cX0_valley : ByteArray := prog_1_method_12_code
def yX0_valley : MethodName := ⟨RX0, "valley", "()I"⟩
def dkwX0_valley_3 : List UInt8 := [78, 42, 3, 181, 0, 117, 45, 191]
abbrev dktX0_valley_3 : List UInt8 := dkwX0_valley_3 ++ []
def dkwX0_valley_2 : List UInt8 := [60, 42, 3, 181, 0, 117, 27, 172, 76, 16, 254, 43, 180, 0, 114, 100, 61, 42, 3, 181, 0, 117, 28, 172]
abbrev dktX0_valley_2 : List UInt8 := dkwX0_valley_2 ++ dktX0_valley_3
def dkwX0_valley_1 : List UInt8 := [42, 180, 0, 10, 182, 0, 131, 42, 3, 181, 0, 135, 42, 3, 181, 0, 138, 42, 180, 0, 10, 182, 0, 103]
abbrev dktX0_valley_1 : List UInt8 := dkwX0_valley_1 ++ dktX0_valley_2
def dkwX0_valley_0 : List UInt8 := [42, 187, 0, 123, 89, 42, 178, 0, 60, 16, 40, 183, 0, 125, 182, 0, 128, 181, 0, 10, 42, 180, 0, 19]
abbrev dktX0_valley_0 : List UInt8 := dkwX0_valley_0 ++ dktX0_valley_1
theorem dksX0_valley_0 : cX0_valley.data.toList.drop 0 = dktX0_valley_0 := by decide +kernel
theorem dksX0_valley_1 : cX0_valley.data.toList.drop 24 = dktX0_valley_1 := dk_seg dksX0_valley_0 24 rfl rfl
theorem dksX0_valley_2 : cX0_valley.data.toList.drop 48 = dktX0_valley_2 := dk_seg dksX0_valley_1 24 rfl rfl
theorem dksX0_valley_3 : cX0_valley.data.toList.drop 72 = dktX0_valley_3 := dk_seg dksX0_valley_2 24 rfl rfl
theorem dX0_valley_0 : decode cX0_valley 0 = .ok (.aload_n 0, 1) := dk_42 (dk_at dksX0_valley_0 0 rfl rfl)
theorem dX0_valley_1 : decode cX0_valley 1 = .ok (.new 123, 3) := dk_187 0 123 (dk_at dksX0_valley_0 1 rfl rfl)
theorem dX0_valley_4 : decode cX0_valley 4 = .ok (.dup, 1) := dk_89 (dk_at dksX0_valley_0 4 rfl rfl)
theorem dX0_valley_5 : decode cX0_valley 5 = .ok (.aload_n 0, 1) := dk_42 (dk_at dksX0_valley_0 5 rfl rfl)
theorem dX0_valley_6 : decode cX0_valley 6 = .ok (.getstatic 60, 3) := dk_178 0 60 (dk_at dksX0_valley_0 6 rfl rfl)
theorem dX0_valley_9 : decode cX0_valley 9 = .ok (.bipush 40, 2) := dk_16 40 (dk_at dksX0_valley_0 9 rfl rfl)
theorem dX0_valley_11 : decode cX0_valley 11 = .ok (.invokespecial 125, 3) := dk_183 0 125 (dk_at dksX0_valley_0 11 rfl rfl)
theorem dX0_valley_14 : decode cX0_valley 14 = .ok (.invokevirtual 128, 3) := dk_182 0 128 (dk_at dksX0_valley_0 14 rfl rfl)
theorem dX0_valley_17 : decode cX0_valley 17 = .ok (.putfield 10, 3) := dk_181 0 10 (dk_at dksX0_valley_0 17 rfl rfl)
theorem dX0_valley_20 : decode cX0_valley 20 = .ok (.aload_n 0, 1) := dk_42 (dk_at dksX0_valley_0 20 rfl rfl)
theorem dX0_valley_21 : decode cX0_valley 21 = .ok (.getfield 19, 3) := dk_180 0 19 (dk_at dksX0_valley_0 21 rfl rfl)
theorem dX0_valley_24 : decode cX0_valley 24 = .ok (.aload_n 0, 1) := dk_42 (dk_at dksX0_valley_1 0 rfl rfl)
theorem dX0_valley_25 : decode cX0_valley 25 = .ok (.getfield 10, 3) := dk_180 0 10 (dk_at dksX0_valley_1 1 rfl rfl)
theorem dX0_valley_28 : decode cX0_valley 28 = .ok (.invokevirtual 131, 3) := dk_182 0 131 (dk_at dksX0_valley_1 4 rfl rfl)
theorem dX0_valley_31 : decode cX0_valley 31 = .ok (.aload_n 0, 1) := dk_42 (dk_at dksX0_valley_1 7 rfl rfl)
theorem dX0_valley_32 : decode cX0_valley 32 = .ok (.iconst 0, 1) := dk_3 (dk_at dksX0_valley_1 8 rfl rfl)
theorem dX0_valley_33 : decode cX0_valley 33 = .ok (.putfield 135, 3) := dk_181 0 135 (dk_at dksX0_valley_1 9 rfl rfl)
theorem dX0_valley_36 : decode cX0_valley 36 = .ok (.aload_n 0, 1) := dk_42 (dk_at dksX0_valley_1 12 rfl rfl)
theorem dX0_valley_37 : decode cX0_valley 37 = .ok (.iconst 0, 1) := dk_3 (dk_at dksX0_valley_1 13 rfl rfl)
theorem dX0_valley_38 : decode cX0_valley 38 = .ok (.putfield 138, 3) := dk_181 0 138 (dk_at dksX0_valley_1 14 rfl rfl)
theorem dX0_valley_41 : decode cX0_valley 41 = .ok (.aload_n 0, 1) := dk_42 (dk_at dksX0_valley_1 17 rfl rfl)
theorem dX0_valley_42 : decode cX0_valley 42 = .ok (.getfield 10, 3) := dk_180 0 10 (dk_at dksX0_valley_1 18 rfl rfl)
theorem dX0_valley_45 : decode cX0_valley 45 = .ok (.invokevirtual 103, 3) := dk_182 0 103 (dk_at dksX0_valley_1 21 rfl rfl)
theorem dX0_valley_48 : decode cX0_valley 48 = .ok (.istore_n 1, 1) := dk_60 (dk_at dksX0_valley_2 0 rfl rfl)
theorem dX0_valley_49 : decode cX0_valley 49 = .ok (.aload_n 0, 1) := dk_42 (dk_at dksX0_valley_2 1 rfl rfl)
theorem dX0_valley_50 : decode cX0_valley 50 = .ok (.iconst 0, 1) := dk_3 (dk_at dksX0_valley_2 2 rfl rfl)
theorem dX0_valley_51 : decode cX0_valley 51 = .ok (.putfield 117, 3) := dk_181 0 117 (dk_at dksX0_valley_2 3 rfl rfl)
theorem dX0_valley_54 : decode cX0_valley 54 = .ok (.iload_n 1, 1) := dk_27 (dk_at dksX0_valley_2 6 rfl rfl)
theorem dX0_valley_55 : decode cX0_valley 55 = .ok (.ireturn, 1) := dk_172 (dk_at dksX0_valley_2 7 rfl rfl)
theorem dX0_valley_56 : decode cX0_valley 56 = .ok (.astore_n 1, 1) := dk_76 (dk_at dksX0_valley_2 8 rfl rfl)
theorem dX0_valley_57 : decode cX0_valley 57 = .ok (.bipush (-2), 2) := dk_16 254 (dk_at dksX0_valley_2 9 rfl rfl)
theorem dX0_valley_59 : decode cX0_valley 59 = .ok (.aload_n 1, 1) := dk_43 (dk_at dksX0_valley_2 11 rfl rfl)
theorem dX0_valley_60 : decode cX0_valley 60 = .ok (.getfield 114, 3) := dk_180 0 114 (dk_at dksX0_valley_2 12 rfl rfl)
theorem dX0_valley_63 : decode cX0_valley 63 = .ok (.isub, 1) := dk_100 (dk_at dksX0_valley_2 15 rfl rfl)
theorem dX0_valley_64 : decode cX0_valley 64 = .ok (.istore_n 2, 1) := dk_61 (dk_at dksX0_valley_2 16 rfl rfl)
theorem dX0_valley_65 : decode cX0_valley 65 = .ok (.aload_n 0, 1) := dk_42 (dk_at dksX0_valley_2 17 rfl rfl)
theorem dX0_valley_66 : decode cX0_valley 66 = .ok (.iconst 0, 1) := dk_3 (dk_at dksX0_valley_2 18 rfl rfl)
theorem dX0_valley_67 : decode cX0_valley 67 = .ok (.putfield 117, 3) := dk_181 0 117 (dk_at dksX0_valley_2 19 rfl rfl)
theorem dX0_valley_70 : decode cX0_valley 70 = .ok (.iload_n 2, 1) := dk_28 (dk_at dksX0_valley_2 22 rfl rfl)
theorem dX0_valley_71 : decode cX0_valley 71 = .ok (.ireturn, 1) := dk_172 (dk_at dksX0_valley_2 23 rfl rfl)
theorem dX0_valley_72 : decode cX0_valley 72 = .ok (.astore_n 3, 1) := dk_78 (dk_at dksX0_valley_3 0 rfl rfl)
theorem dX0_valley_73 : decode cX0_valley 73 = .ok (.aload_n 0, 1) := dk_42 (dk_at dksX0_valley_3 1 rfl rfl)
theorem dX0_valley_74 : decode cX0_valley 74 = .ok (.iconst 0, 1) := dk_3 (dk_at dksX0_valley_3 2 rfl rfl)
theorem dX0_valley_75 : decode cX0_valley 75 = .ok (.putfield 117, 3) := dk_181 0 117 (dk_at dksX0_valley_3 3 rfl rfl)
theorem dX0_valley_78 : decode cX0_valley 78 = .ok (.aload_n 3, 1) := dk_45 (dk_at dksX0_valley_3 6 rfl rfl)
theorem dX0_valley_79 : decode cX0_valley 79 = .ok (.athrow, 1) := dk_191 (dk_at dksX0_valley_3 7 rfl rfl)
abbrev cX0_in : ByteArray := prog_1_method_1_code
def yX0_in : MethodName := ⟨RX0, "in", "(JJJ)Z"⟩
def dkwX0_in_0 : List UInt8 := [30, 32, 148, 155, 0, 14, 30, 22, 4, 148, 157, 0, 7, 4, 167, 0, 4, 3, 172]
abbrev dktX0_in_0 : List UInt8 := dkwX0_in_0 ++ []
theorem dksX0_in_0 : cX0_in.data.toList.drop 0 = dktX0_in_0 := by decide +kernel
theorem dX0_in_0 : decode cX0_in 0 = .ok (.lload_n 0, 1) := dk_30 (dk_at dksX0_in_0 0 rfl rfl)
theorem dX0_in_1 : decode cX0_in 1 = .ok (.lload_n 2, 1) := dk_32 (dk_at dksX0_in_0 1 rfl rfl)
theorem dX0_in_2 : decode cX0_in 2 = .ok (.lcmp, 1) := dk_148 (dk_at dksX0_in_0 2 rfl rfl)
theorem dX0_in_3 : decode cX0_in 3 = .ok (.ifCond .lt 14, 3) := dk_155 0 14 (dk_at dksX0_in_0 3 rfl rfl)
theorem dX0_in_6 : decode cX0_in 6 = .ok (.lload_n 0, 1) := dk_30 (dk_at dksX0_in_0 6 rfl rfl)
theorem dX0_in_7 : decode cX0_in 7 = .ok (.lload 4, 2) := dk_22 4 (dk_at dksX0_in_0 7 rfl rfl)
theorem dX0_in_9 : decode cX0_in 9 = .ok (.lcmp, 1) := dk_148 (dk_at dksX0_in_0 9 rfl rfl)
theorem dX0_in_10 : decode cX0_in 10 = .ok (.ifCond .gt 7, 3) := dk_157 0 7 (dk_at dksX0_in_0 10 rfl rfl)
theorem dX0_in_13 : decode cX0_in 13 = .ok (.iconst 1, 1) := dk_4 (dk_at dksX0_in_0 13 rfl rfl)
theorem dX0_in_14 : decode cX0_in 14 = .ok (.goto 4, 3) := dk_167 0 4 (dk_at dksX0_in_0 14 rfl rfl)
theorem dX0_in_17 : decode cX0_in 17 = .ok (.iconst 0, 1) := dk_3 (dk_at dksX0_in_0 17 rfl rfl)
theorem dX0_in_18 : decode cX0_in 18 = .ok (.ireturn, 1) := dk_172 (dk_at dksX0_in_0 18 rfl rfl)
abbrev cX0_fails : ByteArray := prog_1_method_8_code
def yX0_fails : MethodName := ⟨RX0, "fails", "(II)LSweptSnow$Wrong;"⟩
def dkwX0_fails_0 : List UInt8 := [42, 180, 0, 42, 4, 16, 8, 28, 104, 96, 27, 96, 181, 0, 114, 42, 180, 0, 42, 176]
abbrev dktX0_fails_0 : List UInt8 := dkwX0_fails_0 ++ []
theorem dksX0_fails_0 : cX0_fails.data.toList.drop 0 = dktX0_fails_0 := by decide +kernel
theorem dX0_fails_0 : decode cX0_fails 0 = .ok (.aload_n 0, 1) := dk_42 (dk_at dksX0_fails_0 0 rfl rfl)
theorem dX0_fails_1 : decode cX0_fails 1 = .ok (.getfield 42, 3) := dk_180 0 42 (dk_at dksX0_fails_0 1 rfl rfl)
theorem dX0_fails_4 : decode cX0_fails 4 = .ok (.iconst 1, 1) := dk_4 (dk_at dksX0_fails_0 4 rfl rfl)
theorem dX0_fails_5 : decode cX0_fails 5 = .ok (.bipush 8, 2) := dk_16 8 (dk_at dksX0_fails_0 5 rfl rfl)
theorem dX0_fails_7 : decode cX0_fails 7 = .ok (.iload_n 2, 1) := dk_28 (dk_at dksX0_fails_0 7 rfl rfl)
theorem dX0_fails_8 : decode cX0_fails 8 = .ok (.imul, 1) := dk_104 (dk_at dksX0_fails_0 8 rfl rfl)
theorem dX0_fails_9 : decode cX0_fails 9 = .ok (.iadd, 1) := dk_96 (dk_at dksX0_fails_0 9 rfl rfl)
theorem dX0_fails_10 : decode cX0_fails 10 = .ok (.iload_n 1, 1) := dk_27 (dk_at dksX0_fails_0 10 rfl rfl)
theorem dX0_fails_11 : decode cX0_fails 11 = .ok (.iadd, 1) := dk_96 (dk_at dksX0_fails_0 11 rfl rfl)
theorem dX0_fails_12 : decode cX0_fails 12 = .ok (.putfield 114, 3) := dk_181 0 114 (dk_at dksX0_fails_0 12 rfl rfl)
theorem dX0_fails_15 : decode cX0_fails 15 = .ok (.aload_n 0, 1) := dk_42 (dk_at dksX0_fails_0 15 rfl rfl)
theorem dX0_fails_16 : decode cX0_fails 16 = .ok (.getfield 42, 3) := dk_180 0 42 (dk_at dksX0_fails_0 16 rfl rfl)
theorem dX0_fails_19 : decode cX0_fails 19 = .ok (.areturn, 1) := dk_176 (dk_at dksX0_fails_0 19 rfl rfl)
abbrev cX0_rule : ByteArray := prog_1_method_13_code
def yX0_rule : MethodName := ⟨RX0, "rule", "()I"⟩
def dkwX0_rule_2 : List UInt8 := [3, 181, 0, 117, 28, 172, 78, 42, 3, 181, 0, 117, 45, 191]
abbrev dktX0_rule_2 : List UInt8 := dkwX0_rule_2 ++ []
def dkwX0_rule_1 : List UInt8 := [183, 0, 125, 182, 0, 144, 60, 42, 3, 181, 0, 117, 27, 172, 76, 16, 254, 43, 180, 0, 114, 100, 61, 42]
abbrev dktX0_rule_1 : List UInt8 := dkwX0_rule_1 ++ dktX0_rule_2
def dkwX0_rule_0 : List UInt8 := [42, 180, 0, 31, 182, 0, 141, 16, 6, 160, 0, 5, 2, 172, 187, 0, 123, 89, 42, 178, 0, 60, 16, 12]
abbrev dktX0_rule_0 : List UInt8 := dkwX0_rule_0 ++ dktX0_rule_1
theorem dksX0_rule_0 : cX0_rule.data.toList.drop 0 = dktX0_rule_0 := by decide +kernel
theorem dksX0_rule_1 : cX0_rule.data.toList.drop 24 = dktX0_rule_1 := dk_seg dksX0_rule_0 24 rfl rfl
theorem dksX0_rule_2 : cX0_rule.data.toList.drop 48 = dktX0_rule_2 := dk_seg dksX0_rule_1 24 rfl rfl
theorem dX0_rule_0 : decode cX0_rule 0 = .ok (.aload_n 0, 1) := dk_42 (dk_at dksX0_rule_0 0 rfl rfl)
theorem dX0_rule_1 : decode cX0_rule 1 = .ok (.getfield 31, 3) := dk_180 0 31 (dk_at dksX0_rule_0 1 rfl rfl)
theorem dX0_rule_4 : decode cX0_rule 4 = .ok (.invokevirtual 141, 3) := dk_182 0 141 (dk_at dksX0_rule_0 4 rfl rfl)
theorem dX0_rule_7 : decode cX0_rule 7 = .ok (.bipush 6, 2) := dk_16 6 (dk_at dksX0_rule_0 7 rfl rfl)
theorem dX0_rule_9 : decode cX0_rule 9 = .ok (.if_icmp .ne 5, 3) := dk_160 0 5 (dk_at dksX0_rule_0 9 rfl rfl)
theorem dX0_rule_12 : decode cX0_rule 12 = .ok (.iconst (-1), 1) := dk_2 (dk_at dksX0_rule_0 12 rfl rfl)
theorem dX0_rule_13 : decode cX0_rule 13 = .ok (.ireturn, 1) := dk_172 (dk_at dksX0_rule_0 13 rfl rfl)
theorem dX0_rule_14 : decode cX0_rule 14 = .ok (.new 123, 3) := dk_187 0 123 (dk_at dksX0_rule_0 14 rfl rfl)
theorem dX0_rule_17 : decode cX0_rule 17 = .ok (.dup, 1) := dk_89 (dk_at dksX0_rule_0 17 rfl rfl)
theorem dX0_rule_18 : decode cX0_rule 18 = .ok (.aload_n 0, 1) := dk_42 (dk_at dksX0_rule_0 18 rfl rfl)
theorem dX0_rule_19 : decode cX0_rule 19 = .ok (.getstatic 60, 3) := dk_178 0 60 (dk_at dksX0_rule_0 19 rfl rfl)
theorem dX0_rule_22 : decode cX0_rule 22 = .ok (.bipush 12, 2) := dk_16 12 (dk_at dksX0_rule_0 22 rfl rfl)
theorem dX0_rule_24 : decode cX0_rule 24 = .ok (.invokespecial 125, 3) := dk_183 0 125 (dk_at dksX0_rule_1 0 rfl rfl)
theorem dX0_rule_27 : decode cX0_rule 27 = .ok (.invokevirtual 144, 3) := dk_182 0 144 (dk_at dksX0_rule_1 3 rfl rfl)
theorem dX0_rule_30 : decode cX0_rule 30 = .ok (.istore_n 1, 1) := dk_60 (dk_at dksX0_rule_1 6 rfl rfl)
theorem dX0_rule_31 : decode cX0_rule 31 = .ok (.aload_n 0, 1) := dk_42 (dk_at dksX0_rule_1 7 rfl rfl)
theorem dX0_rule_32 : decode cX0_rule 32 = .ok (.iconst 0, 1) := dk_3 (dk_at dksX0_rule_1 8 rfl rfl)
theorem dX0_rule_33 : decode cX0_rule 33 = .ok (.putfield 117, 3) := dk_181 0 117 (dk_at dksX0_rule_1 9 rfl rfl)
theorem dX0_rule_36 : decode cX0_rule 36 = .ok (.iload_n 1, 1) := dk_27 (dk_at dksX0_rule_1 12 rfl rfl)
theorem dX0_rule_37 : decode cX0_rule 37 = .ok (.ireturn, 1) := dk_172 (dk_at dksX0_rule_1 13 rfl rfl)
theorem dX0_rule_38 : decode cX0_rule 38 = .ok (.astore_n 1, 1) := dk_76 (dk_at dksX0_rule_1 14 rfl rfl)
theorem dX0_rule_39 : decode cX0_rule 39 = .ok (.bipush (-2), 2) := dk_16 254 (dk_at dksX0_rule_1 15 rfl rfl)
theorem dX0_rule_41 : decode cX0_rule 41 = .ok (.aload_n 1, 1) := dk_43 (dk_at dksX0_rule_1 17 rfl rfl)
theorem dX0_rule_42 : decode cX0_rule 42 = .ok (.getfield 114, 3) := dk_180 0 114 (dk_at dksX0_rule_1 18 rfl rfl)
theorem dX0_rule_45 : decode cX0_rule 45 = .ok (.isub, 1) := dk_100 (dk_at dksX0_rule_1 21 rfl rfl)
theorem dX0_rule_46 : decode cX0_rule 46 = .ok (.istore_n 2, 1) := dk_61 (dk_at dksX0_rule_1 22 rfl rfl)
theorem dX0_rule_47 : decode cX0_rule 47 = .ok (.aload_n 0, 1) := dk_42 (dk_at dksX0_rule_1 23 rfl rfl)
theorem dX0_rule_48 : decode cX0_rule 48 = .ok (.iconst 0, 1) := dk_3 (dk_at dksX0_rule_2 0 rfl rfl)
theorem dX0_rule_49 : decode cX0_rule 49 = .ok (.putfield 117, 3) := dk_181 0 117 (dk_at dksX0_rule_2 1 rfl rfl)
theorem dX0_rule_52 : decode cX0_rule 52 = .ok (.iload_n 2, 1) := dk_28 (dk_at dksX0_rule_2 4 rfl rfl)
theorem dX0_rule_53 : decode cX0_rule 53 = .ok (.ireturn, 1) := dk_172 (dk_at dksX0_rule_2 5 rfl rfl)
theorem dX0_rule_54 : decode cX0_rule 54 = .ok (.astore_n 3, 1) := dk_78 (dk_at dksX0_rule_2 6 rfl rfl)
theorem dX0_rule_55 : decode cX0_rule 55 = .ok (.aload_n 0, 1) := dk_42 (dk_at dksX0_rule_2 7 rfl rfl)
theorem dX0_rule_56 : decode cX0_rule 56 = .ok (.iconst 0, 1) := dk_3 (dk_at dksX0_rule_2 8 rfl rfl)
theorem dX0_rule_57 : decode cX0_rule 57 = .ok (.putfield 117, 3) := dk_181 0 117 (dk_at dksX0_rule_2 9 rfl rfl)
theorem dX0_rule_60 : decode cX0_rule 60 = .ok (.aload_n 3, 1) := dk_45 (dk_at dksX0_rule_2 12 rfl rfl)
theorem dX0_rule_61 : decode cX0_rule 61 = .ok (.athrow, 1) := dk_191 (dk_at dksX0_rule_2 13 rfl rfl)
abbrev cX0_force : ByteArray := prog_1_method_14_code
def yX0_force : MethodName := ⟨RX0, "force", "(I)I"⟩
def dkwX0_force_1 : List UInt8 := [42, 180, 0, 35, 61, 42, 27, 181, 0, 35, 28, 172]
abbrev dktX0_force_1 : List UInt8 := dkwX0_force_1 ++ []
def dkwX0_force_0 : List UInt8 := [27, 133, 20, 0, 147, 42, 180, 0, 31, 182, 0, 141, 4, 100, 133, 184, 0, 107, 154, 0, 6, 16, 254, 172]
abbrev dktX0_force_0 : List UInt8 := dkwX0_force_0 ++ dktX0_force_1
theorem dksX0_force_0 : cX0_force.data.toList.drop 0 = dktX0_force_0 := by decide +kernel
theorem dksX0_force_1 : cX0_force.data.toList.drop 24 = dktX0_force_1 := dk_seg dksX0_force_0 24 rfl rfl
theorem dX0_force_0 : decode cX0_force 0 = .ok (.iload_n 1, 1) := dk_27 (dk_at dksX0_force_0 0 rfl rfl)
theorem dX0_force_1 : decode cX0_force 1 = .ok (.i2l, 1) := dk_133 (dk_at dksX0_force_0 1 rfl rfl)
theorem dX0_force_2 : decode cX0_force 2 = .ok (.ldc2_w 147, 3) := dk_20 0 147 (dk_at dksX0_force_0 2 rfl rfl)
theorem dX0_force_5 : decode cX0_force 5 = .ok (.aload_n 0, 1) := dk_42 (dk_at dksX0_force_0 5 rfl rfl)
theorem dX0_force_6 : decode cX0_force 6 = .ok (.getfield 31, 3) := dk_180 0 31 (dk_at dksX0_force_0 6 rfl rfl)
theorem dX0_force_9 : decode cX0_force 9 = .ok (.invokevirtual 141, 3) := dk_182 0 141 (dk_at dksX0_force_0 9 rfl rfl)
theorem dX0_force_12 : decode cX0_force 12 = .ok (.iconst 1, 1) := dk_4 (dk_at dksX0_force_0 12 rfl rfl)
theorem dX0_force_13 : decode cX0_force 13 = .ok (.isub, 1) := dk_100 (dk_at dksX0_force_0 13 rfl rfl)
theorem dX0_force_14 : decode cX0_force 14 = .ok (.i2l, 1) := dk_133 (dk_at dksX0_force_0 14 rfl rfl)
theorem dX0_force_15 : decode cX0_force 15 = .ok (.invokestatic 107, 3) := dk_184 0 107 (dk_at dksX0_force_0 15 rfl rfl)
theorem dX0_force_18 : decode cX0_force 18 = .ok (.ifCond .ne 6, 3) := dk_154 0 6 (dk_at dksX0_force_0 18 rfl rfl)
theorem dX0_force_21 : decode cX0_force 21 = .ok (.bipush (-2), 2) := dk_16 254 (dk_at dksX0_force_0 21 rfl rfl)
theorem dX0_force_23 : decode cX0_force 23 = .ok (.ireturn, 1) := dk_172 (dk_at dksX0_force_0 23 rfl rfl)
theorem dX0_force_24 : decode cX0_force 24 = .ok (.aload_n 0, 1) := dk_42 (dk_at dksX0_force_1 0 rfl rfl)
theorem dX0_force_25 : decode cX0_force 25 = .ok (.getfield 35, 3) := dk_180 0 35 (dk_at dksX0_force_1 1 rfl rfl)
theorem dX0_force_28 : decode cX0_force 28 = .ok (.istore_n 2, 1) := dk_61 (dk_at dksX0_force_1 4 rfl rfl)
theorem dX0_force_29 : decode cX0_force 29 = .ok (.aload_n 0, 1) := dk_42 (dk_at dksX0_force_1 5 rfl rfl)
theorem dX0_force_30 : decode cX0_force 30 = .ok (.iload_n 1, 1) := dk_27 (dk_at dksX0_force_1 6 rfl rfl)
theorem dX0_force_31 : decode cX0_force 31 = .ok (.putfield 35, 3) := dk_181 0 35 (dk_at dksX0_force_1 7 rfl rfl)
theorem dX0_force_34 : decode cX0_force 34 = .ok (.iload_n 2, 1) := dk_28 (dk_at dksX0_force_1 10 rfl rfl)
theorem dX0_force_35 : decode cX0_force 35 = .ok (.ireturn, 1) := dk_172 (dk_at dksX0_force_1 11 rfl rfl)
abbrev cX0_step : ByteArray := prog_1_method_15_code
def yX0_step : MethodName := ⟨RX0, "step", "(II)I"⟩
def dkwX0_step_6 : List UInt8 := [172, 16, 254, 172]
abbrev dktX0_step_6 : List UInt8 := dkwX0_step_6 ++ []
def dkwX0_step_5 : List UInt8 := [27, 46, 172, 42, 180, 0, 10, 42, 180, 0, 19, 180, 0, 176, 182, 0, 179, 27, 184, 0, 166, 184, 0, 159]
abbrev dktX0_step_5 : List UInt8 := dkwX0_step_5 ++ dktX0_step_6
def dkwX0_step_4 : List UInt8 := [184, 0, 166, 184, 0, 159, 172, 42, 180, 0, 19, 180, 0, 170, 27, 46, 172, 42, 180, 0, 10, 180, 0, 173]
abbrev dktX0_step_4 : List UInt8 := dkwX0_step_4 ++ dktX0_step_5
def dkwX0_step_3 : List UInt8 := [180, 0, 156, 161, 0, 7, 4, 167, 0, 4, 3, 184, 0, 159, 172, 42, 180, 0, 19, 180, 0, 163, 27]
abbrev dktX0_step_3 : List UInt8 := dkwX0_step_3 ++ dktX0_step_4
def dkwX0_step_2 : List UInt8 := [42, 180, 0, 19, 180, 0, 153, 27, 46, 172, 42, 180, 0, 19, 180, 0, 153, 27, 46, 42, 180, 0, 10]
abbrev dktX0_step_2 : List UInt8 := dkwX0_step_2 ++ dktX0_step_3
def dkwX0_step_1 : List UInt8 := [170, 0, 0, 0, 0, 0, 0, 135, 0, 0, 0, 0, 0, 0, 0, 5, 0, 0, 0, 40, 0, 0, 0, 50, 0, 0, 0, 78, 0, 0, 0, 93, 0, 0, 0, 103, 0, 0, 0, 113]
abbrev dktX0_step_1 : List UInt8 := dkwX0_step_1 ++ dktX0_step_2
def dkwX0_step_0 : List UInt8 := [42, 27, 182, 0, 149, 154, 0, 6, 16, 254, 172, 28]
abbrev dktX0_step_0 : List UInt8 := dkwX0_step_0 ++ dktX0_step_1
theorem dksX0_step_0 : cX0_step.data.toList.drop 0 = dktX0_step_0 := by decide +kernel
theorem dksX0_step_1 : cX0_step.data.toList.drop 12 = dktX0_step_1 := dk_seg dksX0_step_0 12 rfl rfl
theorem dksX0_step_2 : cX0_step.data.toList.drop 52 = dktX0_step_2 := dk_seg dksX0_step_1 40 rfl rfl
theorem dksX0_step_3 : cX0_step.data.toList.drop 75 = dktX0_step_3 := dk_seg dksX0_step_2 23 rfl rfl
theorem dksX0_step_4 : cX0_step.data.toList.drop 98 = dktX0_step_4 := dk_seg dksX0_step_3 23 rfl rfl
theorem dksX0_step_5 : cX0_step.data.toList.drop 122 = dktX0_step_5 := dk_seg dksX0_step_4 24 rfl rfl
theorem dksX0_step_6 : cX0_step.data.toList.drop 146 = dktX0_step_6 := dk_seg dksX0_step_5 24 rfl rfl
theorem dX0_step_0 : decode cX0_step 0 = .ok (.aload_n 0, 1) := dk_42 (dk_at dksX0_step_0 0 rfl rfl)
theorem dX0_step_1 : decode cX0_step 1 = .ok (.iload_n 1, 1) := dk_27 (dk_at dksX0_step_0 1 rfl rfl)
theorem dX0_step_2 : decode cX0_step 2 = .ok (.invokevirtual 149, 3) := dk_182 0 149 (dk_at dksX0_step_0 2 rfl rfl)
theorem dX0_step_5 : decode cX0_step 5 = .ok (.ifCond .ne 6, 3) := dk_154 0 6 (dk_at dksX0_step_0 5 rfl rfl)
theorem dX0_step_8 : decode cX0_step 8 = .ok (.bipush (-2), 2) := dk_16 254 (dk_at dksX0_step_0 8 rfl rfl)
theorem dX0_step_10 : decode cX0_step 10 = .ok (.ireturn, 1) := dk_172 (dk_at dksX0_step_0 10 rfl rfl)
theorem dX0_step_11 : decode cX0_step 11 = .ok (.iload_n 2, 1) := dk_28 (dk_at dksX0_step_0 11 rfl rfl)
theorem dX0_step_12 : decode cX0_step 12 = .ok (.tableswitch 135 0 5 #[40, 50, 78, 93, 103, 113], 40) := by decide +kernel
theorem dX0_step_52 : decode cX0_step 52 = .ok (.aload_n 0, 1) := dk_42 (dk_at dksX0_step_2 0 rfl rfl)
theorem dX0_step_53 : decode cX0_step 53 = .ok (.getfield 19, 3) := dk_180 0 19 (dk_at dksX0_step_2 1 rfl rfl)
theorem dX0_step_56 : decode cX0_step 56 = .ok (.getfield 153, 3) := dk_180 0 153 (dk_at dksX0_step_2 4 rfl rfl)
theorem dX0_step_59 : decode cX0_step 59 = .ok (.iload_n 1, 1) := dk_27 (dk_at dksX0_step_2 7 rfl rfl)
theorem dX0_step_60 : decode cX0_step 60 = .ok (.iaload, 1) := dk_46 (dk_at dksX0_step_2 8 rfl rfl)
theorem dX0_step_61 : decode cX0_step 61 = .ok (.ireturn, 1) := dk_172 (dk_at dksX0_step_2 9 rfl rfl)
theorem dX0_step_62 : decode cX0_step 62 = .ok (.aload_n 0, 1) := dk_42 (dk_at dksX0_step_2 10 rfl rfl)
theorem dX0_step_63 : decode cX0_step 63 = .ok (.getfield 19, 3) := dk_180 0 19 (dk_at dksX0_step_2 11 rfl rfl)
theorem dX0_step_66 : decode cX0_step 66 = .ok (.getfield 153, 3) := dk_180 0 153 (dk_at dksX0_step_2 14 rfl rfl)
theorem dX0_step_69 : decode cX0_step 69 = .ok (.iload_n 1, 1) := dk_27 (dk_at dksX0_step_2 17 rfl rfl)
theorem dX0_step_70 : decode cX0_step 70 = .ok (.iaload, 1) := dk_46 (dk_at dksX0_step_2 18 rfl rfl)
theorem dX0_step_71 : decode cX0_step 71 = .ok (.aload_n 0, 1) := dk_42 (dk_at dksX0_step_2 19 rfl rfl)
theorem dX0_step_72 : decode cX0_step 72 = .ok (.getfield 10, 3) := dk_180 0 10 (dk_at dksX0_step_2 20 rfl rfl)
theorem dX0_step_75 : decode cX0_step 75 = .ok (.getfield 156, 3) := dk_180 0 156 (dk_at dksX0_step_3 0 rfl rfl)
theorem dX0_step_78 : decode cX0_step 78 = .ok (.if_icmp .lt 7, 3) := dk_161 0 7 (dk_at dksX0_step_3 3 rfl rfl)
theorem dX0_step_81 : decode cX0_step 81 = .ok (.iconst 1, 1) := dk_4 (dk_at dksX0_step_3 6 rfl rfl)
theorem dX0_step_82 : decode cX0_step 82 = .ok (.goto 4, 3) := dk_167 0 4 (dk_at dksX0_step_3 7 rfl rfl)
theorem dX0_step_85 : decode cX0_step 85 = .ok (.iconst 0, 1) := dk_3 (dk_at dksX0_step_3 10 rfl rfl)
theorem dX0_step_86 : decode cX0_step 86 = .ok (.invokestatic 159, 3) := dk_184 0 159 (dk_at dksX0_step_3 11 rfl rfl)
theorem dX0_step_89 : decode cX0_step 89 = .ok (.ireturn, 1) := dk_172 (dk_at dksX0_step_3 14 rfl rfl)
theorem dX0_step_90 : decode cX0_step 90 = .ok (.aload_n 0, 1) := dk_42 (dk_at dksX0_step_3 15 rfl rfl)
theorem dX0_step_91 : decode cX0_step 91 = .ok (.getfield 19, 3) := dk_180 0 19 (dk_at dksX0_step_3 16 rfl rfl)
theorem dX0_step_94 : decode cX0_step 94 = .ok (.getfield 163, 3) := dk_180 0 163 (dk_at dksX0_step_3 19 rfl rfl)
theorem dX0_step_97 : decode cX0_step 97 = .ok (.iload_n 1, 1) := dk_27 (dk_at dksX0_step_3 22 rfl rfl)
theorem dX0_step_98 : decode cX0_step 98 = .ok (.invokestatic 166, 3) := dk_184 0 166 (dk_at dksX0_step_4 0 rfl rfl)
theorem dX0_step_101 : decode cX0_step 101 = .ok (.invokestatic 159, 3) := dk_184 0 159 (dk_at dksX0_step_4 3 rfl rfl)
theorem dX0_step_104 : decode cX0_step 104 = .ok (.ireturn, 1) := dk_172 (dk_at dksX0_step_4 6 rfl rfl)
theorem dX0_step_105 : decode cX0_step 105 = .ok (.aload_n 0, 1) := dk_42 (dk_at dksX0_step_4 7 rfl rfl)
theorem dX0_step_106 : decode cX0_step 106 = .ok (.getfield 19, 3) := dk_180 0 19 (dk_at dksX0_step_4 8 rfl rfl)
theorem dX0_step_109 : decode cX0_step 109 = .ok (.getfield 170, 3) := dk_180 0 170 (dk_at dksX0_step_4 11 rfl rfl)
theorem dX0_step_112 : decode cX0_step 112 = .ok (.iload_n 1, 1) := dk_27 (dk_at dksX0_step_4 14 rfl rfl)
theorem dX0_step_113 : decode cX0_step 113 = .ok (.iaload, 1) := dk_46 (dk_at dksX0_step_4 15 rfl rfl)
theorem dX0_step_114 : decode cX0_step 114 = .ok (.ireturn, 1) := dk_172 (dk_at dksX0_step_4 16 rfl rfl)
theorem dX0_step_115 : decode cX0_step 115 = .ok (.aload_n 0, 1) := dk_42 (dk_at dksX0_step_4 17 rfl rfl)
theorem dX0_step_116 : decode cX0_step 116 = .ok (.getfield 10, 3) := dk_180 0 10 (dk_at dksX0_step_4 18 rfl rfl)
theorem dX0_step_119 : decode cX0_step 119 = .ok (.getfield 173, 3) := dk_180 0 173 (dk_at dksX0_step_4 21 rfl rfl)
theorem dX0_step_122 : decode cX0_step 122 = .ok (.iload_n 1, 1) := dk_27 (dk_at dksX0_step_5 0 rfl rfl)
theorem dX0_step_123 : decode cX0_step 123 = .ok (.iaload, 1) := dk_46 (dk_at dksX0_step_5 1 rfl rfl)
theorem dX0_step_124 : decode cX0_step 124 = .ok (.ireturn, 1) := dk_172 (dk_at dksX0_step_5 2 rfl rfl)
theorem dX0_step_125 : decode cX0_step 125 = .ok (.aload_n 0, 1) := dk_42 (dk_at dksX0_step_5 3 rfl rfl)
theorem dX0_step_126 : decode cX0_step 126 = .ok (.getfield 10, 3) := dk_180 0 10 (dk_at dksX0_step_5 4 rfl rfl)
theorem dX0_step_129 : decode cX0_step 129 = .ok (.aload_n 0, 1) := dk_42 (dk_at dksX0_step_5 7 rfl rfl)
theorem dX0_step_130 : decode cX0_step 130 = .ok (.getfield 19, 3) := dk_180 0 19 (dk_at dksX0_step_5 8 rfl rfl)
theorem dX0_step_133 : decode cX0_step 133 = .ok (.getfield 176, 3) := dk_180 0 176 (dk_at dksX0_step_5 11 rfl rfl)
theorem dX0_step_136 : decode cX0_step 136 = .ok (.invokevirtual 179, 3) := dk_182 0 179 (dk_at dksX0_step_5 14 rfl rfl)
theorem dX0_step_139 : decode cX0_step 139 = .ok (.iload_n 1, 1) := dk_27 (dk_at dksX0_step_5 17 rfl rfl)
theorem dX0_step_140 : decode cX0_step 140 = .ok (.invokestatic 166, 3) := dk_184 0 166 (dk_at dksX0_step_5 18 rfl rfl)
theorem dX0_step_143 : decode cX0_step 143 = .ok (.invokestatic 159, 3) := dk_184 0 159 (dk_at dksX0_step_5 21 rfl rfl)
theorem dX0_step_146 : decode cX0_step 146 = .ok (.ireturn, 1) := dk_172 (dk_at dksX0_step_6 0 rfl rfl)
theorem dX0_step_147 : decode cX0_step 147 = .ok (.bipush (-2), 2) := dk_16 254 (dk_at dksX0_step_6 1 rfl rfl)
theorem dX0_step_149 : decode cX0_step 149 = .ok (.ireturn, 1) := dk_172 (dk_at dksX0_step_6 3 rfl rfl)
abbrev cX0_isStep : ByteArray := prog_1_method_6_code
def yX0_isStep : MethodName := ⟨RX0, "isStep", "(I)Z"⟩
def dkwX0_isStep_0 : List UInt8 := [27, 133, 9, 42, 180, 0, 10, 182, 0, 103, 4, 100, 133, 184, 0, 107, 172]
abbrev dktX0_isStep_0 : List UInt8 := dkwX0_isStep_0 ++ []
theorem dksX0_isStep_0 : cX0_isStep.data.toList.drop 0 = dktX0_isStep_0 := by decide +kernel
theorem dX0_isStep_0 : decode cX0_isStep 0 = .ok (.iload_n 1, 1) := dk_27 (dk_at dksX0_isStep_0 0 rfl rfl)
theorem dX0_isStep_1 : decode cX0_isStep 1 = .ok (.i2l, 1) := dk_133 (dk_at dksX0_isStep_0 1 rfl rfl)
theorem dX0_isStep_2 : decode cX0_isStep 2 = .ok (.lconst 0, 1) := dk_9 (dk_at dksX0_isStep_0 2 rfl rfl)
theorem dX0_isStep_3 : decode cX0_isStep 3 = .ok (.aload_n 0, 1) := dk_42 (dk_at dksX0_isStep_0 3 rfl rfl)
theorem dX0_isStep_4 : decode cX0_isStep 4 = .ok (.getfield 10, 3) := dk_180 0 10 (dk_at dksX0_isStep_0 4 rfl rfl)
theorem dX0_isStep_7 : decode cX0_isStep 7 = .ok (.invokevirtual 103, 3) := dk_182 0 103 (dk_at dksX0_isStep_0 7 rfl rfl)
theorem dX0_isStep_10 : decode cX0_isStep 10 = .ok (.iconst 1, 1) := dk_4 (dk_at dksX0_isStep_0 10 rfl rfl)
theorem dX0_isStep_11 : decode cX0_isStep 11 = .ok (.isub, 1) := dk_100 (dk_at dksX0_isStep_0 11 rfl rfl)
theorem dX0_isStep_12 : decode cX0_isStep 12 = .ok (.i2l, 1) := dk_133 (dk_at dksX0_isStep_0 12 rfl rfl)
theorem dX0_isStep_13 : decode cX0_isStep 13 = .ok (.invokestatic 107, 3) := dk_184 0 107 (dk_at dksX0_isStep_0 13 rfl rfl)
theorem dX0_isStep_16 : decode cX0_isStep 16 = .ok (.ireturn, 1) := dk_172 (dk_at dksX0_isStep_0 16 rfl rfl)
abbrev cX0_bit : ByteArray := prog_1_method_3_code
def yX0_bit : MethodName := ⟨RX0, "bit", "(Z)I"⟩
def dkwX0_bit_0 : List UInt8 := [26, 153, 0, 7, 4, 167, 0, 4, 3, 172]
abbrev dktX0_bit_0 : List UInt8 := dkwX0_bit_0 ++ []
theorem dksX0_bit_0 : cX0_bit.data.toList.drop 0 = dktX0_bit_0 := by decide +kernel
theorem dX0_bit_0 : decode cX0_bit 0 = .ok (.iload_n 0, 1) := dk_26 (dk_at dksX0_bit_0 0 rfl rfl)
theorem dX0_bit_1 : decode cX0_bit 1 = .ok (.ifCond .eq 7, 3) := dk_153 0 7 (dk_at dksX0_bit_0 1 rfl rfl)
theorem dX0_bit_4 : decode cX0_bit 4 = .ok (.iconst 1, 1) := dk_4 (dk_at dksX0_bit_0 4 rfl rfl)
theorem dX0_bit_5 : decode cX0_bit 5 = .ok (.goto 4, 3) := dk_167 0 4 (dk_at dksX0_bit_0 5 rfl rfl)
theorem dX0_bit_8 : decode cX0_bit 8 = .ok (.iconst 0, 1) := dk_3 (dk_at dksX0_bit_0 8 rfl rfl)
theorem dX0_bit_9 : decode cX0_bit 9 = .ok (.ireturn, 1) := dk_172 (dk_at dksX0_bit_0 9 rfl rfl)
abbrev cX0_has : ByteArray := prog_1_method_2_code
def yX0_has : MethodName := ⟨RX0, "has", "(II)Z"⟩
def dkwX0_has_0 : List UInt8 := [26, 27, 122, 4, 126, 4, 160, 0, 7, 4, 167, 0, 4, 3, 172]
abbrev dktX0_has_0 : List UInt8 := dkwX0_has_0 ++ []
theorem dksX0_has_0 : cX0_has.data.toList.drop 0 = dktX0_has_0 := by decide +kernel
theorem dX0_has_0 : decode cX0_has 0 = .ok (.iload_n 0, 1) := dk_26 (dk_at dksX0_has_0 0 rfl rfl)
theorem dX0_has_1 : decode cX0_has 1 = .ok (.iload_n 1, 1) := dk_27 (dk_at dksX0_has_0 1 rfl rfl)
theorem dX0_has_2 : decode cX0_has 2 = .ok (.ishr, 1) := dk_122 (dk_at dksX0_has_0 2 rfl rfl)
theorem dX0_has_3 : decode cX0_has 3 = .ok (.iconst 1, 1) := dk_4 (dk_at dksX0_has_0 3 rfl rfl)
theorem dX0_has_4 : decode cX0_has 4 = .ok (.iand, 1) := dk_126 (dk_at dksX0_has_0 4 rfl rfl)
theorem dX0_has_5 : decode cX0_has 5 = .ok (.iconst 1, 1) := dk_4 (dk_at dksX0_has_0 5 rfl rfl)
theorem dX0_has_6 : decode cX0_has 6 = .ok (.if_icmp .ne 7, 3) := dk_160 0 7 (dk_at dksX0_has_0 6 rfl rfl)
theorem dX0_has_9 : decode cX0_has 9 = .ok (.iconst 1, 1) := dk_4 (dk_at dksX0_has_0 9 rfl rfl)
theorem dX0_has_10 : decode cX0_has 10 = .ok (.goto 4, 3) := dk_167 0 4 (dk_at dksX0_has_0 10 rfl rfl)
theorem dX0_has_13 : decode cX0_has 13 = .ok (.iconst 0, 1) := dk_3 (dk_at dksX0_has_0 13 rfl rfl)
theorem dX0_has_14 : decode cX0_has 14 = .ok (.ireturn, 1) := dk_172 (dk_at dksX0_has_0 14 rfl rfl)
abbrev cX0_house : ByteArray := prog_1_method_16_code
def yX0_house : MethodName := ⟨RX0, "house", "(II)I"⟩
def dkwX0_house_4 : List UInt8 := [184, 0, 166, 184, 0, 159, 172, 2, 172]
abbrev dktX0_house_4 : List UInt8 := dkwX0_house_4 ++ []
def dkwX0_house_3 : List UInt8 := [180, 0, 186, 27, 182, 0, 188, 192, 0, 192, 180, 0, 197, 172, 42, 180, 0, 19, 180, 0, 200, 27]
abbrev dktX0_house_3 : List UInt8 := dkwX0_house_3 ++ dktX0_house_4
def dkwX0_house_2 : List UInt8 := [42, 180, 0, 10, 180, 0, 186, 27, 182, 0, 188, 192, 0, 192, 180, 0, 194, 172, 42, 180, 0, 10]
abbrev dktX0_house_2 : List UInt8 := dkwX0_house_2 ++ dktX0_house_3
def dkwX0_house_1 : List UInt8 := [170, 0, 0, 0, 76, 0, 0, 0, 0, 0, 0, 0, 2, 0, 0, 0, 25, 0, 0, 0, 43, 0, 0, 0, 61]
abbrev dktX0_house_1 : List UInt8 := dkwX0_house_1 ++ dktX0_house_2
def dkwX0_house_0 : List UInt8 := [42, 27, 182, 0, 183, 154, 0, 5, 2, 172, 28]
abbrev dktX0_house_0 : List UInt8 := dkwX0_house_0 ++ dktX0_house_1
theorem dksX0_house_0 : cX0_house.data.toList.drop 0 = dktX0_house_0 := by decide +kernel
theorem dksX0_house_1 : cX0_house.data.toList.drop 11 = dktX0_house_1 := dk_seg dksX0_house_0 11 rfl rfl
theorem dksX0_house_2 : cX0_house.data.toList.drop 36 = dktX0_house_2 := dk_seg dksX0_house_1 25 rfl rfl
theorem dksX0_house_3 : cX0_house.data.toList.drop 58 = dktX0_house_3 := dk_seg dksX0_house_2 22 rfl rfl
theorem dksX0_house_4 : cX0_house.data.toList.drop 80 = dktX0_house_4 := dk_seg dksX0_house_3 22 rfl rfl
theorem dX0_house_0 : decode cX0_house 0 = .ok (.aload_n 0, 1) := dk_42 (dk_at dksX0_house_0 0 rfl rfl)
theorem dX0_house_1 : decode cX0_house 1 = .ok (.iload_n 1, 1) := dk_27 (dk_at dksX0_house_0 1 rfl rfl)
theorem dX0_house_2 : decode cX0_house 2 = .ok (.invokevirtual 183, 3) := dk_182 0 183 (dk_at dksX0_house_0 2 rfl rfl)
theorem dX0_house_5 : decode cX0_house 5 = .ok (.ifCond .ne 5, 3) := dk_154 0 5 (dk_at dksX0_house_0 5 rfl rfl)
theorem dX0_house_8 : decode cX0_house 8 = .ok (.iconst (-1), 1) := dk_2 (dk_at dksX0_house_0 8 rfl rfl)
theorem dX0_house_9 : decode cX0_house 9 = .ok (.ireturn, 1) := dk_172 (dk_at dksX0_house_0 9 rfl rfl)
theorem dX0_house_10 : decode cX0_house 10 = .ok (.iload_n 2, 1) := dk_28 (dk_at dksX0_house_0 10 rfl rfl)
theorem dX0_house_11 : decode cX0_house 11 = .ok (.tableswitch 76 0 2 #[25, 43, 61], 25) := by decide +kernel
theorem dX0_house_36 : decode cX0_house 36 = .ok (.aload_n 0, 1) := dk_42 (dk_at dksX0_house_2 0 rfl rfl)
theorem dX0_house_37 : decode cX0_house 37 = .ok (.getfield 10, 3) := dk_180 0 10 (dk_at dksX0_house_2 1 rfl rfl)
theorem dX0_house_40 : decode cX0_house 40 = .ok (.getfield 186, 3) := dk_180 0 186 (dk_at dksX0_house_2 4 rfl rfl)
theorem dX0_house_43 : decode cX0_house 43 = .ok (.iload_n 1, 1) := dk_27 (dk_at dksX0_house_2 7 rfl rfl)
theorem dX0_house_44 : decode cX0_house 44 = .ok (.invokevirtual 188, 3) := dk_182 0 188 (dk_at dksX0_house_2 8 rfl rfl)
theorem dX0_house_47 : decode cX0_house 47 = .ok (.checkcast 192, 3) := dk_192 0 192 (dk_at dksX0_house_2 11 rfl rfl)
theorem dX0_house_50 : decode cX0_house 50 = .ok (.getfield 194, 3) := dk_180 0 194 (dk_at dksX0_house_2 14 rfl rfl)
theorem dX0_house_53 : decode cX0_house 53 = .ok (.ireturn, 1) := dk_172 (dk_at dksX0_house_2 17 rfl rfl)
theorem dX0_house_54 : decode cX0_house 54 = .ok (.aload_n 0, 1) := dk_42 (dk_at dksX0_house_2 18 rfl rfl)
theorem dX0_house_55 : decode cX0_house 55 = .ok (.getfield 10, 3) := dk_180 0 10 (dk_at dksX0_house_2 19 rfl rfl)
theorem dX0_house_58 : decode cX0_house 58 = .ok (.getfield 186, 3) := dk_180 0 186 (dk_at dksX0_house_3 0 rfl rfl)
theorem dX0_house_61 : decode cX0_house 61 = .ok (.iload_n 1, 1) := dk_27 (dk_at dksX0_house_3 3 rfl rfl)
theorem dX0_house_62 : decode cX0_house 62 = .ok (.invokevirtual 188, 3) := dk_182 0 188 (dk_at dksX0_house_3 4 rfl rfl)
theorem dX0_house_65 : decode cX0_house 65 = .ok (.checkcast 192, 3) := dk_192 0 192 (dk_at dksX0_house_3 7 rfl rfl)
theorem dX0_house_68 : decode cX0_house 68 = .ok (.getfield 197, 3) := dk_180 0 197 (dk_at dksX0_house_3 10 rfl rfl)
theorem dX0_house_71 : decode cX0_house 71 = .ok (.ireturn, 1) := dk_172 (dk_at dksX0_house_3 13 rfl rfl)
theorem dX0_house_72 : decode cX0_house 72 = .ok (.aload_n 0, 1) := dk_42 (dk_at dksX0_house_3 14 rfl rfl)
theorem dX0_house_73 : decode cX0_house 73 = .ok (.getfield 19, 3) := dk_180 0 19 (dk_at dksX0_house_3 15 rfl rfl)
theorem dX0_house_76 : decode cX0_house 76 = .ok (.getfield 200, 3) := dk_180 0 200 (dk_at dksX0_house_3 18 rfl rfl)
theorem dX0_house_79 : decode cX0_house 79 = .ok (.iload_n 1, 1) := dk_27 (dk_at dksX0_house_3 21 rfl rfl)
theorem dX0_house_80 : decode cX0_house 80 = .ok (.invokestatic 166, 3) := dk_184 0 166 (dk_at dksX0_house_4 0 rfl rfl)
theorem dX0_house_83 : decode cX0_house 83 = .ok (.invokestatic 159, 3) := dk_184 0 159 (dk_at dksX0_house_4 3 rfl rfl)
theorem dX0_house_86 : decode cX0_house 86 = .ok (.ireturn, 1) := dk_172 (dk_at dksX0_house_4 6 rfl rfl)
theorem dX0_house_87 : decode cX0_house 87 = .ok (.iconst (-1), 1) := dk_2 (dk_at dksX0_house_4 7 rfl rfl)
theorem dX0_house_88 : decode cX0_house 88 = .ok (.ireturn, 1) := dk_172 (dk_at dksX0_house_4 8 rfl rfl)
abbrev cX0_isHouse : ByteArray := prog_1_method_7_code
def yX0_isHouse : MethodName := ⟨RX0, "isHouse", "(I)Z"⟩
def dkwX0_isHouse_0 : List UInt8 := [27, 133, 9, 42, 180, 0, 10, 182, 0, 111, 4, 100, 133, 184, 0, 107, 172]
abbrev dktX0_isHouse_0 : List UInt8 := dkwX0_isHouse_0 ++ []
theorem dksX0_isHouse_0 : cX0_isHouse.data.toList.drop 0 = dktX0_isHouse_0 := by decide +kernel
theorem dX0_isHouse_0 : decode cX0_isHouse 0 = .ok (.iload_n 1, 1) := dk_27 (dk_at dksX0_isHouse_0 0 rfl rfl)
theorem dX0_isHouse_1 : decode cX0_isHouse 1 = .ok (.i2l, 1) := dk_133 (dk_at dksX0_isHouse_0 1 rfl rfl)
theorem dX0_isHouse_2 : decode cX0_isHouse 2 = .ok (.lconst 0, 1) := dk_9 (dk_at dksX0_isHouse_0 2 rfl rfl)
theorem dX0_isHouse_3 : decode cX0_isHouse 3 = .ok (.aload_n 0, 1) := dk_42 (dk_at dksX0_isHouse_0 3 rfl rfl)
theorem dX0_isHouse_4 : decode cX0_isHouse 4 = .ok (.getfield 10, 3) := dk_180 0 10 (dk_at dksX0_isHouse_0 4 rfl rfl)
theorem dX0_isHouse_7 : decode cX0_isHouse 7 = .ok (.invokevirtual 111, 3) := dk_182 0 111 (dk_at dksX0_isHouse_0 7 rfl rfl)
theorem dX0_isHouse_10 : decode cX0_isHouse 10 = .ok (.iconst 1, 1) := dk_4 (dk_at dksX0_isHouse_0 10 rfl rfl)
theorem dX0_isHouse_11 : decode cX0_isHouse 11 = .ok (.isub, 1) := dk_100 (dk_at dksX0_isHouse_0 11 rfl rfl)
theorem dX0_isHouse_12 : decode cX0_isHouse 12 = .ok (.i2l, 1) := dk_133 (dk_at dksX0_isHouse_0 12 rfl rfl)
theorem dX0_isHouse_13 : decode cX0_isHouse 13 = .ok (.invokestatic 107, 3) := dk_184 0 107 (dk_at dksX0_isHouse_0 13 rfl rfl)
theorem dX0_isHouse_16 : decode cX0_isHouse 16 = .ok (.ireturn, 1) := dk_172 (dk_at dksX0_isHouse_0 16 rfl rfl)
abbrev cX0_undo : ByteArray := prog_1_method_26_code
def yX0_undo : MethodName := ⟨RX0, "undo", "()I"⟩
def dkwX0_undo_2 : List UInt8 := [180, 1, 0, 50, 182, 1, 3, 42, 180, 0, 138, 172]
abbrev dktX0_undo_2 : List UInt8 := dkwX0_undo_2 ++ []
def dkwX0_undo_1 : List UInt8 := [181, 1, 0, 42, 89, 180, 0, 138, 4, 100, 181, 0, 138, 42, 180, 0, 19, 42, 180, 0, 78, 42]
abbrev dktX0_undo_1 : List UInt8 := dkwX0_undo_1 ++ dktX0_undo_2
def dkwX0_undo_0 : List UInt8 := [42, 180, 0, 138, 154, 0, 5, 2, 172, 42, 42, 180, 1, 0, 16, 20, 96, 4, 100, 16, 20, 112]
abbrev dktX0_undo_0 : List UInt8 := dkwX0_undo_0 ++ dktX0_undo_1
theorem dksX0_undo_0 : cX0_undo.data.toList.drop 0 = dktX0_undo_0 := by decide +kernel
theorem dksX0_undo_1 : cX0_undo.data.toList.drop 22 = dktX0_undo_1 := dk_seg dksX0_undo_0 22 rfl rfl
theorem dksX0_undo_2 : cX0_undo.data.toList.drop 44 = dktX0_undo_2 := dk_seg dksX0_undo_1 22 rfl rfl
theorem dX0_undo_0 : decode cX0_undo 0 = .ok (.aload_n 0, 1) := dk_42 (dk_at dksX0_undo_0 0 rfl rfl)
theorem dX0_undo_1 : decode cX0_undo 1 = .ok (.getfield 138, 3) := dk_180 0 138 (dk_at dksX0_undo_0 1 rfl rfl)
theorem dX0_undo_4 : decode cX0_undo 4 = .ok (.ifCond .ne 5, 3) := dk_154 0 5 (dk_at dksX0_undo_0 4 rfl rfl)
theorem dX0_undo_7 : decode cX0_undo 7 = .ok (.iconst (-1), 1) := dk_2 (dk_at dksX0_undo_0 7 rfl rfl)
theorem dX0_undo_8 : decode cX0_undo 8 = .ok (.ireturn, 1) := dk_172 (dk_at dksX0_undo_0 8 rfl rfl)
theorem dX0_undo_9 : decode cX0_undo 9 = .ok (.aload_n 0, 1) := dk_42 (dk_at dksX0_undo_0 9 rfl rfl)
theorem dX0_undo_10 : decode cX0_undo 10 = .ok (.aload_n 0, 1) := dk_42 (dk_at dksX0_undo_0 10 rfl rfl)
theorem dX0_undo_11 : decode cX0_undo 11 = .ok (.getfield 256, 3) := dk_180 1 0 (dk_at dksX0_undo_0 11 rfl rfl)
theorem dX0_undo_14 : decode cX0_undo 14 = .ok (.bipush 20, 2) := dk_16 20 (dk_at dksX0_undo_0 14 rfl rfl)
theorem dX0_undo_16 : decode cX0_undo 16 = .ok (.iadd, 1) := dk_96 (dk_at dksX0_undo_0 16 rfl rfl)
theorem dX0_undo_17 : decode cX0_undo 17 = .ok (.iconst 1, 1) := dk_4 (dk_at dksX0_undo_0 17 rfl rfl)
theorem dX0_undo_18 : decode cX0_undo 18 = .ok (.isub, 1) := dk_100 (dk_at dksX0_undo_0 18 rfl rfl)
theorem dX0_undo_19 : decode cX0_undo 19 = .ok (.bipush 20, 2) := dk_16 20 (dk_at dksX0_undo_0 19 rfl rfl)
theorem dX0_undo_21 : decode cX0_undo 21 = .ok (.irem, 1) := dk_112 (dk_at dksX0_undo_0 21 rfl rfl)
theorem dX0_undo_22 : decode cX0_undo 22 = .ok (.putfield 256, 3) := dk_181 1 0 (dk_at dksX0_undo_1 0 rfl rfl)
theorem dX0_undo_25 : decode cX0_undo 25 = .ok (.aload_n 0, 1) := dk_42 (dk_at dksX0_undo_1 3 rfl rfl)
theorem dX0_undo_26 : decode cX0_undo 26 = .ok (.dup, 1) := dk_89 (dk_at dksX0_undo_1 4 rfl rfl)
theorem dX0_undo_27 : decode cX0_undo 27 = .ok (.getfield 138, 3) := dk_180 0 138 (dk_at dksX0_undo_1 5 rfl rfl)
theorem dX0_undo_30 : decode cX0_undo 30 = .ok (.iconst 1, 1) := dk_4 (dk_at dksX0_undo_1 8 rfl rfl)
theorem dX0_undo_31 : decode cX0_undo 31 = .ok (.isub, 1) := dk_100 (dk_at dksX0_undo_1 9 rfl rfl)
theorem dX0_undo_32 : decode cX0_undo 32 = .ok (.putfield 138, 3) := dk_181 0 138 (dk_at dksX0_undo_1 10 rfl rfl)
theorem dX0_undo_35 : decode cX0_undo 35 = .ok (.aload_n 0, 1) := dk_42 (dk_at dksX0_undo_1 13 rfl rfl)
theorem dX0_undo_36 : decode cX0_undo 36 = .ok (.getfield 19, 3) := dk_180 0 19 (dk_at dksX0_undo_1 14 rfl rfl)
theorem dX0_undo_39 : decode cX0_undo 39 = .ok (.aload_n 0, 1) := dk_42 (dk_at dksX0_undo_1 17 rfl rfl)
theorem dX0_undo_40 : decode cX0_undo 40 = .ok (.getfield 78, 3) := dk_180 0 78 (dk_at dksX0_undo_1 18 rfl rfl)
theorem dX0_undo_43 : decode cX0_undo 43 = .ok (.aload_n 0, 1) := dk_42 (dk_at dksX0_undo_1 21 rfl rfl)
theorem dX0_undo_44 : decode cX0_undo 44 = .ok (.getfield 256, 3) := dk_180 1 0 (dk_at dksX0_undo_2 0 rfl rfl)
theorem dX0_undo_47 : decode cX0_undo 47 = .ok (.aaload, 1) := dk_50 (dk_at dksX0_undo_2 3 rfl rfl)
theorem dX0_undo_48 : decode cX0_undo 48 = .ok (.invokevirtual 259, 3) := dk_182 1 3 (dk_at dksX0_undo_2 4 rfl rfl)
theorem dX0_undo_51 : decode cX0_undo 51 = .ok (.aload_n 0, 1) := dk_42 (dk_at dksX0_undo_2 7 rfl rfl)
theorem dX0_undo_52 : decode cX0_undo 52 = .ok (.getfield 138, 3) := dk_180 0 138 (dk_at dksX0_undo_2 8 rfl rfl)
theorem dX0_undo_55 : decode cX0_undo 55 = .ok (.ireturn, 1) := dk_172 (dk_at dksX0_undo_2 11 rfl rfl)
abbrev cX0_day : ByteArray := prog_1_method_27_code
def yX0_day : MethodName := ⟨RX0, "day", "()I"⟩
def dkwX0_day_1 : List UInt8 := [182, 1, 16, 42, 42, 180, 0, 19, 182, 0, 252, 172]
abbrev dktX0_day_1 : List UInt8 := dkwX0_day_1 ++ []
def dkwX0_day_0 : List UInt8 := [42, 182, 1, 12, 153, 0, 16, 42, 180, 0, 19, 180, 0, 176, 17, 3, 231, 160, 0, 5, 2, 172, 42]
abbrev dktX0_day_0 : List UInt8 := dkwX0_day_0 ++ dktX0_day_1
theorem dksX0_day_0 : cX0_day.data.toList.drop 0 = dktX0_day_0 := by decide +kernel
theorem dksX0_day_1 : cX0_day.data.toList.drop 23 = dktX0_day_1 := dk_seg dksX0_day_0 23 rfl rfl
theorem dX0_day_0 : decode cX0_day 0 = .ok (.aload_n 0, 1) := dk_42 (dk_at dksX0_day_0 0 rfl rfl)
theorem dX0_day_1 : decode cX0_day 1 = .ok (.invokevirtual 268, 3) := dk_182 1 12 (dk_at dksX0_day_0 1 rfl rfl)
theorem dX0_day_4 : decode cX0_day 4 = .ok (.ifCond .eq 16, 3) := dk_153 0 16 (dk_at dksX0_day_0 4 rfl rfl)
theorem dX0_day_7 : decode cX0_day 7 = .ok (.aload_n 0, 1) := dk_42 (dk_at dksX0_day_0 7 rfl rfl)
theorem dX0_day_8 : decode cX0_day 8 = .ok (.getfield 19, 3) := dk_180 0 19 (dk_at dksX0_day_0 8 rfl rfl)
theorem dX0_day_11 : decode cX0_day 11 = .ok (.getfield 176, 3) := dk_180 0 176 (dk_at dksX0_day_0 11 rfl rfl)
theorem dX0_day_14 : decode cX0_day 14 = .ok (.sipush 999, 3) := dk_17 3 231 (dk_at dksX0_day_0 14 rfl rfl)
theorem dX0_day_17 : decode cX0_day 17 = .ok (.if_icmp .ne 5, 3) := dk_160 0 5 (dk_at dksX0_day_0 17 rfl rfl)
theorem dX0_day_20 : decode cX0_day 20 = .ok (.iconst (-1), 1) := dk_2 (dk_at dksX0_day_0 20 rfl rfl)
theorem dX0_day_21 : decode cX0_day 21 = .ok (.ireturn, 1) := dk_172 (dk_at dksX0_day_0 21 rfl rfl)
theorem dX0_day_22 : decode cX0_day 22 = .ok (.aload_n 0, 1) := dk_42 (dk_at dksX0_day_0 22 rfl rfl)
theorem dX0_day_23 : decode cX0_day 23 = .ok (.invokevirtual 272, 3) := dk_182 1 16 (dk_at dksX0_day_1 0 rfl rfl)
theorem dX0_day_26 : decode cX0_day 26 = .ok (.aload_n 0, 1) := dk_42 (dk_at dksX0_day_1 3 rfl rfl)
theorem dX0_day_27 : decode cX0_day 27 = .ok (.aload_n 0, 1) := dk_42 (dk_at dksX0_day_1 4 rfl rfl)
theorem dX0_day_28 : decode cX0_day 28 = .ok (.getfield 19, 3) := dk_180 0 19 (dk_at dksX0_day_1 5 rfl rfl)
theorem dX0_day_31 : decode cX0_day 31 = .ok (.invokevirtual 252, 3) := dk_182 0 252 (dk_at dksX0_day_1 8 rfl rfl)
theorem dX0_day_34 : decode cX0_day 34 = .ok (.ireturn, 1) := dk_172 (dk_at dksX0_day_1 11 rfl rfl)
abbrev cX0_isValley : ByteArray := prog_1_method_5_code
def yX0_isValley : MethodName := ⟨RX0, "isValley", "()Z"⟩
def dkwX0_isValley_0 : List UInt8 := [42, 180, 0, 10, 180, 0, 100, 158, 0, 7, 4, 167, 0, 4, 3, 172]
abbrev dktX0_isValley_0 : List UInt8 := dkwX0_isValley_0 ++ []
theorem dksX0_isValley_0 : cX0_isValley.data.toList.drop 0 = dktX0_isValley_0 := by decide +kernel
theorem dX0_isValley_0 : decode cX0_isValley 0 = .ok (.aload_n 0, 1) := dk_42 (dk_at dksX0_isValley_0 0 rfl rfl)
theorem dX0_isValley_1 : decode cX0_isValley 1 = .ok (.getfield 10, 3) := dk_180 0 10 (dk_at dksX0_isValley_0 1 rfl rfl)
theorem dX0_isValley_4 : decode cX0_isValley 4 = .ok (.getfield 100, 3) := dk_180 0 100 (dk_at dksX0_isValley_0 4 rfl rfl)
theorem dX0_isValley_7 : decode cX0_isValley 7 = .ok (.ifCond .le 7, 3) := dk_158 0 7 (dk_at dksX0_isValley_0 7 rfl rfl)
theorem dX0_isValley_10 : decode cX0_isValley 10 = .ok (.iconst 1, 1) := dk_4 (dk_at dksX0_isValley_0 10 rfl rfl)
theorem dX0_isValley_11 : decode cX0_isValley 11 = .ok (.goto 4, 3) := dk_167 0 4 (dk_at dksX0_isValley_0 11 rfl rfl)
theorem dX0_isValley_14 : decode cX0_isValley 14 = .ok (.iconst 0, 1) := dk_3 (dk_at dksX0_isValley_0 14 rfl rfl)
theorem dX0_isValley_15 : decode cX0_isValley 15 = .ok (.ireturn, 1) := dk_172 (dk_at dksX0_isValley_0 15 rfl rfl)
abbrev cX0_keeps : ByteArray := prog_1_method_25_code
def yX0_keeps : MethodName := ⟨RX0, "keeps", "()V"⟩
def dkwX0_keeps_1 : List UInt8 := [16, 20, 112, 181, 1, 0, 42, 16, 20, 42, 180, 0, 138, 4, 96, 184, 1, 7, 181, 0, 138, 177]
abbrev dktX0_keeps_1 : List UInt8 := dkwX0_keeps_1 ++ []
def dkwX0_keeps_0 : List UInt8 := [42, 180, 0, 78, 42, 180, 1, 0, 50, 42, 180, 0, 19, 182, 1, 3, 42, 42, 180, 1, 0, 4, 96]
abbrev dktX0_keeps_0 : List UInt8 := dkwX0_keeps_0 ++ dktX0_keeps_1
theorem dksX0_keeps_0 : cX0_keeps.data.toList.drop 0 = dktX0_keeps_0 := by decide +kernel
theorem dksX0_keeps_1 : cX0_keeps.data.toList.drop 23 = dktX0_keeps_1 := dk_seg dksX0_keeps_0 23 rfl rfl
theorem dX0_keeps_0 : decode cX0_keeps 0 = .ok (.aload_n 0, 1) := dk_42 (dk_at dksX0_keeps_0 0 rfl rfl)
theorem dX0_keeps_1 : decode cX0_keeps 1 = .ok (.getfield 78, 3) := dk_180 0 78 (dk_at dksX0_keeps_0 1 rfl rfl)
theorem dX0_keeps_4 : decode cX0_keeps 4 = .ok (.aload_n 0, 1) := dk_42 (dk_at dksX0_keeps_0 4 rfl rfl)
theorem dX0_keeps_5 : decode cX0_keeps 5 = .ok (.getfield 256, 3) := dk_180 1 0 (dk_at dksX0_keeps_0 5 rfl rfl)
theorem dX0_keeps_8 : decode cX0_keeps 8 = .ok (.aaload, 1) := dk_50 (dk_at dksX0_keeps_0 8 rfl rfl)
theorem dX0_keeps_9 : decode cX0_keeps 9 = .ok (.aload_n 0, 1) := dk_42 (dk_at dksX0_keeps_0 9 rfl rfl)
theorem dX0_keeps_10 : decode cX0_keeps 10 = .ok (.getfield 19, 3) := dk_180 0 19 (dk_at dksX0_keeps_0 10 rfl rfl)
theorem dX0_keeps_13 : decode cX0_keeps 13 = .ok (.invokevirtual 259, 3) := dk_182 1 3 (dk_at dksX0_keeps_0 13 rfl rfl)
theorem dX0_keeps_16 : decode cX0_keeps 16 = .ok (.aload_n 0, 1) := dk_42 (dk_at dksX0_keeps_0 16 rfl rfl)
theorem dX0_keeps_17 : decode cX0_keeps 17 = .ok (.aload_n 0, 1) := dk_42 (dk_at dksX0_keeps_0 17 rfl rfl)
theorem dX0_keeps_18 : decode cX0_keeps 18 = .ok (.getfield 256, 3) := dk_180 1 0 (dk_at dksX0_keeps_0 18 rfl rfl)
theorem dX0_keeps_21 : decode cX0_keeps 21 = .ok (.iconst 1, 1) := dk_4 (dk_at dksX0_keeps_0 21 rfl rfl)
theorem dX0_keeps_22 : decode cX0_keeps 22 = .ok (.iadd, 1) := dk_96 (dk_at dksX0_keeps_0 22 rfl rfl)
theorem dX0_keeps_23 : decode cX0_keeps 23 = .ok (.bipush 20, 2) := dk_16 20 (dk_at dksX0_keeps_1 0 rfl rfl)
theorem dX0_keeps_25 : decode cX0_keeps 25 = .ok (.irem, 1) := dk_112 (dk_at dksX0_keeps_1 2 rfl rfl)
theorem dX0_keeps_26 : decode cX0_keeps 26 = .ok (.putfield 256, 3) := dk_181 1 0 (dk_at dksX0_keeps_1 3 rfl rfl)
theorem dX0_keeps_29 : decode cX0_keeps 29 = .ok (.aload_n 0, 1) := dk_42 (dk_at dksX0_keeps_1 6 rfl rfl)
theorem dX0_keeps_30 : decode cX0_keeps 30 = .ok (.bipush 20, 2) := dk_16 20 (dk_at dksX0_keeps_1 7 rfl rfl)
theorem dX0_keeps_32 : decode cX0_keeps 32 = .ok (.aload_n 0, 1) := dk_42 (dk_at dksX0_keeps_1 9 rfl rfl)
theorem dX0_keeps_33 : decode cX0_keeps 33 = .ok (.getfield 138, 3) := dk_180 0 138 (dk_at dksX0_keeps_1 10 rfl rfl)
theorem dX0_keeps_36 : decode cX0_keeps 36 = .ok (.iconst 1, 1) := dk_4 (dk_at dksX0_keeps_1 13 rfl rfl)
theorem dX0_keeps_37 : decode cX0_keeps 37 = .ok (.iadd, 1) := dk_96 (dk_at dksX0_keeps_1 14 rfl rfl)
theorem dX0_keeps_38 : decode cX0_keeps 38 = .ok (.invokestatic 263, 3) := dk_184 1 7 (dk_at dksX0_keeps_1 15 rfl rfl)
theorem dX0_keeps_41 : decode cX0_keeps 41 = .ok (.putfield 138, 3) := dk_181 0 138 (dk_at dksX0_keeps_1 18 rfl rfl)
theorem dX0_keeps_44 : decode cX0_keeps 44 = .ok (.return_, 1) := dk_177 (dk_at dksX0_keeps_1 21 rfl rfl)
abbrev cX0_goesOn : ByteArray := prog_1_method_22_code
def yX0_goesOn : MethodName := ⟨RX0, "goesOn", "(LSweptSnow$State;)I"⟩
def dkwX0_goesOn_2 : List UInt8 := [132, 2, 1, 167, 255, 207, 43, 42, 180, 0, 10, 182, 0, 249, 172]
abbrev dktX0_goesOn_2 : List UInt8 := dkwX0_goesOn_2 ++ []
def dkwX0_goesOn_1 : List UInt8 := [2, 167, 0, 9, 42, 43, 28, 182, 0, 241, 62, 29, 2, 159, 0, 11, 42, 43, 28, 29, 182, 0, 245, 87]
abbrev dktX0_goesOn_1 : List UInt8 := dkwX0_goesOn_1 ++ dktX0_goesOn_2
def dkwX0_goesOn_0 : List UInt8 := [3, 61, 28, 42, 180, 0, 10, 182, 0, 111, 162, 0, 44, 43, 180, 0, 200, 28, 184, 0, 166, 153, 0, 7]
abbrev dktX0_goesOn_0 : List UInt8 := dkwX0_goesOn_0 ++ dktX0_goesOn_1
theorem dksX0_goesOn_0 : cX0_goesOn.data.toList.drop 0 = dktX0_goesOn_0 := by decide +kernel
theorem dksX0_goesOn_1 : cX0_goesOn.data.toList.drop 24 = dktX0_goesOn_1 := dk_seg dksX0_goesOn_0 24 rfl rfl
theorem dksX0_goesOn_2 : cX0_goesOn.data.toList.drop 48 = dktX0_goesOn_2 := dk_seg dksX0_goesOn_1 24 rfl rfl
theorem dX0_goesOn_0 : decode cX0_goesOn 0 = .ok (.iconst 0, 1) := dk_3 (dk_at dksX0_goesOn_0 0 rfl rfl)
theorem dX0_goesOn_1 : decode cX0_goesOn 1 = .ok (.istore_n 2, 1) := dk_61 (dk_at dksX0_goesOn_0 1 rfl rfl)
theorem dX0_goesOn_2 : decode cX0_goesOn 2 = .ok (.iload_n 2, 1) := dk_28 (dk_at dksX0_goesOn_0 2 rfl rfl)
theorem dX0_goesOn_3 : decode cX0_goesOn 3 = .ok (.aload_n 0, 1) := dk_42 (dk_at dksX0_goesOn_0 3 rfl rfl)
theorem dX0_goesOn_4 : decode cX0_goesOn 4 = .ok (.getfield 10, 3) := dk_180 0 10 (dk_at dksX0_goesOn_0 4 rfl rfl)
theorem dX0_goesOn_7 : decode cX0_goesOn 7 = .ok (.invokevirtual 111, 3) := dk_182 0 111 (dk_at dksX0_goesOn_0 7 rfl rfl)
theorem dX0_goesOn_10 : decode cX0_goesOn 10 = .ok (.if_icmp .ge 44, 3) := dk_162 0 44 (dk_at dksX0_goesOn_0 10 rfl rfl)
theorem dX0_goesOn_13 : decode cX0_goesOn 13 = .ok (.aload_n 1, 1) := dk_43 (dk_at dksX0_goesOn_0 13 rfl rfl)
theorem dX0_goesOn_14 : decode cX0_goesOn 14 = .ok (.getfield 200, 3) := dk_180 0 200 (dk_at dksX0_goesOn_0 14 rfl rfl)
theorem dX0_goesOn_17 : decode cX0_goesOn 17 = .ok (.iload_n 2, 1) := dk_28 (dk_at dksX0_goesOn_0 17 rfl rfl)
theorem dX0_goesOn_18 : decode cX0_goesOn 18 = .ok (.invokestatic 166, 3) := dk_184 0 166 (dk_at dksX0_goesOn_0 18 rfl rfl)
theorem dX0_goesOn_21 : decode cX0_goesOn 21 = .ok (.ifCond .eq 7, 3) := dk_153 0 7 (dk_at dksX0_goesOn_0 21 rfl rfl)
theorem dX0_goesOn_24 : decode cX0_goesOn 24 = .ok (.iconst (-1), 1) := dk_2 (dk_at dksX0_goesOn_1 0 rfl rfl)
theorem dX0_goesOn_25 : decode cX0_goesOn 25 = .ok (.goto 9, 3) := dk_167 0 9 (dk_at dksX0_goesOn_1 1 rfl rfl)
theorem dX0_goesOn_28 : decode cX0_goesOn 28 = .ok (.aload_n 0, 1) := dk_42 (dk_at dksX0_goesOn_1 4 rfl rfl)
theorem dX0_goesOn_29 : decode cX0_goesOn 29 = .ok (.aload_n 1, 1) := dk_43 (dk_at dksX0_goesOn_1 5 rfl rfl)
theorem dX0_goesOn_30 : decode cX0_goesOn 30 = .ok (.iload_n 2, 1) := dk_28 (dk_at dksX0_goesOn_1 6 rfl rfl)
theorem dX0_goesOn_31 : decode cX0_goesOn 31 = .ok (.invokevirtual 241, 3) := dk_182 0 241 (dk_at dksX0_goesOn_1 7 rfl rfl)
theorem dX0_goesOn_34 : decode cX0_goesOn 34 = .ok (.istore_n 3, 1) := dk_62 (dk_at dksX0_goesOn_1 10 rfl rfl)
theorem dX0_goesOn_35 : decode cX0_goesOn 35 = .ok (.iload_n 3, 1) := dk_29 (dk_at dksX0_goesOn_1 11 rfl rfl)
theorem dX0_goesOn_36 : decode cX0_goesOn 36 = .ok (.iconst (-1), 1) := dk_2 (dk_at dksX0_goesOn_1 12 rfl rfl)
theorem dX0_goesOn_37 : decode cX0_goesOn 37 = .ok (.if_icmp .eq 11, 3) := dk_159 0 11 (dk_at dksX0_goesOn_1 13 rfl rfl)
theorem dX0_goesOn_40 : decode cX0_goesOn 40 = .ok (.aload_n 0, 1) := dk_42 (dk_at dksX0_goesOn_1 16 rfl rfl)
theorem dX0_goesOn_41 : decode cX0_goesOn 41 = .ok (.aload_n 1, 1) := dk_43 (dk_at dksX0_goesOn_1 17 rfl rfl)
theorem dX0_goesOn_42 : decode cX0_goesOn 42 = .ok (.iload_n 2, 1) := dk_28 (dk_at dksX0_goesOn_1 18 rfl rfl)
theorem dX0_goesOn_43 : decode cX0_goesOn 43 = .ok (.iload_n 3, 1) := dk_29 (dk_at dksX0_goesOn_1 19 rfl rfl)
theorem dX0_goesOn_44 : decode cX0_goesOn 44 = .ok (.invokevirtual 245, 3) := dk_182 0 245 (dk_at dksX0_goesOn_1 20 rfl rfl)
theorem dX0_goesOn_47 : decode cX0_goesOn 47 = .ok (.pop, 1) := dk_87 (dk_at dksX0_goesOn_1 23 rfl rfl)
theorem dX0_goesOn_48 : decode cX0_goesOn 48 = .ok (.iinc 2 1, 3) := dk_132 2 1 (dk_at dksX0_goesOn_2 0 rfl rfl)
theorem dX0_goesOn_51 : decode cX0_goesOn 51 = .ok (.goto (-49), 3) := dk_167 255 207 (dk_at dksX0_goesOn_2 3 rfl rfl)
theorem dX0_goesOn_54 : decode cX0_goesOn 54 = .ok (.aload_n 1, 1) := dk_43 (dk_at dksX0_goesOn_2 6 rfl rfl)
theorem dX0_goesOn_55 : decode cX0_goesOn 55 = .ok (.aload_n 0, 1) := dk_42 (dk_at dksX0_goesOn_2 7 rfl rfl)
theorem dX0_goesOn_56 : decode cX0_goesOn 56 = .ok (.getfield 10, 3) := dk_180 0 10 (dk_at dksX0_goesOn_2 8 rfl rfl)
theorem dX0_goesOn_59 : decode cX0_goesOn 59 = .ok (.invokevirtual 249, 3) := dk_182 0 249 (dk_at dksX0_goesOn_2 11 rfl rfl)
theorem dX0_goesOn_62 : decode cX0_goesOn 62 = .ok (.ireturn, 1) := dk_172 (dk_at dksX0_goesOn_2 14 rfl rfl)
abbrev cX0_choiceOf : ByteArray := prog_1_method_20_code
def yX0_choiceOf : MethodName := ⟨RX0, "choiceOf", "(LSweptSnow$State;I)I"⟩
def dkwX0_choiceOf_6 : List UInt8 := [21, 6, 62, 22, 7, 55, 4, 132, 6, 1, 167, 255, 179, 29, 172]
abbrev dktX0_choiceOf_6 : List UInt8 := dkwX0_choiceOf_6 ++ []
def dkwX0_choiceOf_5 : List UInt8 := [192, 0, 232, 42, 180, 0, 64, 182, 0, 234, 55, 7, 22, 7, 22, 4, 148, 157, 0, 6, 167, 0, 10]
abbrev dktX0_choiceOf_5 : List UInt8 := dkwX0_choiceOf_5 ++ dktX0_choiceOf_6
def dkwX0_choiceOf_4 : List UInt8 := [167, 0, 52, 42, 43, 28, 21, 6, 182, 0, 228, 42, 180, 0, 31, 42, 180, 0, 35, 182, 0, 188]
abbrev dktX0_choiceOf_4 : List UInt8 := dkwX0_choiceOf_4 ++ dktX0_choiceOf_5
def dkwX0_choiceOf_3 : List UInt8 := [21, 6, 42, 180, 0, 10, 182, 0, 103, 162, 0, 71, 43, 180, 0, 153, 21, 6, 46, 154, 0, 6]
abbrev dktX0_choiceOf_3 : List UInt8 := dkwX0_choiceOf_3 ++ dktX0_choiceOf_4
def dkwX0_choiceOf_2 : List UInt8 := [28, 182, 0, 188, 192, 0, 192, 180, 0, 194, 167, 0, 4, 2, 172, 2, 62, 9, 55, 4, 3, 54, 6]
abbrev dktX0_choiceOf_2 : List UInt8 := dkwX0_choiceOf_2 ++ dktX0_choiceOf_3
def dkwX0_choiceOf_1 : List UInt8 := [192, 0, 192, 180, 0, 194, 46, 42, 180, 0, 10, 180, 0, 156, 161, 0, 23, 42, 180, 0, 10, 180, 0, 186]
abbrev dktX0_choiceOf_1 : List UInt8 := dkwX0_choiceOf_1 ++ dktX0_choiceOf_2
def dkwX0_choiceOf_0 : List UInt8 := [42, 180, 0, 35, 2, 160, 0, 57, 43, 180, 0, 153, 42, 180, 0, 10, 180, 0, 186, 28, 182, 0, 188]
abbrev dktX0_choiceOf_0 : List UInt8 := dkwX0_choiceOf_0 ++ dktX0_choiceOf_1
theorem dksX0_choiceOf_0 : cX0_choiceOf.data.toList.drop 0 = dktX0_choiceOf_0 := by decide +kernel
theorem dksX0_choiceOf_1 : cX0_choiceOf.data.toList.drop 23 = dktX0_choiceOf_1 := dk_seg dksX0_choiceOf_0 23 rfl rfl
theorem dksX0_choiceOf_2 : cX0_choiceOf.data.toList.drop 47 = dktX0_choiceOf_2 := dk_seg dksX0_choiceOf_1 24 rfl rfl
theorem dksX0_choiceOf_3 : cX0_choiceOf.data.toList.drop 70 = dktX0_choiceOf_3 := dk_seg dksX0_choiceOf_2 23 rfl rfl
theorem dksX0_choiceOf_4 : cX0_choiceOf.data.toList.drop 92 = dktX0_choiceOf_4 := dk_seg dksX0_choiceOf_3 22 rfl rfl
theorem dksX0_choiceOf_5 : cX0_choiceOf.data.toList.drop 114 = dktX0_choiceOf_5 := dk_seg dksX0_choiceOf_4 22 rfl rfl
theorem dksX0_choiceOf_6 : cX0_choiceOf.data.toList.drop 137 = dktX0_choiceOf_6 := dk_seg dksX0_choiceOf_5 23 rfl rfl
theorem dX0_choiceOf_0 : decode cX0_choiceOf 0 = .ok (.aload_n 0, 1) := dk_42 (dk_at dksX0_choiceOf_0 0 rfl rfl)
theorem dX0_choiceOf_1 : decode cX0_choiceOf 1 = .ok (.getfield 35, 3) := dk_180 0 35 (dk_at dksX0_choiceOf_0 1 rfl rfl)
theorem dX0_choiceOf_4 : decode cX0_choiceOf 4 = .ok (.iconst (-1), 1) := dk_2 (dk_at dksX0_choiceOf_0 4 rfl rfl)
theorem dX0_choiceOf_5 : decode cX0_choiceOf 5 = .ok (.if_icmp .ne 57, 3) := dk_160 0 57 (dk_at dksX0_choiceOf_0 5 rfl rfl)
theorem dX0_choiceOf_8 : decode cX0_choiceOf 8 = .ok (.aload_n 1, 1) := dk_43 (dk_at dksX0_choiceOf_0 8 rfl rfl)
theorem dX0_choiceOf_9 : decode cX0_choiceOf 9 = .ok (.getfield 153, 3) := dk_180 0 153 (dk_at dksX0_choiceOf_0 9 rfl rfl)
theorem dX0_choiceOf_12 : decode cX0_choiceOf 12 = .ok (.aload_n 0, 1) := dk_42 (dk_at dksX0_choiceOf_0 12 rfl rfl)
theorem dX0_choiceOf_13 : decode cX0_choiceOf 13 = .ok (.getfield 10, 3) := dk_180 0 10 (dk_at dksX0_choiceOf_0 13 rfl rfl)
theorem dX0_choiceOf_16 : decode cX0_choiceOf 16 = .ok (.getfield 186, 3) := dk_180 0 186 (dk_at dksX0_choiceOf_0 16 rfl rfl)
theorem dX0_choiceOf_19 : decode cX0_choiceOf 19 = .ok (.iload_n 2, 1) := dk_28 (dk_at dksX0_choiceOf_0 19 rfl rfl)
theorem dX0_choiceOf_20 : decode cX0_choiceOf 20 = .ok (.invokevirtual 188, 3) := dk_182 0 188 (dk_at dksX0_choiceOf_0 20 rfl rfl)
theorem dX0_choiceOf_23 : decode cX0_choiceOf 23 = .ok (.checkcast 192, 3) := dk_192 0 192 (dk_at dksX0_choiceOf_1 0 rfl rfl)
theorem dX0_choiceOf_26 : decode cX0_choiceOf 26 = .ok (.getfield 194, 3) := dk_180 0 194 (dk_at dksX0_choiceOf_1 3 rfl rfl)
theorem dX0_choiceOf_29 : decode cX0_choiceOf 29 = .ok (.iaload, 1) := dk_46 (dk_at dksX0_choiceOf_1 6 rfl rfl)
theorem dX0_choiceOf_30 : decode cX0_choiceOf 30 = .ok (.aload_n 0, 1) := dk_42 (dk_at dksX0_choiceOf_1 7 rfl rfl)
theorem dX0_choiceOf_31 : decode cX0_choiceOf 31 = .ok (.getfield 10, 3) := dk_180 0 10 (dk_at dksX0_choiceOf_1 8 rfl rfl)
theorem dX0_choiceOf_34 : decode cX0_choiceOf 34 = .ok (.getfield 156, 3) := dk_180 0 156 (dk_at dksX0_choiceOf_1 11 rfl rfl)
theorem dX0_choiceOf_37 : decode cX0_choiceOf 37 = .ok (.if_icmp .lt 23, 3) := dk_161 0 23 (dk_at dksX0_choiceOf_1 14 rfl rfl)
theorem dX0_choiceOf_40 : decode cX0_choiceOf 40 = .ok (.aload_n 0, 1) := dk_42 (dk_at dksX0_choiceOf_1 17 rfl rfl)
theorem dX0_choiceOf_41 : decode cX0_choiceOf 41 = .ok (.getfield 10, 3) := dk_180 0 10 (dk_at dksX0_choiceOf_1 18 rfl rfl)
theorem dX0_choiceOf_44 : decode cX0_choiceOf 44 = .ok (.getfield 186, 3) := dk_180 0 186 (dk_at dksX0_choiceOf_1 21 rfl rfl)
theorem dX0_choiceOf_47 : decode cX0_choiceOf 47 = .ok (.iload_n 2, 1) := dk_28 (dk_at dksX0_choiceOf_2 0 rfl rfl)
theorem dX0_choiceOf_48 : decode cX0_choiceOf 48 = .ok (.invokevirtual 188, 3) := dk_182 0 188 (dk_at dksX0_choiceOf_2 1 rfl rfl)
theorem dX0_choiceOf_51 : decode cX0_choiceOf 51 = .ok (.checkcast 192, 3) := dk_192 0 192 (dk_at dksX0_choiceOf_2 4 rfl rfl)
theorem dX0_choiceOf_54 : decode cX0_choiceOf 54 = .ok (.getfield 194, 3) := dk_180 0 194 (dk_at dksX0_choiceOf_2 7 rfl rfl)
theorem dX0_choiceOf_57 : decode cX0_choiceOf 57 = .ok (.goto 4, 3) := dk_167 0 4 (dk_at dksX0_choiceOf_2 10 rfl rfl)
theorem dX0_choiceOf_60 : decode cX0_choiceOf 60 = .ok (.iconst (-1), 1) := dk_2 (dk_at dksX0_choiceOf_2 13 rfl rfl)
theorem dX0_choiceOf_61 : decode cX0_choiceOf 61 = .ok (.ireturn, 1) := dk_172 (dk_at dksX0_choiceOf_2 14 rfl rfl)
theorem dX0_choiceOf_62 : decode cX0_choiceOf 62 = .ok (.iconst (-1), 1) := dk_2 (dk_at dksX0_choiceOf_2 15 rfl rfl)
theorem dX0_choiceOf_63 : decode cX0_choiceOf 63 = .ok (.istore_n 3, 1) := dk_62 (dk_at dksX0_choiceOf_2 16 rfl rfl)
theorem dX0_choiceOf_64 : decode cX0_choiceOf 64 = .ok (.lconst 0, 1) := dk_9 (dk_at dksX0_choiceOf_2 17 rfl rfl)
theorem dX0_choiceOf_65 : decode cX0_choiceOf 65 = .ok (.lstore 4, 2) := dk_55 4 (dk_at dksX0_choiceOf_2 18 rfl rfl)
theorem dX0_choiceOf_67 : decode cX0_choiceOf 67 = .ok (.iconst 0, 1) := dk_3 (dk_at dksX0_choiceOf_2 20 rfl rfl)
theorem dX0_choiceOf_68 : decode cX0_choiceOf 68 = .ok (.istore 6, 2) := dk_54 6 (dk_at dksX0_choiceOf_2 21 rfl rfl)
theorem dX0_choiceOf_70 : decode cX0_choiceOf 70 = .ok (.iload 6, 2) := dk_21 6 (dk_at dksX0_choiceOf_3 0 rfl rfl)
theorem dX0_choiceOf_72 : decode cX0_choiceOf 72 = .ok (.aload_n 0, 1) := dk_42 (dk_at dksX0_choiceOf_3 2 rfl rfl)
theorem dX0_choiceOf_73 : decode cX0_choiceOf 73 = .ok (.getfield 10, 3) := dk_180 0 10 (dk_at dksX0_choiceOf_3 3 rfl rfl)
theorem dX0_choiceOf_76 : decode cX0_choiceOf 76 = .ok (.invokevirtual 103, 3) := dk_182 0 103 (dk_at dksX0_choiceOf_3 6 rfl rfl)
theorem dX0_choiceOf_79 : decode cX0_choiceOf 79 = .ok (.if_icmp .ge 71, 3) := dk_162 0 71 (dk_at dksX0_choiceOf_3 9 rfl rfl)
theorem dX0_choiceOf_82 : decode cX0_choiceOf 82 = .ok (.aload_n 1, 1) := dk_43 (dk_at dksX0_choiceOf_3 12 rfl rfl)
theorem dX0_choiceOf_83 : decode cX0_choiceOf 83 = .ok (.getfield 153, 3) := dk_180 0 153 (dk_at dksX0_choiceOf_3 13 rfl rfl)
theorem dX0_choiceOf_86 : decode cX0_choiceOf 86 = .ok (.iload 6, 2) := dk_21 6 (dk_at dksX0_choiceOf_3 16 rfl rfl)
theorem dX0_choiceOf_88 : decode cX0_choiceOf 88 = .ok (.iaload, 1) := dk_46 (dk_at dksX0_choiceOf_3 18 rfl rfl)
theorem dX0_choiceOf_89 : decode cX0_choiceOf 89 = .ok (.ifCond .ne 6, 3) := dk_154 0 6 (dk_at dksX0_choiceOf_3 19 rfl rfl)
theorem dX0_choiceOf_92 : decode cX0_choiceOf 92 = .ok (.goto 52, 3) := dk_167 0 52 (dk_at dksX0_choiceOf_4 0 rfl rfl)
theorem dX0_choiceOf_95 : decode cX0_choiceOf 95 = .ok (.aload_n 0, 1) := dk_42 (dk_at dksX0_choiceOf_4 3 rfl rfl)
theorem dX0_choiceOf_96 : decode cX0_choiceOf 96 = .ok (.aload_n 1, 1) := dk_43 (dk_at dksX0_choiceOf_4 4 rfl rfl)
theorem dX0_choiceOf_97 : decode cX0_choiceOf 97 = .ok (.iload_n 2, 1) := dk_28 (dk_at dksX0_choiceOf_4 5 rfl rfl)
theorem dX0_choiceOf_98 : decode cX0_choiceOf 98 = .ok (.iload 6, 2) := dk_21 6 (dk_at dksX0_choiceOf_4 6 rfl rfl)
theorem dX0_choiceOf_100 : decode cX0_choiceOf 100 = .ok (.invokevirtual 228, 3) := dk_182 0 228 (dk_at dksX0_choiceOf_4 8 rfl rfl)
theorem dX0_choiceOf_103 : decode cX0_choiceOf 103 = .ok (.aload_n 0, 1) := dk_42 (dk_at dksX0_choiceOf_4 11 rfl rfl)
theorem dX0_choiceOf_104 : decode cX0_choiceOf 104 = .ok (.getfield 31, 3) := dk_180 0 31 (dk_at dksX0_choiceOf_4 12 rfl rfl)
theorem dX0_choiceOf_107 : decode cX0_choiceOf 107 = .ok (.aload_n 0, 1) := dk_42 (dk_at dksX0_choiceOf_4 15 rfl rfl)
theorem dX0_choiceOf_108 : decode cX0_choiceOf 108 = .ok (.getfield 35, 3) := dk_180 0 35 (dk_at dksX0_choiceOf_4 16 rfl rfl)
theorem dX0_choiceOf_111 : decode cX0_choiceOf 111 = .ok (.invokevirtual 188, 3) := dk_182 0 188 (dk_at dksX0_choiceOf_4 19 rfl rfl)
theorem dX0_choiceOf_114 : decode cX0_choiceOf 114 = .ok (.checkcast 232, 3) := dk_192 0 232 (dk_at dksX0_choiceOf_5 0 rfl rfl)
theorem dX0_choiceOf_117 : decode cX0_choiceOf 117 = .ok (.aload_n 0, 1) := dk_42 (dk_at dksX0_choiceOf_5 3 rfl rfl)
theorem dX0_choiceOf_118 : decode cX0_choiceOf 118 = .ok (.getfield 64, 3) := dk_180 0 64 (dk_at dksX0_choiceOf_5 4 rfl rfl)
theorem dX0_choiceOf_121 : decode cX0_choiceOf 121 = .ok (.invokevirtual 234, 3) := dk_182 0 234 (dk_at dksX0_choiceOf_5 7 rfl rfl)
theorem dX0_choiceOf_124 : decode cX0_choiceOf 124 = .ok (.lstore 7, 2) := dk_55 7 (dk_at dksX0_choiceOf_5 10 rfl rfl)
theorem dX0_choiceOf_126 : decode cX0_choiceOf 126 = .ok (.lload 7, 2) := dk_22 7 (dk_at dksX0_choiceOf_5 12 rfl rfl)
theorem dX0_choiceOf_128 : decode cX0_choiceOf 128 = .ok (.lload 4, 2) := dk_22 4 (dk_at dksX0_choiceOf_5 14 rfl rfl)
theorem dX0_choiceOf_130 : decode cX0_choiceOf 130 = .ok (.lcmp, 1) := dk_148 (dk_at dksX0_choiceOf_5 16 rfl rfl)
theorem dX0_choiceOf_131 : decode cX0_choiceOf 131 = .ok (.ifCond .gt 6, 3) := dk_157 0 6 (dk_at dksX0_choiceOf_5 17 rfl rfl)
theorem dX0_choiceOf_134 : decode cX0_choiceOf 134 = .ok (.goto 10, 3) := dk_167 0 10 (dk_at dksX0_choiceOf_5 20 rfl rfl)
theorem dX0_choiceOf_137 : decode cX0_choiceOf 137 = .ok (.iload 6, 2) := dk_21 6 (dk_at dksX0_choiceOf_6 0 rfl rfl)
theorem dX0_choiceOf_139 : decode cX0_choiceOf 139 = .ok (.istore_n 3, 1) := dk_62 (dk_at dksX0_choiceOf_6 2 rfl rfl)
theorem dX0_choiceOf_140 : decode cX0_choiceOf 140 = .ok (.lload 7, 2) := dk_22 7 (dk_at dksX0_choiceOf_6 3 rfl rfl)
theorem dX0_choiceOf_142 : decode cX0_choiceOf 142 = .ok (.lstore 4, 2) := dk_55 4 (dk_at dksX0_choiceOf_6 5 rfl rfl)
theorem dX0_choiceOf_144 : decode cX0_choiceOf 144 = .ok (.iinc 6 1, 3) := dk_132 6 1 (dk_at dksX0_choiceOf_6 7 rfl rfl)
theorem dX0_choiceOf_147 : decode cX0_choiceOf 147 = .ok (.goto (-77), 3) := dk_167 255 179 (dk_at dksX0_choiceOf_6 10 rfl rfl)
theorem dX0_choiceOf_150 : decode cX0_choiceOf 150 = .ok (.iload_n 3, 1) := dk_29 (dk_at dksX0_choiceOf_6 13 rfl rfl)
theorem dX0_choiceOf_151 : decode cX0_choiceOf 151 = .ok (.ireturn, 1) := dk_172 (dk_at dksX0_choiceOf_6 14 rfl rfl)
abbrev cX0_asks : ByteArray := prog_1_method_19_code
def yX0_asks : MethodName := ⟨RX0, "asks", "(LSweptSnow$State;II)V"⟩
def dkwX0_asks_9 : List UInt8 := [180, 0, 64, 16, 11, 43, 180, 0, 176, 133, 80, 177]
abbrev dktX0_asks_9 : List UInt8 := dkwX0_asks_9 ++ []
def dkwX0_asks_8 : List UInt8 := [180, 0, 10, 182, 0, 215, 42, 180, 0, 10, 180, 0, 173, 29, 46, 126, 184, 0, 219, 133, 80, 42]
abbrev dktX0_asks_8 : List UInt8 := dkwX0_asks_8 ++ dktX0_asks_9
def dkwX0_asks_7 : List UInt8 := [180, 0, 64, 16, 9, 42, 29, 43, 180, 0, 176, 182, 0, 224, 133, 80, 42, 180, 0, 64, 16, 10, 43, 42]
abbrev dktX0_asks_7 : List UInt8 := dkwX0_asks_7 ++ dktX0_asks_8
def dkwX0_asks_6 : List UInt8 := [16, 8, 42, 180, 0, 10, 43, 180, 0, 176, 182, 0, 179, 29, 184, 0, 166, 184, 0, 159, 133, 80, 42]
abbrev dktX0_asks_6 : List UInt8 := dkwX0_asks_6 ++ dktX0_asks_7
def dkwX0_asks_5 : List UInt8 := [42, 180, 0, 64, 16, 7, 43, 42, 180, 0, 10, 182, 0, 215, 184, 0, 219, 133, 80, 42, 180, 0, 64]
abbrev dktX0_asks_5 : List UInt8 := dkwX0_asks_5 ++ dktX0_asks_6
def dkwX0_asks_4 : List UInt8 := [184, 0, 159, 133, 80, 42, 180, 0, 64, 16, 6, 43, 180, 0, 212, 29, 184, 0, 166, 184, 0, 159, 133, 80]
abbrev dktX0_asks_4 : List UInt8 := dkwX0_asks_4 ++ dktX0_asks_5
def dkwX0_asks_3 : List UInt8 := [180, 0, 64, 7, 42, 28, 182, 0, 209, 133, 80, 42, 180, 0, 64, 8, 43, 180, 0, 163, 29, 184, 0, 166]
abbrev dktX0_asks_3 : List UInt8 := dkwX0_asks_3 ++ dktX0_asks_4
def dkwX0_asks_2 : List UInt8 := [167, 0, 4, 3, 184, 0, 159, 133, 80, 42, 180, 0, 64, 6, 43, 180, 0, 153, 29, 46, 133, 80, 42]
abbrev dktX0_asks_2 : List UInt8 := dkwX0_asks_2 ++ dktX0_asks_3
def dkwX0_asks_1 : List UInt8 := [42, 180, 0, 64, 4, 29, 133, 80, 42, 180, 0, 64, 5, 25, 4, 180, 0, 194, 29, 160, 0, 7, 4]
abbrev dktX0_asks_1 : List UInt8 := dkwX0_asks_1 ++ dktX0_asks_2
def dkwX0_asks_0 : List UInt8 := [42, 180, 0, 10, 180, 0, 186, 28, 182, 0, 188, 192, 0, 192, 58, 4, 42, 180, 0, 64, 3, 28, 133, 80]
abbrev dktX0_asks_0 : List UInt8 := dkwX0_asks_0 ++ dktX0_asks_1
theorem dksX0_asks_0 : cX0_asks.data.toList.drop 0 = dktX0_asks_0 := by decide +kernel
theorem dksX0_asks_1 : cX0_asks.data.toList.drop 24 = dktX0_asks_1 := dk_seg dksX0_asks_0 24 rfl rfl
theorem dksX0_asks_2 : cX0_asks.data.toList.drop 47 = dktX0_asks_2 := dk_seg dksX0_asks_1 23 rfl rfl
theorem dksX0_asks_3 : cX0_asks.data.toList.drop 70 = dktX0_asks_3 := dk_seg dksX0_asks_2 23 rfl rfl
theorem dksX0_asks_4 : cX0_asks.data.toList.drop 94 = dktX0_asks_4 := dk_seg dksX0_asks_3 24 rfl rfl
theorem dksX0_asks_5 : cX0_asks.data.toList.drop 118 = dktX0_asks_5 := dk_seg dksX0_asks_4 24 rfl rfl
theorem dksX0_asks_6 : cX0_asks.data.toList.drop 141 = dktX0_asks_6 := dk_seg dksX0_asks_5 23 rfl rfl
theorem dksX0_asks_7 : cX0_asks.data.toList.drop 164 = dktX0_asks_7 := dk_seg dksX0_asks_6 23 rfl rfl
theorem dksX0_asks_8 : cX0_asks.data.toList.drop 188 = dktX0_asks_8 := dk_seg dksX0_asks_7 24 rfl rfl
theorem dksX0_asks_9 : cX0_asks.data.toList.drop 210 = dktX0_asks_9 := dk_seg dksX0_asks_8 22 rfl rfl
theorem dX0_asks_0 : decode cX0_asks 0 = .ok (.aload_n 0, 1) := dk_42 (dk_at dksX0_asks_0 0 rfl rfl)
theorem dX0_asks_1 : decode cX0_asks 1 = .ok (.getfield 10, 3) := dk_180 0 10 (dk_at dksX0_asks_0 1 rfl rfl)
theorem dX0_asks_4 : decode cX0_asks 4 = .ok (.getfield 186, 3) := dk_180 0 186 (dk_at dksX0_asks_0 4 rfl rfl)
theorem dX0_asks_7 : decode cX0_asks 7 = .ok (.iload_n 2, 1) := dk_28 (dk_at dksX0_asks_0 7 rfl rfl)
theorem dX0_asks_8 : decode cX0_asks 8 = .ok (.invokevirtual 188, 3) := dk_182 0 188 (dk_at dksX0_asks_0 8 rfl rfl)
theorem dX0_asks_11 : decode cX0_asks 11 = .ok (.checkcast 192, 3) := dk_192 0 192 (dk_at dksX0_asks_0 11 rfl rfl)
theorem dX0_asks_14 : decode cX0_asks 14 = .ok (.astore 4, 2) := dk_58 4 (dk_at dksX0_asks_0 14 rfl rfl)
theorem dX0_asks_16 : decode cX0_asks 16 = .ok (.aload_n 0, 1) := dk_42 (dk_at dksX0_asks_0 16 rfl rfl)
theorem dX0_asks_17 : decode cX0_asks 17 = .ok (.getfield 64, 3) := dk_180 0 64 (dk_at dksX0_asks_0 17 rfl rfl)
theorem dX0_asks_20 : decode cX0_asks 20 = .ok (.iconst 0, 1) := dk_3 (dk_at dksX0_asks_0 20 rfl rfl)
theorem dX0_asks_21 : decode cX0_asks 21 = .ok (.iload_n 2, 1) := dk_28 (dk_at dksX0_asks_0 21 rfl rfl)
theorem dX0_asks_22 : decode cX0_asks 22 = .ok (.i2l, 1) := dk_133 (dk_at dksX0_asks_0 22 rfl rfl)
theorem dX0_asks_23 : decode cX0_asks 23 = .ok (.lastore, 1) := dk_80 (dk_at dksX0_asks_0 23 rfl rfl)
theorem dX0_asks_24 : decode cX0_asks 24 = .ok (.aload_n 0, 1) := dk_42 (dk_at dksX0_asks_1 0 rfl rfl)
theorem dX0_asks_25 : decode cX0_asks 25 = .ok (.getfield 64, 3) := dk_180 0 64 (dk_at dksX0_asks_1 1 rfl rfl)
theorem dX0_asks_28 : decode cX0_asks 28 = .ok (.iconst 1, 1) := dk_4 (dk_at dksX0_asks_1 4 rfl rfl)
theorem dX0_asks_29 : decode cX0_asks 29 = .ok (.iload_n 3, 1) := dk_29 (dk_at dksX0_asks_1 5 rfl rfl)
theorem dX0_asks_30 : decode cX0_asks 30 = .ok (.i2l, 1) := dk_133 (dk_at dksX0_asks_1 6 rfl rfl)
theorem dX0_asks_31 : decode cX0_asks 31 = .ok (.lastore, 1) := dk_80 (dk_at dksX0_asks_1 7 rfl rfl)
theorem dX0_asks_32 : decode cX0_asks 32 = .ok (.aload_n 0, 1) := dk_42 (dk_at dksX0_asks_1 8 rfl rfl)
theorem dX0_asks_33 : decode cX0_asks 33 = .ok (.getfield 64, 3) := dk_180 0 64 (dk_at dksX0_asks_1 9 rfl rfl)
theorem dX0_asks_36 : decode cX0_asks 36 = .ok (.iconst 2, 1) := dk_5 (dk_at dksX0_asks_1 12 rfl rfl)
theorem dX0_asks_37 : decode cX0_asks 37 = .ok (.aload 4, 2) := dk_25 4 (dk_at dksX0_asks_1 13 rfl rfl)
theorem dX0_asks_39 : decode cX0_asks 39 = .ok (.getfield 194, 3) := dk_180 0 194 (dk_at dksX0_asks_1 15 rfl rfl)
theorem dX0_asks_42 : decode cX0_asks 42 = .ok (.iload_n 3, 1) := dk_29 (dk_at dksX0_asks_1 18 rfl rfl)
theorem dX0_asks_43 : decode cX0_asks 43 = .ok (.if_icmp .ne 7, 3) := dk_160 0 7 (dk_at dksX0_asks_1 19 rfl rfl)
theorem dX0_asks_46 : decode cX0_asks 46 = .ok (.iconst 1, 1) := dk_4 (dk_at dksX0_asks_1 22 rfl rfl)
theorem dX0_asks_47 : decode cX0_asks 47 = .ok (.goto 4, 3) := dk_167 0 4 (dk_at dksX0_asks_2 0 rfl rfl)
theorem dX0_asks_50 : decode cX0_asks 50 = .ok (.iconst 0, 1) := dk_3 (dk_at dksX0_asks_2 3 rfl rfl)
theorem dX0_asks_51 : decode cX0_asks 51 = .ok (.invokestatic 159, 3) := dk_184 0 159 (dk_at dksX0_asks_2 4 rfl rfl)
theorem dX0_asks_54 : decode cX0_asks 54 = .ok (.i2l, 1) := dk_133 (dk_at dksX0_asks_2 7 rfl rfl)
theorem dX0_asks_55 : decode cX0_asks 55 = .ok (.lastore, 1) := dk_80 (dk_at dksX0_asks_2 8 rfl rfl)
theorem dX0_asks_56 : decode cX0_asks 56 = .ok (.aload_n 0, 1) := dk_42 (dk_at dksX0_asks_2 9 rfl rfl)
theorem dX0_asks_57 : decode cX0_asks 57 = .ok (.getfield 64, 3) := dk_180 0 64 (dk_at dksX0_asks_2 10 rfl rfl)
theorem dX0_asks_60 : decode cX0_asks 60 = .ok (.iconst 3, 1) := dk_6 (dk_at dksX0_asks_2 13 rfl rfl)
theorem dX0_asks_61 : decode cX0_asks 61 = .ok (.aload_n 1, 1) := dk_43 (dk_at dksX0_asks_2 14 rfl rfl)
theorem dX0_asks_62 : decode cX0_asks 62 = .ok (.getfield 153, 3) := dk_180 0 153 (dk_at dksX0_asks_2 15 rfl rfl)
theorem dX0_asks_65 : decode cX0_asks 65 = .ok (.iload_n 3, 1) := dk_29 (dk_at dksX0_asks_2 18 rfl rfl)
theorem dX0_asks_66 : decode cX0_asks 66 = .ok (.iaload, 1) := dk_46 (dk_at dksX0_asks_2 19 rfl rfl)
theorem dX0_asks_67 : decode cX0_asks 67 = .ok (.i2l, 1) := dk_133 (dk_at dksX0_asks_2 20 rfl rfl)
theorem dX0_asks_68 : decode cX0_asks 68 = .ok (.lastore, 1) := dk_80 (dk_at dksX0_asks_2 21 rfl rfl)
theorem dX0_asks_69 : decode cX0_asks 69 = .ok (.aload_n 0, 1) := dk_42 (dk_at dksX0_asks_2 22 rfl rfl)
theorem dX0_asks_70 : decode cX0_asks 70 = .ok (.getfield 64, 3) := dk_180 0 64 (dk_at dksX0_asks_3 0 rfl rfl)
theorem dX0_asks_73 : decode cX0_asks 73 = .ok (.iconst 4, 1) := dk_7 (dk_at dksX0_asks_3 3 rfl rfl)
theorem dX0_asks_74 : decode cX0_asks 74 = .ok (.aload_n 0, 1) := dk_42 (dk_at dksX0_asks_3 4 rfl rfl)
theorem dX0_asks_75 : decode cX0_asks 75 = .ok (.iload_n 2, 1) := dk_28 (dk_at dksX0_asks_3 5 rfl rfl)
theorem dX0_asks_76 : decode cX0_asks 76 = .ok (.invokevirtual 209, 3) := dk_182 0 209 (dk_at dksX0_asks_3 6 rfl rfl)
theorem dX0_asks_79 : decode cX0_asks 79 = .ok (.i2l, 1) := dk_133 (dk_at dksX0_asks_3 9 rfl rfl)
theorem dX0_asks_80 : decode cX0_asks 80 = .ok (.lastore, 1) := dk_80 (dk_at dksX0_asks_3 10 rfl rfl)
theorem dX0_asks_81 : decode cX0_asks 81 = .ok (.aload_n 0, 1) := dk_42 (dk_at dksX0_asks_3 11 rfl rfl)
theorem dX0_asks_82 : decode cX0_asks 82 = .ok (.getfield 64, 3) := dk_180 0 64 (dk_at dksX0_asks_3 12 rfl rfl)
theorem dX0_asks_85 : decode cX0_asks 85 = .ok (.iconst 5, 1) := dk_8 (dk_at dksX0_asks_3 15 rfl rfl)
theorem dX0_asks_86 : decode cX0_asks 86 = .ok (.aload_n 1, 1) := dk_43 (dk_at dksX0_asks_3 16 rfl rfl)
theorem dX0_asks_87 : decode cX0_asks 87 = .ok (.getfield 163, 3) := dk_180 0 163 (dk_at dksX0_asks_3 17 rfl rfl)
theorem dX0_asks_90 : decode cX0_asks 90 = .ok (.iload_n 3, 1) := dk_29 (dk_at dksX0_asks_3 20 rfl rfl)
theorem dX0_asks_91 : decode cX0_asks 91 = .ok (.invokestatic 166, 3) := dk_184 0 166 (dk_at dksX0_asks_3 21 rfl rfl)
theorem dX0_asks_94 : decode cX0_asks 94 = .ok (.invokestatic 159, 3) := dk_184 0 159 (dk_at dksX0_asks_4 0 rfl rfl)
theorem dX0_asks_97 : decode cX0_asks 97 = .ok (.i2l, 1) := dk_133 (dk_at dksX0_asks_4 3 rfl rfl)
theorem dX0_asks_98 : decode cX0_asks 98 = .ok (.lastore, 1) := dk_80 (dk_at dksX0_asks_4 4 rfl rfl)
theorem dX0_asks_99 : decode cX0_asks 99 = .ok (.aload_n 0, 1) := dk_42 (dk_at dksX0_asks_4 5 rfl rfl)
theorem dX0_asks_100 : decode cX0_asks 100 = .ok (.getfield 64, 3) := dk_180 0 64 (dk_at dksX0_asks_4 6 rfl rfl)
theorem dX0_asks_103 : decode cX0_asks 103 = .ok (.bipush 6, 2) := dk_16 6 (dk_at dksX0_asks_4 9 rfl rfl)
theorem dX0_asks_105 : decode cX0_asks 105 = .ok (.aload_n 1, 1) := dk_43 (dk_at dksX0_asks_4 11 rfl rfl)
theorem dX0_asks_106 : decode cX0_asks 106 = .ok (.getfield 212, 3) := dk_180 0 212 (dk_at dksX0_asks_4 12 rfl rfl)
theorem dX0_asks_109 : decode cX0_asks 109 = .ok (.iload_n 3, 1) := dk_29 (dk_at dksX0_asks_4 15 rfl rfl)
theorem dX0_asks_110 : decode cX0_asks 110 = .ok (.invokestatic 166, 3) := dk_184 0 166 (dk_at dksX0_asks_4 16 rfl rfl)
theorem dX0_asks_113 : decode cX0_asks 113 = .ok (.invokestatic 159, 3) := dk_184 0 159 (dk_at dksX0_asks_4 19 rfl rfl)
theorem dX0_asks_116 : decode cX0_asks 116 = .ok (.i2l, 1) := dk_133 (dk_at dksX0_asks_4 22 rfl rfl)
theorem dX0_asks_117 : decode cX0_asks 117 = .ok (.lastore, 1) := dk_80 (dk_at dksX0_asks_4 23 rfl rfl)
theorem dX0_asks_118 : decode cX0_asks 118 = .ok (.aload_n 0, 1) := dk_42 (dk_at dksX0_asks_5 0 rfl rfl)
theorem dX0_asks_119 : decode cX0_asks 119 = .ok (.getfield 64, 3) := dk_180 0 64 (dk_at dksX0_asks_5 1 rfl rfl)
theorem dX0_asks_122 : decode cX0_asks 122 = .ok (.bipush 7, 2) := dk_16 7 (dk_at dksX0_asks_5 4 rfl rfl)
theorem dX0_asks_124 : decode cX0_asks 124 = .ok (.aload_n 1, 1) := dk_43 (dk_at dksX0_asks_5 6 rfl rfl)
theorem dX0_asks_125 : decode cX0_asks 125 = .ok (.aload_n 0, 1) := dk_42 (dk_at dksX0_asks_5 7 rfl rfl)
theorem dX0_asks_126 : decode cX0_asks 126 = .ok (.getfield 10, 3) := dk_180 0 10 (dk_at dksX0_asks_5 8 rfl rfl)
theorem dX0_asks_129 : decode cX0_asks 129 = .ok (.invokevirtual 215, 3) := dk_182 0 215 (dk_at dksX0_asks_5 11 rfl rfl)
theorem dX0_asks_132 : decode cX0_asks 132 = .ok (.invokestatic 219, 3) := dk_184 0 219 (dk_at dksX0_asks_5 14 rfl rfl)
theorem dX0_asks_135 : decode cX0_asks 135 = .ok (.i2l, 1) := dk_133 (dk_at dksX0_asks_5 17 rfl rfl)
theorem dX0_asks_136 : decode cX0_asks 136 = .ok (.lastore, 1) := dk_80 (dk_at dksX0_asks_5 18 rfl rfl)
theorem dX0_asks_137 : decode cX0_asks 137 = .ok (.aload_n 0, 1) := dk_42 (dk_at dksX0_asks_5 19 rfl rfl)
theorem dX0_asks_138 : decode cX0_asks 138 = .ok (.getfield 64, 3) := dk_180 0 64 (dk_at dksX0_asks_5 20 rfl rfl)
theorem dX0_asks_141 : decode cX0_asks 141 = .ok (.bipush 8, 2) := dk_16 8 (dk_at dksX0_asks_6 0 rfl rfl)
theorem dX0_asks_143 : decode cX0_asks 143 = .ok (.aload_n 0, 1) := dk_42 (dk_at dksX0_asks_6 2 rfl rfl)
theorem dX0_asks_144 : decode cX0_asks 144 = .ok (.getfield 10, 3) := dk_180 0 10 (dk_at dksX0_asks_6 3 rfl rfl)
theorem dX0_asks_147 : decode cX0_asks 147 = .ok (.aload_n 1, 1) := dk_43 (dk_at dksX0_asks_6 6 rfl rfl)
theorem dX0_asks_148 : decode cX0_asks 148 = .ok (.getfield 176, 3) := dk_180 0 176 (dk_at dksX0_asks_6 7 rfl rfl)
theorem dX0_asks_151 : decode cX0_asks 151 = .ok (.invokevirtual 179, 3) := dk_182 0 179 (dk_at dksX0_asks_6 10 rfl rfl)
theorem dX0_asks_154 : decode cX0_asks 154 = .ok (.iload_n 3, 1) := dk_29 (dk_at dksX0_asks_6 13 rfl rfl)
theorem dX0_asks_155 : decode cX0_asks 155 = .ok (.invokestatic 166, 3) := dk_184 0 166 (dk_at dksX0_asks_6 14 rfl rfl)
theorem dX0_asks_158 : decode cX0_asks 158 = .ok (.invokestatic 159, 3) := dk_184 0 159 (dk_at dksX0_asks_6 17 rfl rfl)
theorem dX0_asks_161 : decode cX0_asks 161 = .ok (.i2l, 1) := dk_133 (dk_at dksX0_asks_6 20 rfl rfl)
theorem dX0_asks_162 : decode cX0_asks 162 = .ok (.lastore, 1) := dk_80 (dk_at dksX0_asks_6 21 rfl rfl)
theorem dX0_asks_163 : decode cX0_asks 163 = .ok (.aload_n 0, 1) := dk_42 (dk_at dksX0_asks_6 22 rfl rfl)
theorem dX0_asks_164 : decode cX0_asks 164 = .ok (.getfield 64, 3) := dk_180 0 64 (dk_at dksX0_asks_7 0 rfl rfl)
theorem dX0_asks_167 : decode cX0_asks 167 = .ok (.bipush 9, 2) := dk_16 9 (dk_at dksX0_asks_7 3 rfl rfl)
theorem dX0_asks_169 : decode cX0_asks 169 = .ok (.aload_n 0, 1) := dk_42 (dk_at dksX0_asks_7 5 rfl rfl)
theorem dX0_asks_170 : decode cX0_asks 170 = .ok (.iload_n 3, 1) := dk_29 (dk_at dksX0_asks_7 6 rfl rfl)
theorem dX0_asks_171 : decode cX0_asks 171 = .ok (.aload_n 1, 1) := dk_43 (dk_at dksX0_asks_7 7 rfl rfl)
theorem dX0_asks_172 : decode cX0_asks 172 = .ok (.getfield 176, 3) := dk_180 0 176 (dk_at dksX0_asks_7 8 rfl rfl)
theorem dX0_asks_175 : decode cX0_asks 175 = .ok (.invokevirtual 224, 3) := dk_182 0 224 (dk_at dksX0_asks_7 11 rfl rfl)
theorem dX0_asks_178 : decode cX0_asks 178 = .ok (.i2l, 1) := dk_133 (dk_at dksX0_asks_7 14 rfl rfl)
theorem dX0_asks_179 : decode cX0_asks 179 = .ok (.lastore, 1) := dk_80 (dk_at dksX0_asks_7 15 rfl rfl)
theorem dX0_asks_180 : decode cX0_asks 180 = .ok (.aload_n 0, 1) := dk_42 (dk_at dksX0_asks_7 16 rfl rfl)
theorem dX0_asks_181 : decode cX0_asks 181 = .ok (.getfield 64, 3) := dk_180 0 64 (dk_at dksX0_asks_7 17 rfl rfl)
theorem dX0_asks_184 : decode cX0_asks 184 = .ok (.bipush 10, 2) := dk_16 10 (dk_at dksX0_asks_7 20 rfl rfl)
theorem dX0_asks_186 : decode cX0_asks 186 = .ok (.aload_n 1, 1) := dk_43 (dk_at dksX0_asks_7 22 rfl rfl)
theorem dX0_asks_187 : decode cX0_asks 187 = .ok (.aload_n 0, 1) := dk_42 (dk_at dksX0_asks_7 23 rfl rfl)
theorem dX0_asks_188 : decode cX0_asks 188 = .ok (.getfield 10, 3) := dk_180 0 10 (dk_at dksX0_asks_8 0 rfl rfl)
theorem dX0_asks_191 : decode cX0_asks 191 = .ok (.invokevirtual 215, 3) := dk_182 0 215 (dk_at dksX0_asks_8 3 rfl rfl)
theorem dX0_asks_194 : decode cX0_asks 194 = .ok (.aload_n 0, 1) := dk_42 (dk_at dksX0_asks_8 6 rfl rfl)
theorem dX0_asks_195 : decode cX0_asks 195 = .ok (.getfield 10, 3) := dk_180 0 10 (dk_at dksX0_asks_8 7 rfl rfl)
theorem dX0_asks_198 : decode cX0_asks 198 = .ok (.getfield 173, 3) := dk_180 0 173 (dk_at dksX0_asks_8 10 rfl rfl)
theorem dX0_asks_201 : decode cX0_asks 201 = .ok (.iload_n 3, 1) := dk_29 (dk_at dksX0_asks_8 13 rfl rfl)
theorem dX0_asks_202 : decode cX0_asks 202 = .ok (.iaload, 1) := dk_46 (dk_at dksX0_asks_8 14 rfl rfl)
theorem dX0_asks_203 : decode cX0_asks 203 = .ok (.iand, 1) := dk_126 (dk_at dksX0_asks_8 15 rfl rfl)
theorem dX0_asks_204 : decode cX0_asks 204 = .ok (.invokestatic 219, 3) := dk_184 0 219 (dk_at dksX0_asks_8 16 rfl rfl)
theorem dX0_asks_207 : decode cX0_asks 207 = .ok (.i2l, 1) := dk_133 (dk_at dksX0_asks_8 19 rfl rfl)
theorem dX0_asks_208 : decode cX0_asks 208 = .ok (.lastore, 1) := dk_80 (dk_at dksX0_asks_8 20 rfl rfl)
theorem dX0_asks_209 : decode cX0_asks 209 = .ok (.aload_n 0, 1) := dk_42 (dk_at dksX0_asks_8 21 rfl rfl)
theorem dX0_asks_210 : decode cX0_asks 210 = .ok (.getfield 64, 3) := dk_180 0 64 (dk_at dksX0_asks_9 0 rfl rfl)
theorem dX0_asks_213 : decode cX0_asks 213 = .ok (.bipush 11, 2) := dk_16 11 (dk_at dksX0_asks_9 3 rfl rfl)
theorem dX0_asks_215 : decode cX0_asks 215 = .ok (.aload_n 1, 1) := dk_43 (dk_at dksX0_asks_9 5 rfl rfl)
theorem dX0_asks_216 : decode cX0_asks 216 = .ok (.getfield 176, 3) := dk_180 0 176 (dk_at dksX0_asks_9 6 rfl rfl)
theorem dX0_asks_219 : decode cX0_asks 219 = .ok (.i2l, 1) := dk_133 (dk_at dksX0_asks_9 9 rfl rfl)
theorem dX0_asks_220 : decode cX0_asks 220 = .ok (.lastore, 1) := dk_80 (dk_at dksX0_asks_9 10 rfl rfl)
theorem dX0_asks_221 : decode cX0_asks 221 = .ok (.return_, 1) := dk_177 (dk_at dksX0_asks_9 11 rfl rfl)
abbrev cX0_strengthOf : ByteArray := prog_1_method_17_code
def yX0_strengthOf : MethodName := ⟨RX0, "strengthOf", "(I)I"⟩
def dkwX0_strengthOf_1 : List UInt8 := [182, 0, 188, 192, 0, 192, 180, 0, 197, 172]
abbrev dktX0_strengthOf_1 : List UInt8 := dkwX0_strengthOf_1 ++ []
def dkwX0_strengthOf_0 : List UInt8 := [27, 42, 180, 0, 71, 160, 0, 10, 42, 180, 0, 203, 167, 0, 20, 42, 180, 0, 10, 180, 0, 186, 27]
abbrev dktX0_strengthOf_0 : List UInt8 := dkwX0_strengthOf_0 ++ dktX0_strengthOf_1
theorem dksX0_strengthOf_0 : cX0_strengthOf.data.toList.drop 0 = dktX0_strengthOf_0 := by decide +kernel
theorem dksX0_strengthOf_1 : cX0_strengthOf.data.toList.drop 23 = dktX0_strengthOf_1 := dk_seg dksX0_strengthOf_0 23 rfl rfl
theorem dX0_strengthOf_0 : decode cX0_strengthOf 0 = .ok (.iload_n 1, 1) := dk_27 (dk_at dksX0_strengthOf_0 0 rfl rfl)
theorem dX0_strengthOf_1 : decode cX0_strengthOf 1 = .ok (.aload_n 0, 1) := dk_42 (dk_at dksX0_strengthOf_0 1 rfl rfl)
theorem dX0_strengthOf_2 : decode cX0_strengthOf 2 = .ok (.getfield 71, 3) := dk_180 0 71 (dk_at dksX0_strengthOf_0 2 rfl rfl)
theorem dX0_strengthOf_5 : decode cX0_strengthOf 5 = .ok (.if_icmp .ne 10, 3) := dk_160 0 10 (dk_at dksX0_strengthOf_0 5 rfl rfl)
theorem dX0_strengthOf_8 : decode cX0_strengthOf 8 = .ok (.aload_n 0, 1) := dk_42 (dk_at dksX0_strengthOf_0 8 rfl rfl)
theorem dX0_strengthOf_9 : decode cX0_strengthOf 9 = .ok (.getfield 203, 3) := dk_180 0 203 (dk_at dksX0_strengthOf_0 9 rfl rfl)
theorem dX0_strengthOf_12 : decode cX0_strengthOf 12 = .ok (.goto 20, 3) := dk_167 0 20 (dk_at dksX0_strengthOf_0 12 rfl rfl)
theorem dX0_strengthOf_15 : decode cX0_strengthOf 15 = .ok (.aload_n 0, 1) := dk_42 (dk_at dksX0_strengthOf_0 15 rfl rfl)
theorem dX0_strengthOf_16 : decode cX0_strengthOf 16 = .ok (.getfield 10, 3) := dk_180 0 10 (dk_at dksX0_strengthOf_0 16 rfl rfl)
theorem dX0_strengthOf_19 : decode cX0_strengthOf 19 = .ok (.getfield 186, 3) := dk_180 0 186 (dk_at dksX0_strengthOf_0 19 rfl rfl)
theorem dX0_strengthOf_22 : decode cX0_strengthOf 22 = .ok (.iload_n 1, 1) := dk_27 (dk_at dksX0_strengthOf_0 22 rfl rfl)
theorem dX0_strengthOf_23 : decode cX0_strengthOf 23 = .ok (.invokevirtual 188, 3) := dk_182 0 188 (dk_at dksX0_strengthOf_1 0 rfl rfl)
theorem dX0_strengthOf_26 : decode cX0_strengthOf 26 = .ok (.checkcast 192, 3) := dk_192 0 192 (dk_at dksX0_strengthOf_1 3 rfl rfl)
theorem dX0_strengthOf_29 : decode cX0_strengthOf 29 = .ok (.getfield 197, 3) := dk_180 0 197 (dk_at dksX0_strengthOf_1 6 rfl rfl)
theorem dX0_strengthOf_32 : decode cX0_strengthOf 32 = .ok (.ireturn, 1) := dk_172 (dk_at dksX0_strengthOf_1 9 rfl rfl)
abbrev cX0_nextNeed : ByteArray := prog_1_method_18_code
def yX0_nextNeed : MethodName := ⟨RX0, "nextNeed", "(II)I"⟩
def dkwX0_nextNeed_1 : List UInt8 := [29, 28, 100, 172, 132, 3, 1, 167, 255, 227, 16, 99, 172]
abbrev dktX0_nextNeed_1 : List UInt8 := dkwX0_nextNeed_1 ++ []
def dkwX0_nextNeed_0 : List UInt8 := [28, 62, 29, 16, 31, 162, 0, 29, 42, 180, 0, 10, 180, 0, 206, 29, 46, 27, 184, 0, 166, 153, 0, 7]
abbrev dktX0_nextNeed_0 : List UInt8 := dkwX0_nextNeed_0 ++ dktX0_nextNeed_1
theorem dksX0_nextNeed_0 : cX0_nextNeed.data.toList.drop 0 = dktX0_nextNeed_0 := by decide +kernel
theorem dksX0_nextNeed_1 : cX0_nextNeed.data.toList.drop 24 = dktX0_nextNeed_1 := dk_seg dksX0_nextNeed_0 24 rfl rfl
theorem dX0_nextNeed_0 : decode cX0_nextNeed 0 = .ok (.iload_n 2, 1) := dk_28 (dk_at dksX0_nextNeed_0 0 rfl rfl)
theorem dX0_nextNeed_1 : decode cX0_nextNeed 1 = .ok (.istore_n 3, 1) := dk_62 (dk_at dksX0_nextNeed_0 1 rfl rfl)
theorem dX0_nextNeed_2 : decode cX0_nextNeed 2 = .ok (.iload_n 3, 1) := dk_29 (dk_at dksX0_nextNeed_0 2 rfl rfl)
theorem dX0_nextNeed_3 : decode cX0_nextNeed 3 = .ok (.bipush 31, 2) := dk_16 31 (dk_at dksX0_nextNeed_0 3 rfl rfl)
theorem dX0_nextNeed_5 : decode cX0_nextNeed 5 = .ok (.if_icmp .ge 29, 3) := dk_162 0 29 (dk_at dksX0_nextNeed_0 5 rfl rfl)
theorem dX0_nextNeed_8 : decode cX0_nextNeed 8 = .ok (.aload_n 0, 1) := dk_42 (dk_at dksX0_nextNeed_0 8 rfl rfl)
theorem dX0_nextNeed_9 : decode cX0_nextNeed 9 = .ok (.getfield 10, 3) := dk_180 0 10 (dk_at dksX0_nextNeed_0 9 rfl rfl)
theorem dX0_nextNeed_12 : decode cX0_nextNeed 12 = .ok (.getfield 206, 3) := dk_180 0 206 (dk_at dksX0_nextNeed_0 12 rfl rfl)
theorem dX0_nextNeed_15 : decode cX0_nextNeed 15 = .ok (.iload_n 3, 1) := dk_29 (dk_at dksX0_nextNeed_0 15 rfl rfl)
theorem dX0_nextNeed_16 : decode cX0_nextNeed 16 = .ok (.iaload, 1) := dk_46 (dk_at dksX0_nextNeed_0 16 rfl rfl)
theorem dX0_nextNeed_17 : decode cX0_nextNeed 17 = .ok (.iload_n 1, 1) := dk_27 (dk_at dksX0_nextNeed_0 17 rfl rfl)
theorem dX0_nextNeed_18 : decode cX0_nextNeed 18 = .ok (.invokestatic 166, 3) := dk_184 0 166 (dk_at dksX0_nextNeed_0 18 rfl rfl)
theorem dX0_nextNeed_21 : decode cX0_nextNeed 21 = .ok (.ifCond .eq 7, 3) := dk_153 0 7 (dk_at dksX0_nextNeed_0 21 rfl rfl)
theorem dX0_nextNeed_24 : decode cX0_nextNeed 24 = .ok (.iload_n 3, 1) := dk_29 (dk_at dksX0_nextNeed_1 0 rfl rfl)
theorem dX0_nextNeed_25 : decode cX0_nextNeed 25 = .ok (.iload_n 2, 1) := dk_28 (dk_at dksX0_nextNeed_1 1 rfl rfl)
theorem dX0_nextNeed_26 : decode cX0_nextNeed 26 = .ok (.isub, 1) := dk_100 (dk_at dksX0_nextNeed_1 2 rfl rfl)
theorem dX0_nextNeed_27 : decode cX0_nextNeed 27 = .ok (.ireturn, 1) := dk_172 (dk_at dksX0_nextNeed_1 3 rfl rfl)
theorem dX0_nextNeed_28 : decode cX0_nextNeed 28 = .ok (.iinc 3 1, 3) := dk_132 3 1 (dk_at dksX0_nextNeed_1 4 rfl rfl)
theorem dX0_nextNeed_31 : decode cX0_nextNeed 31 = .ok (.goto (-29), 3) := dk_167 255 227 (dk_at dksX0_nextNeed_1 7 rfl rfl)
theorem dX0_nextNeed_34 : decode cX0_nextNeed 34 = .ok (.bipush 99, 2) := dk_16 99 (dk_at dksX0_nextNeed_1 10 rfl rfl)
theorem dX0_nextNeed_36 : decode cX0_nextNeed 36 = .ok (.ireturn, 1) := dk_172 (dk_at dksX0_nextNeed_1 12 rfl rfl)
abbrev cX0_houseSweeps : ByteArray := prog_1_method_21_code
def yX0_houseSweeps : MethodName := ⟨RX0, "houseSweeps", "(LSweptSnow$State;II)I"⟩
def dkwX0_houseSweeps_2 : List UInt8 := [181, 0, 200, 21, 4, 172]
abbrev dktX0_houseSweeps_2 : List UInt8 := dkwX0_houseSweeps_2 ++ []
def dkwX0_houseSweeps_1 : List UInt8 := [180, 0, 68, 43, 180, 0, 170, 29, 46, 92, 46, 21, 4, 96, 79, 43, 89, 180, 0, 200, 4, 28, 120, 128]
abbrev dktX0_houseSweeps_1 : List UInt8 := dkwX0_houseSweeps_1 ++ dktX0_houseSweeps_2
def dkwX0_houseSweeps_0 : List UInt8 := [43, 29, 42, 28, 182, 0, 209, 182, 0, 238, 54, 4, 43, 180, 0, 170, 29, 46, 2, 159, 0, 19, 42]
abbrev dktX0_houseSweeps_0 : List UInt8 := dkwX0_houseSweeps_0 ++ dktX0_houseSweeps_1
theorem dksX0_houseSweeps_0 : cX0_houseSweeps.data.toList.drop 0 = dktX0_houseSweeps_0 := by decide +kernel
theorem dksX0_houseSweeps_1 : cX0_houseSweeps.data.toList.drop 23 = dktX0_houseSweeps_1 := dk_seg dksX0_houseSweeps_0 23 rfl rfl
theorem dksX0_houseSweeps_2 : cX0_houseSweeps.data.toList.drop 47 = dktX0_houseSweeps_2 := dk_seg dksX0_houseSweeps_1 24 rfl rfl
theorem dX0_houseSweeps_0 : decode cX0_houseSweeps 0 = .ok (.aload_n 1, 1) := dk_43 (dk_at dksX0_houseSweeps_0 0 rfl rfl)
theorem dX0_houseSweeps_1 : decode cX0_houseSweeps 1 = .ok (.iload_n 3, 1) := dk_29 (dk_at dksX0_houseSweeps_0 1 rfl rfl)
theorem dX0_houseSweeps_2 : decode cX0_houseSweeps 2 = .ok (.aload_n 0, 1) := dk_42 (dk_at dksX0_houseSweeps_0 2 rfl rfl)
theorem dX0_houseSweeps_3 : decode cX0_houseSweeps 3 = .ok (.iload_n 2, 1) := dk_28 (dk_at dksX0_houseSweeps_0 3 rfl rfl)
theorem dX0_houseSweeps_4 : decode cX0_houseSweeps 4 = .ok (.invokevirtual 209, 3) := dk_182 0 209 (dk_at dksX0_houseSweeps_0 4 rfl rfl)
theorem dX0_houseSweeps_7 : decode cX0_houseSweeps 7 = .ok (.invokevirtual 238, 3) := dk_182 0 238 (dk_at dksX0_houseSweeps_0 7 rfl rfl)
theorem dX0_houseSweeps_10 : decode cX0_houseSweeps 10 = .ok (.istore 4, 2) := dk_54 4 (dk_at dksX0_houseSweeps_0 10 rfl rfl)
theorem dX0_houseSweeps_12 : decode cX0_houseSweeps 12 = .ok (.aload_n 1, 1) := dk_43 (dk_at dksX0_houseSweeps_0 12 rfl rfl)
theorem dX0_houseSweeps_13 : decode cX0_houseSweeps 13 = .ok (.getfield 170, 3) := dk_180 0 170 (dk_at dksX0_houseSweeps_0 13 rfl rfl)
theorem dX0_houseSweeps_16 : decode cX0_houseSweeps 16 = .ok (.iload_n 3, 1) := dk_29 (dk_at dksX0_houseSweeps_0 16 rfl rfl)
theorem dX0_houseSweeps_17 : decode cX0_houseSweeps 17 = .ok (.iaload, 1) := dk_46 (dk_at dksX0_houseSweeps_0 17 rfl rfl)
theorem dX0_houseSweeps_18 : decode cX0_houseSweeps 18 = .ok (.iconst (-1), 1) := dk_2 (dk_at dksX0_houseSweeps_0 18 rfl rfl)
theorem dX0_houseSweeps_19 : decode cX0_houseSweeps 19 = .ok (.if_icmp .eq 19, 3) := dk_159 0 19 (dk_at dksX0_houseSweeps_0 19 rfl rfl)
theorem dX0_houseSweeps_22 : decode cX0_houseSweeps 22 = .ok (.aload_n 0, 1) := dk_42 (dk_at dksX0_houseSweeps_0 22 rfl rfl)
theorem dX0_houseSweeps_23 : decode cX0_houseSweeps 23 = .ok (.getfield 68, 3) := dk_180 0 68 (dk_at dksX0_houseSweeps_1 0 rfl rfl)
theorem dX0_houseSweeps_26 : decode cX0_houseSweeps 26 = .ok (.aload_n 1, 1) := dk_43 (dk_at dksX0_houseSweeps_1 3 rfl rfl)
theorem dX0_houseSweeps_27 : decode cX0_houseSweeps 27 = .ok (.getfield 170, 3) := dk_180 0 170 (dk_at dksX0_houseSweeps_1 4 rfl rfl)
theorem dX0_houseSweeps_30 : decode cX0_houseSweeps 30 = .ok (.iload_n 3, 1) := dk_29 (dk_at dksX0_houseSweeps_1 7 rfl rfl)
theorem dX0_houseSweeps_31 : decode cX0_houseSweeps 31 = .ok (.iaload, 1) := dk_46 (dk_at dksX0_houseSweeps_1 8 rfl rfl)
theorem dX0_houseSweeps_32 : decode cX0_houseSweeps 32 = .ok (.dup2, 1) := dk_92 (dk_at dksX0_houseSweeps_1 9 rfl rfl)
theorem dX0_houseSweeps_33 : decode cX0_houseSweeps 33 = .ok (.iaload, 1) := dk_46 (dk_at dksX0_houseSweeps_1 10 rfl rfl)
theorem dX0_houseSweeps_34 : decode cX0_houseSweeps 34 = .ok (.iload 4, 2) := dk_21 4 (dk_at dksX0_houseSweeps_1 11 rfl rfl)
theorem dX0_houseSweeps_36 : decode cX0_houseSweeps 36 = .ok (.iadd, 1) := dk_96 (dk_at dksX0_houseSweeps_1 13 rfl rfl)
theorem dX0_houseSweeps_37 : decode cX0_houseSweeps 37 = .ok (.iastore, 1) := dk_79 (dk_at dksX0_houseSweeps_1 14 rfl rfl)
theorem dX0_houseSweeps_38 : decode cX0_houseSweeps 38 = .ok (.aload_n 1, 1) := dk_43 (dk_at dksX0_houseSweeps_1 15 rfl rfl)
theorem dX0_houseSweeps_39 : decode cX0_houseSweeps 39 = .ok (.dup, 1) := dk_89 (dk_at dksX0_houseSweeps_1 16 rfl rfl)
theorem dX0_houseSweeps_40 : decode cX0_houseSweeps 40 = .ok (.getfield 200, 3) := dk_180 0 200 (dk_at dksX0_houseSweeps_1 17 rfl rfl)
theorem dX0_houseSweeps_43 : decode cX0_houseSweeps 43 = .ok (.iconst 1, 1) := dk_4 (dk_at dksX0_houseSweeps_1 20 rfl rfl)
theorem dX0_houseSweeps_44 : decode cX0_houseSweeps 44 = .ok (.iload_n 2, 1) := dk_28 (dk_at dksX0_houseSweeps_1 21 rfl rfl)
theorem dX0_houseSweeps_45 : decode cX0_houseSweeps 45 = .ok (.ishl, 1) := dk_120 (dk_at dksX0_houseSweeps_1 22 rfl rfl)
theorem dX0_houseSweeps_46 : decode cX0_houseSweeps 46 = .ok (.ior, 1) := dk_128 (dk_at dksX0_houseSweeps_1 23 rfl rfl)
theorem dX0_houseSweeps_47 : decode cX0_houseSweeps 47 = .ok (.putfield 200, 3) := dk_181 0 200 (dk_at dksX0_houseSweeps_2 0 rfl rfl)
theorem dX0_houseSweeps_50 : decode cX0_houseSweeps 50 = .ok (.iload 4, 2) := dk_21 4 (dk_at dksX0_houseSweeps_2 3 rfl rfl)
theorem dX0_houseSweeps_52 : decode cX0_houseSweeps 52 = .ok (.ireturn, 1) := dk_172 (dk_at dksX0_houseSweeps_2 5 rfl rfl)
abbrev cX0_sweep : ByteArray := prog_1_method_28_code
def yX0_sweep : MethodName := ⟨RX0, "sweep", "(II)I"⟩
def dkwX0_sweep_2 : List UInt8 := [42, 42, 180, 0, 19, 27, 28, 182, 0, 245, 172]
abbrev dktX0_sweep_2 : List UInt8 := dkwX0_sweep_2 ++ []
def dkwX0_sweep_1 : List UInt8 := [184, 0, 166, 154, 0, 15, 42, 180, 0, 19, 180, 0, 153, 28, 46, 154, 0, 5, 2, 172, 42, 182, 1, 16]
abbrev dktX0_sweep_1 : List UInt8 := dkwX0_sweep_1 ++ dktX0_sweep_2
def dkwX0_sweep_0 : List UInt8 := [42, 27, 182, 0, 183, 153, 0, 37, 42, 28, 182, 0, 149, 153, 0, 29, 42, 180, 0, 19, 180, 0, 200, 27]
abbrev dktX0_sweep_0 : List UInt8 := dkwX0_sweep_0 ++ dktX0_sweep_1
theorem dksX0_sweep_0 : cX0_sweep.data.toList.drop 0 = dktX0_sweep_0 := by decide +kernel
theorem dksX0_sweep_1 : cX0_sweep.data.toList.drop 24 = dktX0_sweep_1 := dk_seg dksX0_sweep_0 24 rfl rfl
theorem dksX0_sweep_2 : cX0_sweep.data.toList.drop 48 = dktX0_sweep_2 := dk_seg dksX0_sweep_1 24 rfl rfl
theorem dX0_sweep_0 : decode cX0_sweep 0 = .ok (.aload_n 0, 1) := dk_42 (dk_at dksX0_sweep_0 0 rfl rfl)
theorem dX0_sweep_1 : decode cX0_sweep 1 = .ok (.iload_n 1, 1) := dk_27 (dk_at dksX0_sweep_0 1 rfl rfl)
theorem dX0_sweep_2 : decode cX0_sweep 2 = .ok (.invokevirtual 183, 3) := dk_182 0 183 (dk_at dksX0_sweep_0 2 rfl rfl)
theorem dX0_sweep_5 : decode cX0_sweep 5 = .ok (.ifCond .eq 37, 3) := dk_153 0 37 (dk_at dksX0_sweep_0 5 rfl rfl)
theorem dX0_sweep_8 : decode cX0_sweep 8 = .ok (.aload_n 0, 1) := dk_42 (dk_at dksX0_sweep_0 8 rfl rfl)
theorem dX0_sweep_9 : decode cX0_sweep 9 = .ok (.iload_n 2, 1) := dk_28 (dk_at dksX0_sweep_0 9 rfl rfl)
theorem dX0_sweep_10 : decode cX0_sweep 10 = .ok (.invokevirtual 149, 3) := dk_182 0 149 (dk_at dksX0_sweep_0 10 rfl rfl)
theorem dX0_sweep_13 : decode cX0_sweep 13 = .ok (.ifCond .eq 29, 3) := dk_153 0 29 (dk_at dksX0_sweep_0 13 rfl rfl)
theorem dX0_sweep_16 : decode cX0_sweep 16 = .ok (.aload_n 0, 1) := dk_42 (dk_at dksX0_sweep_0 16 rfl rfl)
theorem dX0_sweep_17 : decode cX0_sweep 17 = .ok (.getfield 19, 3) := dk_180 0 19 (dk_at dksX0_sweep_0 17 rfl rfl)
theorem dX0_sweep_20 : decode cX0_sweep 20 = .ok (.getfield 200, 3) := dk_180 0 200 (dk_at dksX0_sweep_0 20 rfl rfl)
theorem dX0_sweep_23 : decode cX0_sweep 23 = .ok (.iload_n 1, 1) := dk_27 (dk_at dksX0_sweep_0 23 rfl rfl)
theorem dX0_sweep_24 : decode cX0_sweep 24 = .ok (.invokestatic 166, 3) := dk_184 0 166 (dk_at dksX0_sweep_1 0 rfl rfl)
theorem dX0_sweep_27 : decode cX0_sweep 27 = .ok (.ifCond .ne 15, 3) := dk_154 0 15 (dk_at dksX0_sweep_1 3 rfl rfl)
theorem dX0_sweep_30 : decode cX0_sweep 30 = .ok (.aload_n 0, 1) := dk_42 (dk_at dksX0_sweep_1 6 rfl rfl)
theorem dX0_sweep_31 : decode cX0_sweep 31 = .ok (.getfield 19, 3) := dk_180 0 19 (dk_at dksX0_sweep_1 7 rfl rfl)
theorem dX0_sweep_34 : decode cX0_sweep 34 = .ok (.getfield 153, 3) := dk_180 0 153 (dk_at dksX0_sweep_1 10 rfl rfl)
theorem dX0_sweep_37 : decode cX0_sweep 37 = .ok (.iload_n 2, 1) := dk_28 (dk_at dksX0_sweep_1 13 rfl rfl)
theorem dX0_sweep_38 : decode cX0_sweep 38 = .ok (.iaload, 1) := dk_46 (dk_at dksX0_sweep_1 14 rfl rfl)
theorem dX0_sweep_39 : decode cX0_sweep 39 = .ok (.ifCond .ne 5, 3) := dk_154 0 5 (dk_at dksX0_sweep_1 15 rfl rfl)
theorem dX0_sweep_42 : decode cX0_sweep 42 = .ok (.iconst (-1), 1) := dk_2 (dk_at dksX0_sweep_1 18 rfl rfl)
theorem dX0_sweep_43 : decode cX0_sweep 43 = .ok (.ireturn, 1) := dk_172 (dk_at dksX0_sweep_1 19 rfl rfl)
theorem dX0_sweep_44 : decode cX0_sweep 44 = .ok (.aload_n 0, 1) := dk_42 (dk_at dksX0_sweep_1 20 rfl rfl)
theorem dX0_sweep_45 : decode cX0_sweep 45 = .ok (.invokevirtual 272, 3) := dk_182 1 16 (dk_at dksX0_sweep_1 21 rfl rfl)
theorem dX0_sweep_48 : decode cX0_sweep 48 = .ok (.aload_n 0, 1) := dk_42 (dk_at dksX0_sweep_2 0 rfl rfl)
theorem dX0_sweep_49 : decode cX0_sweep 49 = .ok (.aload_n 0, 1) := dk_42 (dk_at dksX0_sweep_2 1 rfl rfl)
theorem dX0_sweep_50 : decode cX0_sweep 50 = .ok (.getfield 19, 3) := dk_180 0 19 (dk_at dksX0_sweep_2 2 rfl rfl)
theorem dX0_sweep_53 : decode cX0_sweep 53 = .ok (.iload_n 1, 1) := dk_27 (dk_at dksX0_sweep_2 5 rfl rfl)
theorem dX0_sweep_54 : decode cX0_sweep 54 = .ok (.iload_n 2, 1) := dk_28 (dk_at dksX0_sweep_2 6 rfl rfl)
theorem dX0_sweep_55 : decode cX0_sweep 55 = .ok (.invokevirtual 245, 3) := dk_182 0 245 (dk_at dksX0_sweep_2 7 rfl rfl)
theorem dX0_sweep_58 : decode cX0_sweep 58 = .ok (.ireturn, 1) := dk_172 (dk_at dksX0_sweep_2 10 rfl rfl)
abbrev cX0_toss : ByteArray := prog_1_method_29_code
def yX0_toss : MethodName := ⟨RX0, "toss", "(II)I"⟩
def dkwX0_toss_1 : List UInt8 := [182, 1, 16, 42, 180, 0, 19, 27, 28, 182, 1, 21, 42, 180, 0, 19, 180, 0, 153, 27, 46, 172]
abbrev dktX0_toss_1 : List UInt8 := dkwX0_toss_1 ++ []
def dkwX0_toss_0 : List UInt8 := [42, 27, 182, 0, 149, 153, 0, 15, 28, 133, 10, 20, 1, 19, 184, 0, 107, 154, 0, 5, 2, 172, 42]
abbrev dktX0_toss_0 : List UInt8 := dkwX0_toss_0 ++ dktX0_toss_1
theorem dksX0_toss_0 : cX0_toss.data.toList.drop 0 = dktX0_toss_0 := by decide +kernel
theorem dksX0_toss_1 : cX0_toss.data.toList.drop 23 = dktX0_toss_1 := dk_seg dksX0_toss_0 23 rfl rfl
theorem dX0_toss_0 : decode cX0_toss 0 = .ok (.aload_n 0, 1) := dk_42 (dk_at dksX0_toss_0 0 rfl rfl)
theorem dX0_toss_1 : decode cX0_toss 1 = .ok (.iload_n 1, 1) := dk_27 (dk_at dksX0_toss_0 1 rfl rfl)
theorem dX0_toss_2 : decode cX0_toss 2 = .ok (.invokevirtual 149, 3) := dk_182 0 149 (dk_at dksX0_toss_0 2 rfl rfl)
theorem dX0_toss_5 : decode cX0_toss 5 = .ok (.ifCond .eq 15, 3) := dk_153 0 15 (dk_at dksX0_toss_0 5 rfl rfl)
theorem dX0_toss_8 : decode cX0_toss 8 = .ok (.iload_n 2, 1) := dk_28 (dk_at dksX0_toss_0 8 rfl rfl)
theorem dX0_toss_9 : decode cX0_toss 9 = .ok (.i2l, 1) := dk_133 (dk_at dksX0_toss_0 9 rfl rfl)
theorem dX0_toss_10 : decode cX0_toss 10 = .ok (.lconst 1, 1) := dk_10 (dk_at dksX0_toss_0 10 rfl rfl)
theorem dX0_toss_11 : decode cX0_toss 11 = .ok (.ldc2_w 275, 3) := dk_20 1 19 (dk_at dksX0_toss_0 11 rfl rfl)
theorem dX0_toss_14 : decode cX0_toss 14 = .ok (.invokestatic 107, 3) := dk_184 0 107 (dk_at dksX0_toss_0 14 rfl rfl)
theorem dX0_toss_17 : decode cX0_toss 17 = .ok (.ifCond .ne 5, 3) := dk_154 0 5 (dk_at dksX0_toss_0 17 rfl rfl)
theorem dX0_toss_20 : decode cX0_toss 20 = .ok (.iconst (-1), 1) := dk_2 (dk_at dksX0_toss_0 20 rfl rfl)
theorem dX0_toss_21 : decode cX0_toss 21 = .ok (.ireturn, 1) := dk_172 (dk_at dksX0_toss_0 21 rfl rfl)
theorem dX0_toss_22 : decode cX0_toss 22 = .ok (.aload_n 0, 1) := dk_42 (dk_at dksX0_toss_0 22 rfl rfl)
theorem dX0_toss_23 : decode cX0_toss 23 = .ok (.invokevirtual 272, 3) := dk_182 1 16 (dk_at dksX0_toss_1 0 rfl rfl)
theorem dX0_toss_26 : decode cX0_toss 26 = .ok (.aload_n 0, 1) := dk_42 (dk_at dksX0_toss_1 3 rfl rfl)
theorem dX0_toss_27 : decode cX0_toss 27 = .ok (.getfield 19, 3) := dk_180 0 19 (dk_at dksX0_toss_1 4 rfl rfl)
theorem dX0_toss_30 : decode cX0_toss 30 = .ok (.iload_n 1, 1) := dk_27 (dk_at dksX0_toss_1 7 rfl rfl)
theorem dX0_toss_31 : decode cX0_toss 31 = .ok (.iload_n 2, 1) := dk_28 (dk_at dksX0_toss_1 8 rfl rfl)
theorem dX0_toss_32 : decode cX0_toss 32 = .ok (.invokevirtual 277, 3) := dk_182 1 21 (dk_at dksX0_toss_1 9 rfl rfl)
theorem dX0_toss_35 : decode cX0_toss 35 = .ok (.aload_n 0, 1) := dk_42 (dk_at dksX0_toss_1 12 rfl rfl)
theorem dX0_toss_36 : decode cX0_toss 36 = .ok (.getfield 19, 3) := dk_180 0 19 (dk_at dksX0_toss_1 13 rfl rfl)
theorem dX0_toss_39 : decode cX0_toss 39 = .ok (.getfield 153, 3) := dk_180 0 153 (dk_at dksX0_toss_1 16 rfl rfl)
theorem dX0_toss_42 : decode cX0_toss 42 = .ok (.iload_n 1, 1) := dk_27 (dk_at dksX0_toss_1 19 rfl rfl)
theorem dX0_toss_43 : decode cX0_toss 43 = .ok (.iaload, 1) := dk_46 (dk_at dksX0_toss_1 20 rfl rfl)
theorem dX0_toss_44 : decode cX0_toss 44 = .ok (.ireturn, 1) := dk_172 (dk_at dksX0_toss_1 21 rfl rfl)
abbrev cX0_pull : ByteArray := prog_1_method_30_code
def yX0_pull : MethodName := ⟨RX0, "pull", "(I)I"⟩
def dkwX0_pull_2 : List UInt8 := [172]
abbrev dktX0_pull_2 : List UInt8 := dkwX0_pull_2 ++ []
def dkwX0_pull_1 : List UInt8 := [182, 1, 16, 42, 180, 0, 19, 180, 0, 170, 27, 46, 61, 42, 180, 0, 19, 180, 0, 170, 27, 2, 79, 28]
abbrev dktX0_pull_1 : List UInt8 := dkwX0_pull_1 ++ dktX0_pull_2
def dkwX0_pull_0 : List UInt8 := [42, 27, 182, 0, 149, 153, 0, 16, 42, 180, 0, 19, 180, 0, 170, 27, 46, 2, 160, 0, 5, 2, 172, 42]
abbrev dktX0_pull_0 : List UInt8 := dkwX0_pull_0 ++ dktX0_pull_1
theorem dksX0_pull_0 : cX0_pull.data.toList.drop 0 = dktX0_pull_0 := by decide +kernel
theorem dksX0_pull_1 : cX0_pull.data.toList.drop 24 = dktX0_pull_1 := dk_seg dksX0_pull_0 24 rfl rfl
theorem dksX0_pull_2 : cX0_pull.data.toList.drop 48 = dktX0_pull_2 := dk_seg dksX0_pull_1 24 rfl rfl
theorem dX0_pull_0 : decode cX0_pull 0 = .ok (.aload_n 0, 1) := dk_42 (dk_at dksX0_pull_0 0 rfl rfl)
theorem dX0_pull_1 : decode cX0_pull 1 = .ok (.iload_n 1, 1) := dk_27 (dk_at dksX0_pull_0 1 rfl rfl)
theorem dX0_pull_2 : decode cX0_pull 2 = .ok (.invokevirtual 149, 3) := dk_182 0 149 (dk_at dksX0_pull_0 2 rfl rfl)
theorem dX0_pull_5 : decode cX0_pull 5 = .ok (.ifCond .eq 16, 3) := dk_153 0 16 (dk_at dksX0_pull_0 5 rfl rfl)
theorem dX0_pull_8 : decode cX0_pull 8 = .ok (.aload_n 0, 1) := dk_42 (dk_at dksX0_pull_0 8 rfl rfl)
theorem dX0_pull_9 : decode cX0_pull 9 = .ok (.getfield 19, 3) := dk_180 0 19 (dk_at dksX0_pull_0 9 rfl rfl)
theorem dX0_pull_12 : decode cX0_pull 12 = .ok (.getfield 170, 3) := dk_180 0 170 (dk_at dksX0_pull_0 12 rfl rfl)
theorem dX0_pull_15 : decode cX0_pull 15 = .ok (.iload_n 1, 1) := dk_27 (dk_at dksX0_pull_0 15 rfl rfl)
theorem dX0_pull_16 : decode cX0_pull 16 = .ok (.iaload, 1) := dk_46 (dk_at dksX0_pull_0 16 rfl rfl)
theorem dX0_pull_17 : decode cX0_pull 17 = .ok (.iconst (-1), 1) := dk_2 (dk_at dksX0_pull_0 17 rfl rfl)
theorem dX0_pull_18 : decode cX0_pull 18 = .ok (.if_icmp .ne 5, 3) := dk_160 0 5 (dk_at dksX0_pull_0 18 rfl rfl)
theorem dX0_pull_21 : decode cX0_pull 21 = .ok (.iconst (-1), 1) := dk_2 (dk_at dksX0_pull_0 21 rfl rfl)
theorem dX0_pull_22 : decode cX0_pull 22 = .ok (.ireturn, 1) := dk_172 (dk_at dksX0_pull_0 22 rfl rfl)
theorem dX0_pull_23 : decode cX0_pull 23 = .ok (.aload_n 0, 1) := dk_42 (dk_at dksX0_pull_0 23 rfl rfl)
theorem dX0_pull_24 : decode cX0_pull 24 = .ok (.invokevirtual 272, 3) := dk_182 1 16 (dk_at dksX0_pull_1 0 rfl rfl)
theorem dX0_pull_27 : decode cX0_pull 27 = .ok (.aload_n 0, 1) := dk_42 (dk_at dksX0_pull_1 3 rfl rfl)
theorem dX0_pull_28 : decode cX0_pull 28 = .ok (.getfield 19, 3) := dk_180 0 19 (dk_at dksX0_pull_1 4 rfl rfl)
theorem dX0_pull_31 : decode cX0_pull 31 = .ok (.getfield 170, 3) := dk_180 0 170 (dk_at dksX0_pull_1 7 rfl rfl)
theorem dX0_pull_34 : decode cX0_pull 34 = .ok (.iload_n 1, 1) := dk_27 (dk_at dksX0_pull_1 10 rfl rfl)
theorem dX0_pull_35 : decode cX0_pull 35 = .ok (.iaload, 1) := dk_46 (dk_at dksX0_pull_1 11 rfl rfl)
theorem dX0_pull_36 : decode cX0_pull 36 = .ok (.istore_n 2, 1) := dk_61 (dk_at dksX0_pull_1 12 rfl rfl)
theorem dX0_pull_37 : decode cX0_pull 37 = .ok (.aload_n 0, 1) := dk_42 (dk_at dksX0_pull_1 13 rfl rfl)
theorem dX0_pull_38 : decode cX0_pull 38 = .ok (.getfield 19, 3) := dk_180 0 19 (dk_at dksX0_pull_1 14 rfl rfl)
theorem dX0_pull_41 : decode cX0_pull 41 = .ok (.getfield 170, 3) := dk_180 0 170 (dk_at dksX0_pull_1 17 rfl rfl)
theorem dX0_pull_44 : decode cX0_pull 44 = .ok (.iload_n 1, 1) := dk_27 (dk_at dksX0_pull_1 20 rfl rfl)
theorem dX0_pull_45 : decode cX0_pull 45 = .ok (.iconst (-1), 1) := dk_2 (dk_at dksX0_pull_1 21 rfl rfl)
theorem dX0_pull_46 : decode cX0_pull 46 = .ok (.iastore, 1) := dk_79 (dk_at dksX0_pull_1 22 rfl rfl)
theorem dX0_pull_47 : decode cX0_pull 47 = .ok (.iload_n 2, 1) := dk_28 (dk_at dksX0_pull_1 23 rfl rfl)
theorem dX0_pull_48 : decode cX0_pull 48 = .ok (.ireturn, 1) := dk_172 (dk_at dksX0_pull_2 0 rfl rfl)
abbrev cX0_thaw : ByteArray := prog_1_method_31_code
def yX0_thaw : MethodName := ⟨RX0, "thaw", "()I"⟩
def dkwX0_thaw_2 : List UInt8 := [167, 255, 229, 42, 180, 0, 19, 182, 1, 25, 172]
abbrev dktX0_thaw_2 : List UInt8 := dkwX0_thaw_2 ++ []
def dkwX0_thaw_1 : List UInt8 := [182, 0, 103, 162, 0, 22, 42, 180, 0, 19, 180, 0, 153, 27, 92, 46, 5, 108, 79, 132, 1, 1]
abbrev dktX0_thaw_1 : List UInt8 := dkwX0_thaw_1 ++ dktX0_thaw_2
def dkwX0_thaw_0 : List UInt8 := [42, 180, 0, 19, 182, 1, 25, 154, 0, 5, 2, 172, 42, 182, 1, 16, 3, 60, 27, 42, 180, 0, 10]
abbrev dktX0_thaw_0 : List UInt8 := dkwX0_thaw_0 ++ dktX0_thaw_1
theorem dksX0_thaw_0 : cX0_thaw.data.toList.drop 0 = dktX0_thaw_0 := by decide +kernel
theorem dksX0_thaw_1 : cX0_thaw.data.toList.drop 23 = dktX0_thaw_1 := dk_seg dksX0_thaw_0 23 rfl rfl
theorem dksX0_thaw_2 : cX0_thaw.data.toList.drop 45 = dktX0_thaw_2 := dk_seg dksX0_thaw_1 22 rfl rfl
theorem dX0_thaw_0 : decode cX0_thaw 0 = .ok (.aload_n 0, 1) := dk_42 (dk_at dksX0_thaw_0 0 rfl rfl)
theorem dX0_thaw_1 : decode cX0_thaw 1 = .ok (.getfield 19, 3) := dk_180 0 19 (dk_at dksX0_thaw_0 1 rfl rfl)
theorem dX0_thaw_4 : decode cX0_thaw 4 = .ok (.invokevirtual 281, 3) := dk_182 1 25 (dk_at dksX0_thaw_0 4 rfl rfl)
theorem dX0_thaw_7 : decode cX0_thaw 7 = .ok (.ifCond .ne 5, 3) := dk_154 0 5 (dk_at dksX0_thaw_0 7 rfl rfl)
theorem dX0_thaw_10 : decode cX0_thaw 10 = .ok (.iconst (-1), 1) := dk_2 (dk_at dksX0_thaw_0 10 rfl rfl)
theorem dX0_thaw_11 : decode cX0_thaw 11 = .ok (.ireturn, 1) := dk_172 (dk_at dksX0_thaw_0 11 rfl rfl)
theorem dX0_thaw_12 : decode cX0_thaw 12 = .ok (.aload_n 0, 1) := dk_42 (dk_at dksX0_thaw_0 12 rfl rfl)
theorem dX0_thaw_13 : decode cX0_thaw 13 = .ok (.invokevirtual 272, 3) := dk_182 1 16 (dk_at dksX0_thaw_0 13 rfl rfl)
theorem dX0_thaw_16 : decode cX0_thaw 16 = .ok (.iconst 0, 1) := dk_3 (dk_at dksX0_thaw_0 16 rfl rfl)
theorem dX0_thaw_17 : decode cX0_thaw 17 = .ok (.istore_n 1, 1) := dk_60 (dk_at dksX0_thaw_0 17 rfl rfl)
theorem dX0_thaw_18 : decode cX0_thaw 18 = .ok (.iload_n 1, 1) := dk_27 (dk_at dksX0_thaw_0 18 rfl rfl)
theorem dX0_thaw_19 : decode cX0_thaw 19 = .ok (.aload_n 0, 1) := dk_42 (dk_at dksX0_thaw_0 19 rfl rfl)
theorem dX0_thaw_20 : decode cX0_thaw 20 = .ok (.getfield 10, 3) := dk_180 0 10 (dk_at dksX0_thaw_0 20 rfl rfl)
theorem dX0_thaw_23 : decode cX0_thaw 23 = .ok (.invokevirtual 103, 3) := dk_182 0 103 (dk_at dksX0_thaw_1 0 rfl rfl)
theorem dX0_thaw_26 : decode cX0_thaw 26 = .ok (.if_icmp .ge 22, 3) := dk_162 0 22 (dk_at dksX0_thaw_1 3 rfl rfl)
theorem dX0_thaw_29 : decode cX0_thaw 29 = .ok (.aload_n 0, 1) := dk_42 (dk_at dksX0_thaw_1 6 rfl rfl)
theorem dX0_thaw_30 : decode cX0_thaw 30 = .ok (.getfield 19, 3) := dk_180 0 19 (dk_at dksX0_thaw_1 7 rfl rfl)
theorem dX0_thaw_33 : decode cX0_thaw 33 = .ok (.getfield 153, 3) := dk_180 0 153 (dk_at dksX0_thaw_1 10 rfl rfl)
theorem dX0_thaw_36 : decode cX0_thaw 36 = .ok (.iload_n 1, 1) := dk_27 (dk_at dksX0_thaw_1 13 rfl rfl)
theorem dX0_thaw_37 : decode cX0_thaw 37 = .ok (.dup2, 1) := dk_92 (dk_at dksX0_thaw_1 14 rfl rfl)
theorem dX0_thaw_38 : decode cX0_thaw 38 = .ok (.iaload, 1) := dk_46 (dk_at dksX0_thaw_1 15 rfl rfl)
theorem dX0_thaw_39 : decode cX0_thaw 39 = .ok (.iconst 2, 1) := dk_5 (dk_at dksX0_thaw_1 16 rfl rfl)
theorem dX0_thaw_40 : decode cX0_thaw 40 = .ok (.idiv, 1) := dk_108 (dk_at dksX0_thaw_1 17 rfl rfl)
theorem dX0_thaw_41 : decode cX0_thaw 41 = .ok (.iastore, 1) := dk_79 (dk_at dksX0_thaw_1 18 rfl rfl)
theorem dX0_thaw_42 : decode cX0_thaw 42 = .ok (.iinc 1 1, 3) := dk_132 1 1 (dk_at dksX0_thaw_1 19 rfl rfl)
theorem dX0_thaw_45 : decode cX0_thaw 45 = .ok (.goto (-27), 3) := dk_167 255 229 (dk_at dksX0_thaw_2 0 rfl rfl)
theorem dX0_thaw_48 : decode cX0_thaw 48 = .ok (.aload_n 0, 1) := dk_42 (dk_at dksX0_thaw_2 3 rfl rfl)
theorem dX0_thaw_49 : decode cX0_thaw 49 = .ok (.getfield 19, 3) := dk_180 0 19 (dk_at dksX0_thaw_2 4 rfl rfl)
theorem dX0_thaw_52 : decode cX0_thaw 52 = .ok (.invokevirtual 281, 3) := dk_182 1 25 (dk_at dksX0_thaw_2 7 rfl rfl)
theorem dX0_thaw_55 : decode cX0_thaw 55 = .ok (.ireturn, 1) := dk_172 (dk_at dksX0_thaw_2 10 rfl rfl)
abbrev cX0_ahead : ByteArray := prog_1_method_32_code
def yX0_ahead : MethodName := ⟨RX0, "ahead", "(III)I"⟩
def dkwX0_ahead_3 : List UInt8 := [46, 167, 0, 17, 42, 180, 0, 23, 42, 180, 0, 10, 182, 0, 215, 184, 0, 219, 172]
abbrev dktX0_ahead_3 : List UInt8 := dkwX0_ahead_3 ++ []
def dkwX0_ahead_2 : List UInt8 := [42, 180, 0, 19, 182, 1, 3, 42, 28, 182, 1, 30, 29, 154, 0, 15, 42, 180, 0, 23, 180, 0, 153, 27]
abbrev dktX0_ahead_2 : List UInt8 := dkwX0_ahead_2 ++ dktX0_ahead_3
def dkwX0_ahead_1 : List UInt8 := [184, 0, 107, 153, 0, 15, 29, 154, 0, 13, 42, 27, 182, 0, 149, 154, 0, 5, 2, 172, 42, 180, 0, 23]
abbrev dktX0_ahead_1 : List UInt8 := dkwX0_ahead_1 ++ dktX0_ahead_2
def dkwX0_ahead_0 : List UInt8 := [42, 182, 1, 12, 153, 0, 37, 28, 133, 9, 20, 1, 28, 184, 0, 107, 153, 0, 25, 29, 133, 9, 10]
abbrev dktX0_ahead_0 : List UInt8 := dkwX0_ahead_0 ++ dktX0_ahead_1
theorem dksX0_ahead_0 : cX0_ahead.data.toList.drop 0 = dktX0_ahead_0 := by decide +kernel
theorem dksX0_ahead_1 : cX0_ahead.data.toList.drop 23 = dktX0_ahead_1 := dk_seg dksX0_ahead_0 23 rfl rfl
theorem dksX0_ahead_2 : cX0_ahead.data.toList.drop 47 = dktX0_ahead_2 := dk_seg dksX0_ahead_1 24 rfl rfl
theorem dksX0_ahead_3 : cX0_ahead.data.toList.drop 71 = dktX0_ahead_3 := dk_seg dksX0_ahead_2 24 rfl rfl
theorem dX0_ahead_0 : decode cX0_ahead 0 = .ok (.aload_n 0, 1) := dk_42 (dk_at dksX0_ahead_0 0 rfl rfl)
theorem dX0_ahead_1 : decode cX0_ahead 1 = .ok (.invokevirtual 268, 3) := dk_182 1 12 (dk_at dksX0_ahead_0 1 rfl rfl)
theorem dX0_ahead_4 : decode cX0_ahead 4 = .ok (.ifCond .eq 37, 3) := dk_153 0 37 (dk_at dksX0_ahead_0 4 rfl rfl)
theorem dX0_ahead_7 : decode cX0_ahead 7 = .ok (.iload_n 2, 1) := dk_28 (dk_at dksX0_ahead_0 7 rfl rfl)
theorem dX0_ahead_8 : decode cX0_ahead 8 = .ok (.i2l, 1) := dk_133 (dk_at dksX0_ahead_0 8 rfl rfl)
theorem dX0_ahead_9 : decode cX0_ahead 9 = .ok (.lconst 0, 1) := dk_9 (dk_at dksX0_ahead_0 9 rfl rfl)
theorem dX0_ahead_10 : decode cX0_ahead 10 = .ok (.ldc2_w 284, 3) := dk_20 1 28 (dk_at dksX0_ahead_0 10 rfl rfl)
theorem dX0_ahead_13 : decode cX0_ahead 13 = .ok (.invokestatic 107, 3) := dk_184 0 107 (dk_at dksX0_ahead_0 13 rfl rfl)
theorem dX0_ahead_16 : decode cX0_ahead 16 = .ok (.ifCond .eq 25, 3) := dk_153 0 25 (dk_at dksX0_ahead_0 16 rfl rfl)
theorem dX0_ahead_19 : decode cX0_ahead 19 = .ok (.iload_n 3, 1) := dk_29 (dk_at dksX0_ahead_0 19 rfl rfl)
theorem dX0_ahead_20 : decode cX0_ahead 20 = .ok (.i2l, 1) := dk_133 (dk_at dksX0_ahead_0 20 rfl rfl)
theorem dX0_ahead_21 : decode cX0_ahead 21 = .ok (.lconst 0, 1) := dk_9 (dk_at dksX0_ahead_0 21 rfl rfl)
theorem dX0_ahead_22 : decode cX0_ahead 22 = .ok (.lconst 1, 1) := dk_10 (dk_at dksX0_ahead_0 22 rfl rfl)
theorem dX0_ahead_23 : decode cX0_ahead 23 = .ok (.invokestatic 107, 3) := dk_184 0 107 (dk_at dksX0_ahead_1 0 rfl rfl)
theorem dX0_ahead_26 : decode cX0_ahead 26 = .ok (.ifCond .eq 15, 3) := dk_153 0 15 (dk_at dksX0_ahead_1 3 rfl rfl)
theorem dX0_ahead_29 : decode cX0_ahead 29 = .ok (.iload_n 3, 1) := dk_29 (dk_at dksX0_ahead_1 6 rfl rfl)
theorem dX0_ahead_30 : decode cX0_ahead 30 = .ok (.ifCond .ne 13, 3) := dk_154 0 13 (dk_at dksX0_ahead_1 7 rfl rfl)
theorem dX0_ahead_33 : decode cX0_ahead 33 = .ok (.aload_n 0, 1) := dk_42 (dk_at dksX0_ahead_1 10 rfl rfl)
theorem dX0_ahead_34 : decode cX0_ahead 34 = .ok (.iload_n 1, 1) := dk_27 (dk_at dksX0_ahead_1 11 rfl rfl)
theorem dX0_ahead_35 : decode cX0_ahead 35 = .ok (.invokevirtual 149, 3) := dk_182 0 149 (dk_at dksX0_ahead_1 12 rfl rfl)
theorem dX0_ahead_38 : decode cX0_ahead 38 = .ok (.ifCond .ne 5, 3) := dk_154 0 5 (dk_at dksX0_ahead_1 15 rfl rfl)
theorem dX0_ahead_41 : decode cX0_ahead 41 = .ok (.iconst (-1), 1) := dk_2 (dk_at dksX0_ahead_1 18 rfl rfl)
theorem dX0_ahead_42 : decode cX0_ahead 42 = .ok (.ireturn, 1) := dk_172 (dk_at dksX0_ahead_1 19 rfl rfl)
theorem dX0_ahead_43 : decode cX0_ahead 43 = .ok (.aload_n 0, 1) := dk_42 (dk_at dksX0_ahead_1 20 rfl rfl)
theorem dX0_ahead_44 : decode cX0_ahead 44 = .ok (.getfield 23, 3) := dk_180 0 23 (dk_at dksX0_ahead_1 21 rfl rfl)
theorem dX0_ahead_47 : decode cX0_ahead 47 = .ok (.aload_n 0, 1) := dk_42 (dk_at dksX0_ahead_2 0 rfl rfl)
theorem dX0_ahead_48 : decode cX0_ahead 48 = .ok (.getfield 19, 3) := dk_180 0 19 (dk_at dksX0_ahead_2 1 rfl rfl)
theorem dX0_ahead_51 : decode cX0_ahead 51 = .ok (.invokevirtual 259, 3) := dk_182 1 3 (dk_at dksX0_ahead_2 4 rfl rfl)
theorem dX0_ahead_54 : decode cX0_ahead 54 = .ok (.aload_n 0, 1) := dk_42 (dk_at dksX0_ahead_2 7 rfl rfl)
theorem dX0_ahead_55 : decode cX0_ahead 55 = .ok (.iload_n 2, 1) := dk_28 (dk_at dksX0_ahead_2 8 rfl rfl)
theorem dX0_ahead_56 : decode cX0_ahead 56 = .ok (.invokevirtual 286, 3) := dk_182 1 30 (dk_at dksX0_ahead_2 9 rfl rfl)
theorem dX0_ahead_59 : decode cX0_ahead 59 = .ok (.iload_n 3, 1) := dk_29 (dk_at dksX0_ahead_2 12 rfl rfl)
theorem dX0_ahead_60 : decode cX0_ahead 60 = .ok (.ifCond .ne 15, 3) := dk_154 0 15 (dk_at dksX0_ahead_2 13 rfl rfl)
theorem dX0_ahead_63 : decode cX0_ahead 63 = .ok (.aload_n 0, 1) := dk_42 (dk_at dksX0_ahead_2 16 rfl rfl)
theorem dX0_ahead_64 : decode cX0_ahead 64 = .ok (.getfield 23, 3) := dk_180 0 23 (dk_at dksX0_ahead_2 17 rfl rfl)
theorem dX0_ahead_67 : decode cX0_ahead 67 = .ok (.getfield 153, 3) := dk_180 0 153 (dk_at dksX0_ahead_2 20 rfl rfl)
theorem dX0_ahead_70 : decode cX0_ahead 70 = .ok (.iload_n 1, 1) := dk_27 (dk_at dksX0_ahead_2 23 rfl rfl)
theorem dX0_ahead_71 : decode cX0_ahead 71 = .ok (.iaload, 1) := dk_46 (dk_at dksX0_ahead_3 0 rfl rfl)
theorem dX0_ahead_72 : decode cX0_ahead 72 = .ok (.goto 17, 3) := dk_167 0 17 (dk_at dksX0_ahead_3 1 rfl rfl)
theorem dX0_ahead_75 : decode cX0_ahead 75 = .ok (.aload_n 0, 1) := dk_42 (dk_at dksX0_ahead_3 4 rfl rfl)
theorem dX0_ahead_76 : decode cX0_ahead 76 = .ok (.getfield 23, 3) := dk_180 0 23 (dk_at dksX0_ahead_3 5 rfl rfl)
theorem dX0_ahead_79 : decode cX0_ahead 79 = .ok (.aload_n 0, 1) := dk_42 (dk_at dksX0_ahead_3 8 rfl rfl)
theorem dX0_ahead_80 : decode cX0_ahead 80 = .ok (.getfield 10, 3) := dk_180 0 10 (dk_at dksX0_ahead_3 9 rfl rfl)
theorem dX0_ahead_83 : decode cX0_ahead 83 = .ok (.invokevirtual 215, 3) := dk_182 0 215 (dk_at dksX0_ahead_3 12 rfl rfl)
theorem dX0_ahead_86 : decode cX0_ahead 86 = .ok (.invokestatic 219, 3) := dk_184 0 219 (dk_at dksX0_ahead_3 15 rfl rfl)
theorem dX0_ahead_89 : decode cX0_ahead 89 = .ok (.ireturn, 1) := dk_172 (dk_at dksX0_ahead_3 18 rfl rfl)
abbrev cX0_goesTill : ByteArray := prog_1_method_23_code
def yX0_goesTill : MethodName := ⟨RX0, "goesTill", "(I)V"⟩
def dkwX0_goesTill_0 : List UInt8 := [3, 61, 28, 27, 162, 0, 18, 42, 42, 180, 0, 23, 182, 0, 252, 87, 132, 2, 1, 167, 255, 239, 177]
abbrev dktX0_goesTill_0 : List UInt8 := dkwX0_goesTill_0 ++ []
theorem dksX0_goesTill_0 : cX0_goesTill.data.toList.drop 0 = dktX0_goesTill_0 := by decide +kernel
theorem dX0_goesTill_0 : decode cX0_goesTill 0 = .ok (.iconst 0, 1) := dk_3 (dk_at dksX0_goesTill_0 0 rfl rfl)
theorem dX0_goesTill_1 : decode cX0_goesTill 1 = .ok (.istore_n 2, 1) := dk_61 (dk_at dksX0_goesTill_0 1 rfl rfl)
theorem dX0_goesTill_2 : decode cX0_goesTill 2 = .ok (.iload_n 2, 1) := dk_28 (dk_at dksX0_goesTill_0 2 rfl rfl)
theorem dX0_goesTill_3 : decode cX0_goesTill 3 = .ok (.iload_n 1, 1) := dk_27 (dk_at dksX0_goesTill_0 3 rfl rfl)
theorem dX0_goesTill_4 : decode cX0_goesTill 4 = .ok (.if_icmp .ge 18, 3) := dk_162 0 18 (dk_at dksX0_goesTill_0 4 rfl rfl)
theorem dX0_goesTill_7 : decode cX0_goesTill 7 = .ok (.aload_n 0, 1) := dk_42 (dk_at dksX0_goesTill_0 7 rfl rfl)
theorem dX0_goesTill_8 : decode cX0_goesTill 8 = .ok (.aload_n 0, 1) := dk_42 (dk_at dksX0_goesTill_0 8 rfl rfl)
theorem dX0_goesTill_9 : decode cX0_goesTill 9 = .ok (.getfield 23, 3) := dk_180 0 23 (dk_at dksX0_goesTill_0 9 rfl rfl)
theorem dX0_goesTill_12 : decode cX0_goesTill 12 = .ok (.invokevirtual 252, 3) := dk_182 0 252 (dk_at dksX0_goesTill_0 12 rfl rfl)
theorem dX0_goesTill_15 : decode cX0_goesTill 15 = .ok (.pop, 1) := dk_87 (dk_at dksX0_goesTill_0 15 rfl rfl)
theorem dX0_goesTill_16 : decode cX0_goesTill 16 = .ok (.iinc 2 1, 3) := dk_132 2 1 (dk_at dksX0_goesTill_0 16 rfl rfl)
theorem dX0_goesTill_19 : decode cX0_goesTill 19 = .ok (.goto (-17), 3) := dk_167 255 239 (dk_at dksX0_goesTill_0 19 rfl rfl)
theorem dX0_goesTill_22 : decode cX0_goesTill 22 = .ok (.return_, 1) := dk_177 (dk_at dksX0_goesTill_0 22 rfl rfl)
abbrev cX0_stays : ByteArray := prog_1_method_33_code
def yX0_stays : MethodName := ⟨RX0, "stays", "(I)I"⟩
def dkwX0_stays_4 : List UInt8 := [132, 3, 1, 167, 255, 223, 28, 172]
abbrev dktX0_stays_4 : List UInt8 := dkwX0_stays_4 ++ []
def dkwX0_stays_3 : List UInt8 := [180, 0, 23, 182, 0, 252, 87, 28, 42, 180, 0, 23, 42, 180, 0, 10, 182, 0, 215, 2, 130, 126, 61]
abbrev dktX0_stays_3 : List UInt8 := dkwX0_stays_3 ++ dktX0_stays_4
def dkwX0_stays_2 : List UInt8 := [180, 0, 23, 42, 180, 0, 10, 182, 0, 215, 2, 130, 126, 61, 3, 62, 29, 27, 162, 0, 34, 42, 42]
abbrev dktX0_stays_2 : List UInt8 := dkwX0_stays_2 ++ dktX0_stays_3
def dkwX0_stays_1 : List UInt8 := [180, 0, 23, 42, 180, 0, 19, 182, 1, 3, 4, 42, 180, 0, 10, 182, 0, 103, 120, 4, 100, 42]
abbrev dktX0_stays_1 : List UInt8 := dkwX0_stays_1 ++ dktX0_stays_2
def dkwX0_stays_0 : List UInt8 := [42, 182, 1, 12, 153, 0, 15, 27, 133, 10, 20, 1, 33, 184, 0, 107, 154, 0, 5, 2, 172, 42]
abbrev dktX0_stays_0 : List UInt8 := dkwX0_stays_0 ++ dktX0_stays_1
theorem dksX0_stays_0 : cX0_stays.data.toList.drop 0 = dktX0_stays_0 := by decide +kernel
theorem dksX0_stays_1 : cX0_stays.data.toList.drop 22 = dktX0_stays_1 := dk_seg dksX0_stays_0 22 rfl rfl
theorem dksX0_stays_2 : cX0_stays.data.toList.drop 44 = dktX0_stays_2 := dk_seg dksX0_stays_1 22 rfl rfl
theorem dksX0_stays_3 : cX0_stays.data.toList.drop 67 = dktX0_stays_3 := dk_seg dksX0_stays_2 23 rfl rfl
theorem dksX0_stays_4 : cX0_stays.data.toList.drop 90 = dktX0_stays_4 := dk_seg dksX0_stays_3 23 rfl rfl
theorem dX0_stays_0 : decode cX0_stays 0 = .ok (.aload_n 0, 1) := dk_42 (dk_at dksX0_stays_0 0 rfl rfl)
theorem dX0_stays_1 : decode cX0_stays 1 = .ok (.invokevirtual 268, 3) := dk_182 1 12 (dk_at dksX0_stays_0 1 rfl rfl)
theorem dX0_stays_4 : decode cX0_stays 4 = .ok (.ifCond .eq 15, 3) := dk_153 0 15 (dk_at dksX0_stays_0 4 rfl rfl)
theorem dX0_stays_7 : decode cX0_stays 7 = .ok (.iload_n 1, 1) := dk_27 (dk_at dksX0_stays_0 7 rfl rfl)
theorem dX0_stays_8 : decode cX0_stays 8 = .ok (.i2l, 1) := dk_133 (dk_at dksX0_stays_0 8 rfl rfl)
theorem dX0_stays_9 : decode cX0_stays 9 = .ok (.lconst 1, 1) := dk_10 (dk_at dksX0_stays_0 9 rfl rfl)
theorem dX0_stays_10 : decode cX0_stays 10 = .ok (.ldc2_w 289, 3) := dk_20 1 33 (dk_at dksX0_stays_0 10 rfl rfl)
theorem dX0_stays_13 : decode cX0_stays 13 = .ok (.invokestatic 107, 3) := dk_184 0 107 (dk_at dksX0_stays_0 13 rfl rfl)
theorem dX0_stays_16 : decode cX0_stays 16 = .ok (.ifCond .ne 5, 3) := dk_154 0 5 (dk_at dksX0_stays_0 16 rfl rfl)
theorem dX0_stays_19 : decode cX0_stays 19 = .ok (.iconst (-1), 1) := dk_2 (dk_at dksX0_stays_0 19 rfl rfl)
theorem dX0_stays_20 : decode cX0_stays 20 = .ok (.ireturn, 1) := dk_172 (dk_at dksX0_stays_0 20 rfl rfl)
theorem dX0_stays_21 : decode cX0_stays 21 = .ok (.aload_n 0, 1) := dk_42 (dk_at dksX0_stays_0 21 rfl rfl)
theorem dX0_stays_22 : decode cX0_stays 22 = .ok (.getfield 23, 3) := dk_180 0 23 (dk_at dksX0_stays_1 0 rfl rfl)
theorem dX0_stays_25 : decode cX0_stays 25 = .ok (.aload_n 0, 1) := dk_42 (dk_at dksX0_stays_1 3 rfl rfl)
theorem dX0_stays_26 : decode cX0_stays 26 = .ok (.getfield 19, 3) := dk_180 0 19 (dk_at dksX0_stays_1 4 rfl rfl)
theorem dX0_stays_29 : decode cX0_stays 29 = .ok (.invokevirtual 259, 3) := dk_182 1 3 (dk_at dksX0_stays_1 7 rfl rfl)
theorem dX0_stays_32 : decode cX0_stays 32 = .ok (.iconst 1, 1) := dk_4 (dk_at dksX0_stays_1 10 rfl rfl)
theorem dX0_stays_33 : decode cX0_stays 33 = .ok (.aload_n 0, 1) := dk_42 (dk_at dksX0_stays_1 11 rfl rfl)
theorem dX0_stays_34 : decode cX0_stays 34 = .ok (.getfield 10, 3) := dk_180 0 10 (dk_at dksX0_stays_1 12 rfl rfl)
theorem dX0_stays_37 : decode cX0_stays 37 = .ok (.invokevirtual 103, 3) := dk_182 0 103 (dk_at dksX0_stays_1 15 rfl rfl)
theorem dX0_stays_40 : decode cX0_stays 40 = .ok (.ishl, 1) := dk_120 (dk_at dksX0_stays_1 18 rfl rfl)
theorem dX0_stays_41 : decode cX0_stays 41 = .ok (.iconst 1, 1) := dk_4 (dk_at dksX0_stays_1 19 rfl rfl)
theorem dX0_stays_42 : decode cX0_stays 42 = .ok (.isub, 1) := dk_100 (dk_at dksX0_stays_1 20 rfl rfl)
theorem dX0_stays_43 : decode cX0_stays 43 = .ok (.aload_n 0, 1) := dk_42 (dk_at dksX0_stays_1 21 rfl rfl)
theorem dX0_stays_44 : decode cX0_stays 44 = .ok (.getfield 23, 3) := dk_180 0 23 (dk_at dksX0_stays_2 0 rfl rfl)
theorem dX0_stays_47 : decode cX0_stays 47 = .ok (.aload_n 0, 1) := dk_42 (dk_at dksX0_stays_2 3 rfl rfl)
theorem dX0_stays_48 : decode cX0_stays 48 = .ok (.getfield 10, 3) := dk_180 0 10 (dk_at dksX0_stays_2 4 rfl rfl)
theorem dX0_stays_51 : decode cX0_stays 51 = .ok (.invokevirtual 215, 3) := dk_182 0 215 (dk_at dksX0_stays_2 7 rfl rfl)
theorem dX0_stays_54 : decode cX0_stays 54 = .ok (.iconst (-1), 1) := dk_2 (dk_at dksX0_stays_2 10 rfl rfl)
theorem dX0_stays_55 : decode cX0_stays 55 = .ok (.ixor, 1) := dk_130 (dk_at dksX0_stays_2 11 rfl rfl)
theorem dX0_stays_56 : decode cX0_stays 56 = .ok (.iand, 1) := dk_126 (dk_at dksX0_stays_2 12 rfl rfl)
theorem dX0_stays_57 : decode cX0_stays 57 = .ok (.istore_n 2, 1) := dk_61 (dk_at dksX0_stays_2 13 rfl rfl)
theorem dX0_stays_58 : decode cX0_stays 58 = .ok (.iconst 0, 1) := dk_3 (dk_at dksX0_stays_2 14 rfl rfl)
theorem dX0_stays_59 : decode cX0_stays 59 = .ok (.istore_n 3, 1) := dk_62 (dk_at dksX0_stays_2 15 rfl rfl)
theorem dX0_stays_60 : decode cX0_stays 60 = .ok (.iload_n 3, 1) := dk_29 (dk_at dksX0_stays_2 16 rfl rfl)
theorem dX0_stays_61 : decode cX0_stays 61 = .ok (.iload_n 1, 1) := dk_27 (dk_at dksX0_stays_2 17 rfl rfl)
theorem dX0_stays_62 : decode cX0_stays 62 = .ok (.if_icmp .ge 34, 3) := dk_162 0 34 (dk_at dksX0_stays_2 18 rfl rfl)
theorem dX0_stays_65 : decode cX0_stays 65 = .ok (.aload_n 0, 1) := dk_42 (dk_at dksX0_stays_2 21 rfl rfl)
theorem dX0_stays_66 : decode cX0_stays 66 = .ok (.aload_n 0, 1) := dk_42 (dk_at dksX0_stays_2 22 rfl rfl)
theorem dX0_stays_67 : decode cX0_stays 67 = .ok (.getfield 23, 3) := dk_180 0 23 (dk_at dksX0_stays_3 0 rfl rfl)
theorem dX0_stays_70 : decode cX0_stays 70 = .ok (.invokevirtual 252, 3) := dk_182 0 252 (dk_at dksX0_stays_3 3 rfl rfl)
theorem dX0_stays_73 : decode cX0_stays 73 = .ok (.pop, 1) := dk_87 (dk_at dksX0_stays_3 6 rfl rfl)
theorem dX0_stays_74 : decode cX0_stays 74 = .ok (.iload_n 2, 1) := dk_28 (dk_at dksX0_stays_3 7 rfl rfl)
theorem dX0_stays_75 : decode cX0_stays 75 = .ok (.aload_n 0, 1) := dk_42 (dk_at dksX0_stays_3 8 rfl rfl)
theorem dX0_stays_76 : decode cX0_stays 76 = .ok (.getfield 23, 3) := dk_180 0 23 (dk_at dksX0_stays_3 9 rfl rfl)
theorem dX0_stays_79 : decode cX0_stays 79 = .ok (.aload_n 0, 1) := dk_42 (dk_at dksX0_stays_3 12 rfl rfl)
theorem dX0_stays_80 : decode cX0_stays 80 = .ok (.getfield 10, 3) := dk_180 0 10 (dk_at dksX0_stays_3 13 rfl rfl)
theorem dX0_stays_83 : decode cX0_stays 83 = .ok (.invokevirtual 215, 3) := dk_182 0 215 (dk_at dksX0_stays_3 16 rfl rfl)
theorem dX0_stays_86 : decode cX0_stays 86 = .ok (.iconst (-1), 1) := dk_2 (dk_at dksX0_stays_3 19 rfl rfl)
theorem dX0_stays_87 : decode cX0_stays 87 = .ok (.ixor, 1) := dk_130 (dk_at dksX0_stays_3 20 rfl rfl)
theorem dX0_stays_88 : decode cX0_stays 88 = .ok (.iand, 1) := dk_126 (dk_at dksX0_stays_3 21 rfl rfl)
theorem dX0_stays_89 : decode cX0_stays 89 = .ok (.istore_n 2, 1) := dk_61 (dk_at dksX0_stays_3 22 rfl rfl)
theorem dX0_stays_90 : decode cX0_stays 90 = .ok (.iinc 3 1, 3) := dk_132 3 1 (dk_at dksX0_stays_4 0 rfl rfl)
theorem dX0_stays_93 : decode cX0_stays 93 = .ok (.goto (-33), 3) := dk_167 255 223 (dk_at dksX0_stays_4 3 rfl rfl)
theorem dX0_stays_96 : decode cX0_stays 96 = .ok (.iload_n 2, 1) := dk_28 (dk_at dksX0_stays_4 6 rfl rfl)
theorem dX0_stays_97 : decode cX0_stays 97 = .ok (.ireturn, 1) := dk_172 (dk_at dksX0_stays_4 7 rfl rfl)
abbrev cX0_closes : ByteArray := prog_1_method_34_code
def yX0_closes : MethodName := ⟨RX0, "closes", "(I)I"⟩
def dkwX0_closes_3 : List UInt8 := [172]
abbrev dktX0_closes_3 : List UInt8 := dkwX0_closes_3 ++ []
def dkwX0_closes_2 : List UInt8 := [180, 0, 23, 180, 0, 176, 172, 42, 42, 180, 0, 23, 182, 0, 252, 87, 132, 2, 1, 167, 255, 212, 16, 254]
abbrev dktX0_closes_2 : List UInt8 := dkwX0_closes_2 ++ dktX0_closes_3
def dkwX0_closes_1 : List UInt8 := [16, 100, 162, 0, 44, 42, 180, 0, 23, 42, 180, 0, 10, 182, 0, 215, 27, 184, 0, 166, 153, 0, 11, 42]
abbrev dktX0_closes_1 : List UInt8 := dkwX0_closes_1 ++ dktX0_closes_2
def dkwX0_closes_0 : List UInt8 := [42, 27, 182, 0, 149, 154, 0, 5, 2, 172, 42, 180, 0, 23, 42, 180, 0, 19, 182, 1, 3, 3, 61, 28]
abbrev dktX0_closes_0 : List UInt8 := dkwX0_closes_0 ++ dktX0_closes_1
theorem dksX0_closes_0 : cX0_closes.data.toList.drop 0 = dktX0_closes_0 := by decide +kernel
theorem dksX0_closes_1 : cX0_closes.data.toList.drop 24 = dktX0_closes_1 := dk_seg dksX0_closes_0 24 rfl rfl
theorem dksX0_closes_2 : cX0_closes.data.toList.drop 48 = dktX0_closes_2 := dk_seg dksX0_closes_1 24 rfl rfl
theorem dksX0_closes_3 : cX0_closes.data.toList.drop 72 = dktX0_closes_3 := dk_seg dksX0_closes_2 24 rfl rfl
theorem dX0_closes_0 : decode cX0_closes 0 = .ok (.aload_n 0, 1) := dk_42 (dk_at dksX0_closes_0 0 rfl rfl)
theorem dX0_closes_1 : decode cX0_closes 1 = .ok (.iload_n 1, 1) := dk_27 (dk_at dksX0_closes_0 1 rfl rfl)
theorem dX0_closes_2 : decode cX0_closes 2 = .ok (.invokevirtual 149, 3) := dk_182 0 149 (dk_at dksX0_closes_0 2 rfl rfl)
theorem dX0_closes_5 : decode cX0_closes 5 = .ok (.ifCond .ne 5, 3) := dk_154 0 5 (dk_at dksX0_closes_0 5 rfl rfl)
theorem dX0_closes_8 : decode cX0_closes 8 = .ok (.iconst (-1), 1) := dk_2 (dk_at dksX0_closes_0 8 rfl rfl)
theorem dX0_closes_9 : decode cX0_closes 9 = .ok (.ireturn, 1) := dk_172 (dk_at dksX0_closes_0 9 rfl rfl)
theorem dX0_closes_10 : decode cX0_closes 10 = .ok (.aload_n 0, 1) := dk_42 (dk_at dksX0_closes_0 10 rfl rfl)
theorem dX0_closes_11 : decode cX0_closes 11 = .ok (.getfield 23, 3) := dk_180 0 23 (dk_at dksX0_closes_0 11 rfl rfl)
theorem dX0_closes_14 : decode cX0_closes 14 = .ok (.aload_n 0, 1) := dk_42 (dk_at dksX0_closes_0 14 rfl rfl)
theorem dX0_closes_15 : decode cX0_closes 15 = .ok (.getfield 19, 3) := dk_180 0 19 (dk_at dksX0_closes_0 15 rfl rfl)
theorem dX0_closes_18 : decode cX0_closes 18 = .ok (.invokevirtual 259, 3) := dk_182 1 3 (dk_at dksX0_closes_0 18 rfl rfl)
theorem dX0_closes_21 : decode cX0_closes 21 = .ok (.iconst 0, 1) := dk_3 (dk_at dksX0_closes_0 21 rfl rfl)
theorem dX0_closes_22 : decode cX0_closes 22 = .ok (.istore_n 2, 1) := dk_61 (dk_at dksX0_closes_0 22 rfl rfl)
theorem dX0_closes_23 : decode cX0_closes 23 = .ok (.iload_n 2, 1) := dk_28 (dk_at dksX0_closes_0 23 rfl rfl)
theorem dX0_closes_24 : decode cX0_closes 24 = .ok (.bipush 100, 2) := dk_16 100 (dk_at dksX0_closes_1 0 rfl rfl)
theorem dX0_closes_26 : decode cX0_closes 26 = .ok (.if_icmp .ge 44, 3) := dk_162 0 44 (dk_at dksX0_closes_1 2 rfl rfl)
theorem dX0_closes_29 : decode cX0_closes 29 = .ok (.aload_n 0, 1) := dk_42 (dk_at dksX0_closes_1 5 rfl rfl)
theorem dX0_closes_30 : decode cX0_closes 30 = .ok (.getfield 23, 3) := dk_180 0 23 (dk_at dksX0_closes_1 6 rfl rfl)
theorem dX0_closes_33 : decode cX0_closes 33 = .ok (.aload_n 0, 1) := dk_42 (dk_at dksX0_closes_1 9 rfl rfl)
theorem dX0_closes_34 : decode cX0_closes 34 = .ok (.getfield 10, 3) := dk_180 0 10 (dk_at dksX0_closes_1 10 rfl rfl)
theorem dX0_closes_37 : decode cX0_closes 37 = .ok (.invokevirtual 215, 3) := dk_182 0 215 (dk_at dksX0_closes_1 13 rfl rfl)
theorem dX0_closes_40 : decode cX0_closes 40 = .ok (.iload_n 1, 1) := dk_27 (dk_at dksX0_closes_1 16 rfl rfl)
theorem dX0_closes_41 : decode cX0_closes 41 = .ok (.invokestatic 166, 3) := dk_184 0 166 (dk_at dksX0_closes_1 17 rfl rfl)
theorem dX0_closes_44 : decode cX0_closes 44 = .ok (.ifCond .eq 11, 3) := dk_153 0 11 (dk_at dksX0_closes_1 20 rfl rfl)
theorem dX0_closes_47 : decode cX0_closes 47 = .ok (.aload_n 0, 1) := dk_42 (dk_at dksX0_closes_1 23 rfl rfl)
theorem dX0_closes_48 : decode cX0_closes 48 = .ok (.getfield 23, 3) := dk_180 0 23 (dk_at dksX0_closes_2 0 rfl rfl)
theorem dX0_closes_51 : decode cX0_closes 51 = .ok (.getfield 176, 3) := dk_180 0 176 (dk_at dksX0_closes_2 3 rfl rfl)
theorem dX0_closes_54 : decode cX0_closes 54 = .ok (.ireturn, 1) := dk_172 (dk_at dksX0_closes_2 6 rfl rfl)
theorem dX0_closes_55 : decode cX0_closes 55 = .ok (.aload_n 0, 1) := dk_42 (dk_at dksX0_closes_2 7 rfl rfl)
theorem dX0_closes_56 : decode cX0_closes 56 = .ok (.aload_n 0, 1) := dk_42 (dk_at dksX0_closes_2 8 rfl rfl)
theorem dX0_closes_57 : decode cX0_closes 57 = .ok (.getfield 23, 3) := dk_180 0 23 (dk_at dksX0_closes_2 9 rfl rfl)
theorem dX0_closes_60 : decode cX0_closes 60 = .ok (.invokevirtual 252, 3) := dk_182 0 252 (dk_at dksX0_closes_2 12 rfl rfl)
theorem dX0_closes_63 : decode cX0_closes 63 = .ok (.pop, 1) := dk_87 (dk_at dksX0_closes_2 15 rfl rfl)
theorem dX0_closes_64 : decode cX0_closes 64 = .ok (.iinc 2 1, 3) := dk_132 2 1 (dk_at dksX0_closes_2 16 rfl rfl)
theorem dX0_closes_67 : decode cX0_closes 67 = .ok (.goto (-44), 3) := dk_167 255 212 (dk_at dksX0_closes_2 19 rfl rfl)
theorem dX0_closes_70 : decode cX0_closes 70 = .ok (.bipush (-2), 2) := dk_16 254 (dk_at dksX0_closes_2 22 rfl rfl)
theorem dX0_closes_72 : decode cX0_closes 72 = .ok (.ireturn, 1) := dk_172 (dk_at dksX0_closes_3 0 rfl rfl)
abbrev cX0_ring : ByteArray := prog_1_method_37_code
def yX0_ring : MethodName := ⟨RX0, "ring", "(I)I"⟩
def dkwX0_ring_4 : List UInt8 := [16, 254, 172]
abbrev dktX0_ring_4 : List UInt8 := dkwX0_ring_4 ++ []
def dkwX0_ring_3 : List UInt8 := [180, 0, 176, 28, 96, 167, 0, 6, 29, 28, 100, 172, 132, 3, 1, 167, 255, 218, 132, 2, 1, 167, 255, 202]
abbrev dktX0_ring_3 : List UInt8 := dkwX0_ring_3 ++ dktX0_ring_4
def dkwX0_ring_2 : List UInt8 := [16, 60, 163, 0, 38, 42, 28, 29, 182, 1, 38, 153, 0, 23, 27, 154, 0, 15, 42, 180, 0, 19]
abbrev dktX0_ring_2 : List UInt8 := dkwX0_ring_2 ++ dktX0_ring_3
def dkwX0_ring_1 : List UInt8 := [180, 0, 19, 182, 1, 3, 42, 182, 1, 35, 3, 61, 28, 16, 60, 162, 0, 54, 28, 4, 96, 62, 29]
abbrev dktX0_ring_1 : List UInt8 := dkwX0_ring_1 ++ dktX0_ring_2
def dkwX0_ring_0 : List UInt8 := [42, 182, 1, 12, 153, 0, 13, 27, 133, 9, 10, 184, 0, 107, 154, 0, 5, 2, 172, 42, 180, 0, 23, 42]
abbrev dktX0_ring_0 : List UInt8 := dkwX0_ring_0 ++ dktX0_ring_1
theorem dksX0_ring_0 : cX0_ring.data.toList.drop 0 = dktX0_ring_0 := by decide +kernel
theorem dksX0_ring_1 : cX0_ring.data.toList.drop 24 = dktX0_ring_1 := dk_seg dksX0_ring_0 24 rfl rfl
theorem dksX0_ring_2 : cX0_ring.data.toList.drop 47 = dktX0_ring_2 := dk_seg dksX0_ring_1 23 rfl rfl
theorem dksX0_ring_3 : cX0_ring.data.toList.drop 69 = dktX0_ring_3 := dk_seg dksX0_ring_2 22 rfl rfl
theorem dksX0_ring_4 : cX0_ring.data.toList.drop 93 = dktX0_ring_4 := dk_seg dksX0_ring_3 24 rfl rfl
theorem dX0_ring_0 : decode cX0_ring 0 = .ok (.aload_n 0, 1) := dk_42 (dk_at dksX0_ring_0 0 rfl rfl)
theorem dX0_ring_1 : decode cX0_ring 1 = .ok (.invokevirtual 268, 3) := dk_182 1 12 (dk_at dksX0_ring_0 1 rfl rfl)
theorem dX0_ring_4 : decode cX0_ring 4 = .ok (.ifCond .eq 13, 3) := dk_153 0 13 (dk_at dksX0_ring_0 4 rfl rfl)
theorem dX0_ring_7 : decode cX0_ring 7 = .ok (.iload_n 1, 1) := dk_27 (dk_at dksX0_ring_0 7 rfl rfl)
theorem dX0_ring_8 : decode cX0_ring 8 = .ok (.i2l, 1) := dk_133 (dk_at dksX0_ring_0 8 rfl rfl)
theorem dX0_ring_9 : decode cX0_ring 9 = .ok (.lconst 0, 1) := dk_9 (dk_at dksX0_ring_0 9 rfl rfl)
theorem dX0_ring_10 : decode cX0_ring 10 = .ok (.lconst 1, 1) := dk_10 (dk_at dksX0_ring_0 10 rfl rfl)
theorem dX0_ring_11 : decode cX0_ring 11 = .ok (.invokestatic 107, 3) := dk_184 0 107 (dk_at dksX0_ring_0 11 rfl rfl)
theorem dX0_ring_14 : decode cX0_ring 14 = .ok (.ifCond .ne 5, 3) := dk_154 0 5 (dk_at dksX0_ring_0 14 rfl rfl)
theorem dX0_ring_17 : decode cX0_ring 17 = .ok (.iconst (-1), 1) := dk_2 (dk_at dksX0_ring_0 17 rfl rfl)
theorem dX0_ring_18 : decode cX0_ring 18 = .ok (.ireturn, 1) := dk_172 (dk_at dksX0_ring_0 18 rfl rfl)
theorem dX0_ring_19 : decode cX0_ring 19 = .ok (.aload_n 0, 1) := dk_42 (dk_at dksX0_ring_0 19 rfl rfl)
theorem dX0_ring_20 : decode cX0_ring 20 = .ok (.getfield 23, 3) := dk_180 0 23 (dk_at dksX0_ring_0 20 rfl rfl)
theorem dX0_ring_23 : decode cX0_ring 23 = .ok (.aload_n 0, 1) := dk_42 (dk_at dksX0_ring_0 23 rfl rfl)
theorem dX0_ring_24 : decode cX0_ring 24 = .ok (.getfield 19, 3) := dk_180 0 19 (dk_at dksX0_ring_1 0 rfl rfl)
theorem dX0_ring_27 : decode cX0_ring 27 = .ok (.invokevirtual 259, 3) := dk_182 1 3 (dk_at dksX0_ring_1 3 rfl rfl)
theorem dX0_ring_30 : decode cX0_ring 30 = .ok (.aload_n 0, 1) := dk_42 (dk_at dksX0_ring_1 6 rfl rfl)
theorem dX0_ring_31 : decode cX0_ring 31 = .ok (.invokevirtual 291, 3) := dk_182 1 35 (dk_at dksX0_ring_1 7 rfl rfl)
theorem dX0_ring_34 : decode cX0_ring 34 = .ok (.iconst 0, 1) := dk_3 (dk_at dksX0_ring_1 10 rfl rfl)
theorem dX0_ring_35 : decode cX0_ring 35 = .ok (.istore_n 2, 1) := dk_61 (dk_at dksX0_ring_1 11 rfl rfl)
theorem dX0_ring_36 : decode cX0_ring 36 = .ok (.iload_n 2, 1) := dk_28 (dk_at dksX0_ring_1 12 rfl rfl)
theorem dX0_ring_37 : decode cX0_ring 37 = .ok (.bipush 60, 2) := dk_16 60 (dk_at dksX0_ring_1 13 rfl rfl)
theorem dX0_ring_39 : decode cX0_ring 39 = .ok (.if_icmp .ge 54, 3) := dk_162 0 54 (dk_at dksX0_ring_1 15 rfl rfl)
theorem dX0_ring_42 : decode cX0_ring 42 = .ok (.iload_n 2, 1) := dk_28 (dk_at dksX0_ring_1 18 rfl rfl)
theorem dX0_ring_43 : decode cX0_ring 43 = .ok (.iconst 1, 1) := dk_4 (dk_at dksX0_ring_1 19 rfl rfl)
theorem dX0_ring_44 : decode cX0_ring 44 = .ok (.iadd, 1) := dk_96 (dk_at dksX0_ring_1 20 rfl rfl)
theorem dX0_ring_45 : decode cX0_ring 45 = .ok (.istore_n 3, 1) := dk_62 (dk_at dksX0_ring_1 21 rfl rfl)
theorem dX0_ring_46 : decode cX0_ring 46 = .ok (.iload_n 3, 1) := dk_29 (dk_at dksX0_ring_1 22 rfl rfl)
theorem dX0_ring_47 : decode cX0_ring 47 = .ok (.bipush 60, 2) := dk_16 60 (dk_at dksX0_ring_2 0 rfl rfl)
theorem dX0_ring_49 : decode cX0_ring 49 = .ok (.if_icmp .gt 38, 3) := dk_163 0 38 (dk_at dksX0_ring_2 2 rfl rfl)
theorem dX0_ring_52 : decode cX0_ring 52 = .ok (.aload_n 0, 1) := dk_42 (dk_at dksX0_ring_2 5 rfl rfl)
theorem dX0_ring_53 : decode cX0_ring 53 = .ok (.iload_n 2, 1) := dk_28 (dk_at dksX0_ring_2 6 rfl rfl)
theorem dX0_ring_54 : decode cX0_ring 54 = .ok (.iload_n 3, 1) := dk_29 (dk_at dksX0_ring_2 7 rfl rfl)
theorem dX0_ring_55 : decode cX0_ring 55 = .ok (.invokevirtual 294, 3) := dk_182 1 38 (dk_at dksX0_ring_2 8 rfl rfl)
theorem dX0_ring_58 : decode cX0_ring 58 = .ok (.ifCond .eq 23, 3) := dk_153 0 23 (dk_at dksX0_ring_2 11 rfl rfl)
theorem dX0_ring_61 : decode cX0_ring 61 = .ok (.iload_n 1, 1) := dk_27 (dk_at dksX0_ring_2 14 rfl rfl)
theorem dX0_ring_62 : decode cX0_ring 62 = .ok (.ifCond .ne 15, 3) := dk_154 0 15 (dk_at dksX0_ring_2 15 rfl rfl)
theorem dX0_ring_65 : decode cX0_ring 65 = .ok (.aload_n 0, 1) := dk_42 (dk_at dksX0_ring_2 18 rfl rfl)
theorem dX0_ring_66 : decode cX0_ring 66 = .ok (.getfield 19, 3) := dk_180 0 19 (dk_at dksX0_ring_2 19 rfl rfl)
theorem dX0_ring_69 : decode cX0_ring 69 = .ok (.getfield 176, 3) := dk_180 0 176 (dk_at dksX0_ring_3 0 rfl rfl)
theorem dX0_ring_72 : decode cX0_ring 72 = .ok (.iload_n 2, 1) := dk_28 (dk_at dksX0_ring_3 3 rfl rfl)
theorem dX0_ring_73 : decode cX0_ring 73 = .ok (.iadd, 1) := dk_96 (dk_at dksX0_ring_3 4 rfl rfl)
theorem dX0_ring_74 : decode cX0_ring 74 = .ok (.goto 6, 3) := dk_167 0 6 (dk_at dksX0_ring_3 5 rfl rfl)
theorem dX0_ring_77 : decode cX0_ring 77 = .ok (.iload_n 3, 1) := dk_29 (dk_at dksX0_ring_3 8 rfl rfl)
theorem dX0_ring_78 : decode cX0_ring 78 = .ok (.iload_n 2, 1) := dk_28 (dk_at dksX0_ring_3 9 rfl rfl)
theorem dX0_ring_79 : decode cX0_ring 79 = .ok (.isub, 1) := dk_100 (dk_at dksX0_ring_3 10 rfl rfl)
theorem dX0_ring_80 : decode cX0_ring 80 = .ok (.ireturn, 1) := dk_172 (dk_at dksX0_ring_3 11 rfl rfl)
theorem dX0_ring_81 : decode cX0_ring 81 = .ok (.iinc 3 1, 3) := dk_132 3 1 (dk_at dksX0_ring_3 12 rfl rfl)
theorem dX0_ring_84 : decode cX0_ring 84 = .ok (.goto (-38), 3) := dk_167 255 218 (dk_at dksX0_ring_3 15 rfl rfl)
theorem dX0_ring_87 : decode cX0_ring 87 = .ok (.iinc 2 1, 3) := dk_132 2 1 (dk_at dksX0_ring_3 18 rfl rfl)
theorem dX0_ring_90 : decode cX0_ring 90 = .ok (.goto (-54), 3) := dk_167 255 202 (dk_at dksX0_ring_3 21 rfl rfl)
theorem dX0_ring_93 : decode cX0_ring 93 = .ok (.bipush (-2), 2) := dk_16 254 (dk_at dksX0_ring_4 0 rfl rfl)
theorem dX0_ring_95 : decode cX0_ring 95 = .ok (.ireturn, 1) := dk_172 (dk_at dksX0_ring_4 2 rfl rfl)
abbrev cX0_laysCourse : ByteArray := prog_1_method_35_code
def yX0_laysCourse : MethodName := ⟨RX0, "laysCourse", "()V"⟩
def dkwX0_laysCourse_2 : List UInt8 := [182, 0, 252, 87, 132, 1, 1, 167, 255, 204, 177]
abbrev dktX0_laysCourse_2 : List UInt8 := dkwX0_laysCourse_2 ++ []
def dkwX0_laysCourse_1 : List UInt8 := [28, 96, 42, 180, 0, 23, 180, 0, 153, 28, 46, 79, 132, 2, 1, 167, 255, 227, 42, 42, 180, 0, 23]
abbrev dktX0_laysCourse_1 : List UInt8 := dkwX0_laysCourse_1 ++ dktX0_laysCourse_2
def dkwX0_laysCourse_0 : List UInt8 := [3, 60, 27, 16, 60, 163, 0, 52, 3, 61, 28, 16, 8, 162, 0, 29, 42, 180, 0, 82, 16, 8, 27, 104]
abbrev dktX0_laysCourse_0 : List UInt8 := dkwX0_laysCourse_0 ++ dktX0_laysCourse_1
theorem dksX0_laysCourse_0 : cX0_laysCourse.data.toList.drop 0 = dktX0_laysCourse_0 := by decide +kernel
theorem dksX0_laysCourse_1 : cX0_laysCourse.data.toList.drop 24 = dktX0_laysCourse_1 := dk_seg dksX0_laysCourse_0 24 rfl rfl
theorem dksX0_laysCourse_2 : cX0_laysCourse.data.toList.drop 47 = dktX0_laysCourse_2 := dk_seg dksX0_laysCourse_1 23 rfl rfl
theorem dX0_laysCourse_0 : decode cX0_laysCourse 0 = .ok (.iconst 0, 1) := dk_3 (dk_at dksX0_laysCourse_0 0 rfl rfl)
theorem dX0_laysCourse_1 : decode cX0_laysCourse 1 = .ok (.istore_n 1, 1) := dk_60 (dk_at dksX0_laysCourse_0 1 rfl rfl)
theorem dX0_laysCourse_2 : decode cX0_laysCourse 2 = .ok (.iload_n 1, 1) := dk_27 (dk_at dksX0_laysCourse_0 2 rfl rfl)
theorem dX0_laysCourse_3 : decode cX0_laysCourse 3 = .ok (.bipush 60, 2) := dk_16 60 (dk_at dksX0_laysCourse_0 3 rfl rfl)
theorem dX0_laysCourse_5 : decode cX0_laysCourse 5 = .ok (.if_icmp .gt 52, 3) := dk_163 0 52 (dk_at dksX0_laysCourse_0 5 rfl rfl)
theorem dX0_laysCourse_8 : decode cX0_laysCourse 8 = .ok (.iconst 0, 1) := dk_3 (dk_at dksX0_laysCourse_0 8 rfl rfl)
theorem dX0_laysCourse_9 : decode cX0_laysCourse 9 = .ok (.istore_n 2, 1) := dk_61 (dk_at dksX0_laysCourse_0 9 rfl rfl)
theorem dX0_laysCourse_10 : decode cX0_laysCourse 10 = .ok (.iload_n 2, 1) := dk_28 (dk_at dksX0_laysCourse_0 10 rfl rfl)
theorem dX0_laysCourse_11 : decode cX0_laysCourse 11 = .ok (.bipush 8, 2) := dk_16 8 (dk_at dksX0_laysCourse_0 11 rfl rfl)
theorem dX0_laysCourse_13 : decode cX0_laysCourse 13 = .ok (.if_icmp .ge 29, 3) := dk_162 0 29 (dk_at dksX0_laysCourse_0 13 rfl rfl)
theorem dX0_laysCourse_16 : decode cX0_laysCourse 16 = .ok (.aload_n 0, 1) := dk_42 (dk_at dksX0_laysCourse_0 16 rfl rfl)
theorem dX0_laysCourse_17 : decode cX0_laysCourse 17 = .ok (.getfield 82, 3) := dk_180 0 82 (dk_at dksX0_laysCourse_0 17 rfl rfl)
theorem dX0_laysCourse_20 : decode cX0_laysCourse 20 = .ok (.bipush 8, 2) := dk_16 8 (dk_at dksX0_laysCourse_0 20 rfl rfl)
theorem dX0_laysCourse_22 : decode cX0_laysCourse 22 = .ok (.iload_n 1, 1) := dk_27 (dk_at dksX0_laysCourse_0 22 rfl rfl)
theorem dX0_laysCourse_23 : decode cX0_laysCourse 23 = .ok (.imul, 1) := dk_104 (dk_at dksX0_laysCourse_0 23 rfl rfl)
theorem dX0_laysCourse_24 : decode cX0_laysCourse 24 = .ok (.iload_n 2, 1) := dk_28 (dk_at dksX0_laysCourse_1 0 rfl rfl)
theorem dX0_laysCourse_25 : decode cX0_laysCourse 25 = .ok (.iadd, 1) := dk_96 (dk_at dksX0_laysCourse_1 1 rfl rfl)
theorem dX0_laysCourse_26 : decode cX0_laysCourse 26 = .ok (.aload_n 0, 1) := dk_42 (dk_at dksX0_laysCourse_1 2 rfl rfl)
theorem dX0_laysCourse_27 : decode cX0_laysCourse 27 = .ok (.getfield 23, 3) := dk_180 0 23 (dk_at dksX0_laysCourse_1 3 rfl rfl)
theorem dX0_laysCourse_30 : decode cX0_laysCourse 30 = .ok (.getfield 153, 3) := dk_180 0 153 (dk_at dksX0_laysCourse_1 6 rfl rfl)
theorem dX0_laysCourse_33 : decode cX0_laysCourse 33 = .ok (.iload_n 2, 1) := dk_28 (dk_at dksX0_laysCourse_1 9 rfl rfl)
theorem dX0_laysCourse_34 : decode cX0_laysCourse 34 = .ok (.iaload, 1) := dk_46 (dk_at dksX0_laysCourse_1 10 rfl rfl)
theorem dX0_laysCourse_35 : decode cX0_laysCourse 35 = .ok (.iastore, 1) := dk_79 (dk_at dksX0_laysCourse_1 11 rfl rfl)
theorem dX0_laysCourse_36 : decode cX0_laysCourse 36 = .ok (.iinc 2 1, 3) := dk_132 2 1 (dk_at dksX0_laysCourse_1 12 rfl rfl)
theorem dX0_laysCourse_39 : decode cX0_laysCourse 39 = .ok (.goto (-29), 3) := dk_167 255 227 (dk_at dksX0_laysCourse_1 15 rfl rfl)
theorem dX0_laysCourse_42 : decode cX0_laysCourse 42 = .ok (.aload_n 0, 1) := dk_42 (dk_at dksX0_laysCourse_1 18 rfl rfl)
theorem dX0_laysCourse_43 : decode cX0_laysCourse 43 = .ok (.aload_n 0, 1) := dk_42 (dk_at dksX0_laysCourse_1 19 rfl rfl)
theorem dX0_laysCourse_44 : decode cX0_laysCourse 44 = .ok (.getfield 23, 3) := dk_180 0 23 (dk_at dksX0_laysCourse_1 20 rfl rfl)
theorem dX0_laysCourse_47 : decode cX0_laysCourse 47 = .ok (.invokevirtual 252, 3) := dk_182 0 252 (dk_at dksX0_laysCourse_2 0 rfl rfl)
theorem dX0_laysCourse_50 : decode cX0_laysCourse 50 = .ok (.pop, 1) := dk_87 (dk_at dksX0_laysCourse_2 3 rfl rfl)
theorem dX0_laysCourse_51 : decode cX0_laysCourse 51 = .ok (.iinc 1 1, 3) := dk_132 1 1 (dk_at dksX0_laysCourse_2 4 rfl rfl)
theorem dX0_laysCourse_54 : decode cX0_laysCourse 54 = .ok (.goto (-52), 3) := dk_167 255 204 (dk_at dksX0_laysCourse_2 7 rfl rfl)
theorem dX0_laysCourse_57 : decode cX0_laysCourse 57 = .ok (.return_, 1) := dk_177 (dk_at dksX0_laysCourse_2 10 rfl rfl)
abbrev cX0_liesAlike : ByteArray := prog_1_method_36_code
def yX0_liesAlike : MethodName := ⟨RX0, "liesAlike", "(II)Z"⟩
def dkwX0_liesAlike_1 : List UInt8 := [16, 8, 28, 104, 29, 96, 46, 159, 0, 5, 3, 172, 132, 3, 1, 167, 255, 220, 4, 172]
abbrev dktX0_liesAlike_1 : List UInt8 := dkwX0_liesAlike_1 ++ []
def dkwX0_liesAlike_0 : List UInt8 := [3, 62, 29, 16, 8, 162, 0, 36, 42, 180, 0, 82, 16, 8, 27, 104, 29, 96, 46, 42, 180, 0, 82]
abbrev dktX0_liesAlike_0 : List UInt8 := dkwX0_liesAlike_0 ++ dktX0_liesAlike_1
theorem dksX0_liesAlike_0 : cX0_liesAlike.data.toList.drop 0 = dktX0_liesAlike_0 := by decide +kernel
theorem dksX0_liesAlike_1 : cX0_liesAlike.data.toList.drop 23 = dktX0_liesAlike_1 := dk_seg dksX0_liesAlike_0 23 rfl rfl
theorem dX0_liesAlike_0 : decode cX0_liesAlike 0 = .ok (.iconst 0, 1) := dk_3 (dk_at dksX0_liesAlike_0 0 rfl rfl)
theorem dX0_liesAlike_1 : decode cX0_liesAlike 1 = .ok (.istore_n 3, 1) := dk_62 (dk_at dksX0_liesAlike_0 1 rfl rfl)
theorem dX0_liesAlike_2 : decode cX0_liesAlike 2 = .ok (.iload_n 3, 1) := dk_29 (dk_at dksX0_liesAlike_0 2 rfl rfl)
theorem dX0_liesAlike_3 : decode cX0_liesAlike 3 = .ok (.bipush 8, 2) := dk_16 8 (dk_at dksX0_liesAlike_0 3 rfl rfl)
theorem dX0_liesAlike_5 : decode cX0_liesAlike 5 = .ok (.if_icmp .ge 36, 3) := dk_162 0 36 (dk_at dksX0_liesAlike_0 5 rfl rfl)
theorem dX0_liesAlike_8 : decode cX0_liesAlike 8 = .ok (.aload_n 0, 1) := dk_42 (dk_at dksX0_liesAlike_0 8 rfl rfl)
theorem dX0_liesAlike_9 : decode cX0_liesAlike 9 = .ok (.getfield 82, 3) := dk_180 0 82 (dk_at dksX0_liesAlike_0 9 rfl rfl)
theorem dX0_liesAlike_12 : decode cX0_liesAlike 12 = .ok (.bipush 8, 2) := dk_16 8 (dk_at dksX0_liesAlike_0 12 rfl rfl)
theorem dX0_liesAlike_14 : decode cX0_liesAlike 14 = .ok (.iload_n 1, 1) := dk_27 (dk_at dksX0_liesAlike_0 14 rfl rfl)
theorem dX0_liesAlike_15 : decode cX0_liesAlike 15 = .ok (.imul, 1) := dk_104 (dk_at dksX0_liesAlike_0 15 rfl rfl)
theorem dX0_liesAlike_16 : decode cX0_liesAlike 16 = .ok (.iload_n 3, 1) := dk_29 (dk_at dksX0_liesAlike_0 16 rfl rfl)
theorem dX0_liesAlike_17 : decode cX0_liesAlike 17 = .ok (.iadd, 1) := dk_96 (dk_at dksX0_liesAlike_0 17 rfl rfl)
theorem dX0_liesAlike_18 : decode cX0_liesAlike 18 = .ok (.iaload, 1) := dk_46 (dk_at dksX0_liesAlike_0 18 rfl rfl)
theorem dX0_liesAlike_19 : decode cX0_liesAlike 19 = .ok (.aload_n 0, 1) := dk_42 (dk_at dksX0_liesAlike_0 19 rfl rfl)
theorem dX0_liesAlike_20 : decode cX0_liesAlike 20 = .ok (.getfield 82, 3) := dk_180 0 82 (dk_at dksX0_liesAlike_0 20 rfl rfl)
theorem dX0_liesAlike_23 : decode cX0_liesAlike 23 = .ok (.bipush 8, 2) := dk_16 8 (dk_at dksX0_liesAlike_1 0 rfl rfl)
theorem dX0_liesAlike_25 : decode cX0_liesAlike 25 = .ok (.iload_n 2, 1) := dk_28 (dk_at dksX0_liesAlike_1 2 rfl rfl)
theorem dX0_liesAlike_26 : decode cX0_liesAlike 26 = .ok (.imul, 1) := dk_104 (dk_at dksX0_liesAlike_1 3 rfl rfl)
theorem dX0_liesAlike_27 : decode cX0_liesAlike 27 = .ok (.iload_n 3, 1) := dk_29 (dk_at dksX0_liesAlike_1 4 rfl rfl)
theorem dX0_liesAlike_28 : decode cX0_liesAlike 28 = .ok (.iadd, 1) := dk_96 (dk_at dksX0_liesAlike_1 5 rfl rfl)
theorem dX0_liesAlike_29 : decode cX0_liesAlike 29 = .ok (.iaload, 1) := dk_46 (dk_at dksX0_liesAlike_1 6 rfl rfl)
theorem dX0_liesAlike_30 : decode cX0_liesAlike 30 = .ok (.if_icmp .eq 5, 3) := dk_159 0 5 (dk_at dksX0_liesAlike_1 7 rfl rfl)
theorem dX0_liesAlike_33 : decode cX0_liesAlike 33 = .ok (.iconst 0, 1) := dk_3 (dk_at dksX0_liesAlike_1 10 rfl rfl)
theorem dX0_liesAlike_34 : decode cX0_liesAlike 34 = .ok (.ireturn, 1) := dk_172 (dk_at dksX0_liesAlike_1 11 rfl rfl)
theorem dX0_liesAlike_35 : decode cX0_liesAlike 35 = .ok (.iinc 3 1, 3) := dk_132 3 1 (dk_at dksX0_liesAlike_1 12 rfl rfl)
theorem dX0_liesAlike_38 : decode cX0_liesAlike 38 = .ok (.goto (-36), 3) := dk_167 255 220 (dk_at dksX0_liesAlike_1 15 rfl rfl)
theorem dX0_liesAlike_41 : decode cX0_liesAlike 41 = .ok (.iconst 1, 1) := dk_4 (dk_at dksX0_liesAlike_1 18 rfl rfl)
theorem dX0_liesAlike_42 : decode cX0_liesAlike 42 = .ok (.ireturn, 1) := dk_172 (dk_at dksX0_liesAlike_1 19 rfl rfl)
abbrev cX0_spare : ByteArray := prog_1_method_39_code
def yX0_spare : MethodName := ⟨RX0, "spare", "(III)I"⟩
def dkwX0_spare_4 : List UInt8 := [167, 0, 5, 21, 4, 172]
abbrev dktX0_spare_4 : List UInt8 := dkwX0_spare_4 ++ []
def dkwX0_spare_3 : List UInt8 := [153, 0, 7, 21, 5, 54, 4, 132, 5, 1, 167, 255, 217, 29, 154, 0, 11, 21, 4, 184, 0, 219]
abbrev dktX0_spare_3 : List UInt8 := dkwX0_spare_3 ++ dktX0_spare_4
def dkwX0_spare_2 : List UInt8 := [162, 0, 37, 21, 5, 184, 0, 219, 21, 4, 184, 0, 219, 162, 0, 18, 42, 27, 28, 21, 5, 182, 1, 43]
abbrev dktX0_spare_2 : List UInt8 := dkwX0_spare_2 ++ dktX0_spare_3
def dkwX0_spare_1 : List UInt8 := [184, 0, 107, 154, 0, 5, 2, 172, 4, 28, 120, 4, 100, 54, 4, 3, 54, 5, 21, 5, 4, 28, 120]
abbrev dktX0_spare_1 : List UInt8 := dkwX0_spare_1 ++ dktX0_spare_2
def dkwX0_spare_0 : List UInt8 := [42, 27, 182, 0, 149, 153, 0, 25, 28, 133, 10, 20, 1, 41, 184, 0, 107, 153, 0, 13, 29, 133, 9, 10]
abbrev dktX0_spare_0 : List UInt8 := dkwX0_spare_0 ++ dktX0_spare_1
theorem dksX0_spare_0 : cX0_spare.data.toList.drop 0 = dktX0_spare_0 := by decide +kernel
theorem dksX0_spare_1 : cX0_spare.data.toList.drop 24 = dktX0_spare_1 := dk_seg dksX0_spare_0 24 rfl rfl
theorem dksX0_spare_2 : cX0_spare.data.toList.drop 47 = dktX0_spare_2 := dk_seg dksX0_spare_1 23 rfl rfl
theorem dksX0_spare_3 : cX0_spare.data.toList.drop 71 = dktX0_spare_3 := dk_seg dksX0_spare_2 24 rfl rfl
theorem dksX0_spare_4 : cX0_spare.data.toList.drop 93 = dktX0_spare_4 := dk_seg dksX0_spare_3 22 rfl rfl
theorem dX0_spare_0 : decode cX0_spare 0 = .ok (.aload_n 0, 1) := dk_42 (dk_at dksX0_spare_0 0 rfl rfl)
theorem dX0_spare_1 : decode cX0_spare 1 = .ok (.iload_n 1, 1) := dk_27 (dk_at dksX0_spare_0 1 rfl rfl)
theorem dX0_spare_2 : decode cX0_spare 2 = .ok (.invokevirtual 149, 3) := dk_182 0 149 (dk_at dksX0_spare_0 2 rfl rfl)
theorem dX0_spare_5 : decode cX0_spare 5 = .ok (.ifCond .eq 25, 3) := dk_153 0 25 (dk_at dksX0_spare_0 5 rfl rfl)
theorem dX0_spare_8 : decode cX0_spare 8 = .ok (.iload_n 2, 1) := dk_28 (dk_at dksX0_spare_0 8 rfl rfl)
theorem dX0_spare_9 : decode cX0_spare 9 = .ok (.i2l, 1) := dk_133 (dk_at dksX0_spare_0 9 rfl rfl)
theorem dX0_spare_10 : decode cX0_spare 10 = .ok (.lconst 1, 1) := dk_10 (dk_at dksX0_spare_0 10 rfl rfl)
theorem dX0_spare_11 : decode cX0_spare 11 = .ok (.ldc2_w 297, 3) := dk_20 1 41 (dk_at dksX0_spare_0 11 rfl rfl)
theorem dX0_spare_14 : decode cX0_spare 14 = .ok (.invokestatic 107, 3) := dk_184 0 107 (dk_at dksX0_spare_0 14 rfl rfl)
theorem dX0_spare_17 : decode cX0_spare 17 = .ok (.ifCond .eq 13, 3) := dk_153 0 13 (dk_at dksX0_spare_0 17 rfl rfl)
theorem dX0_spare_20 : decode cX0_spare 20 = .ok (.iload_n 3, 1) := dk_29 (dk_at dksX0_spare_0 20 rfl rfl)
theorem dX0_spare_21 : decode cX0_spare 21 = .ok (.i2l, 1) := dk_133 (dk_at dksX0_spare_0 21 rfl rfl)
theorem dX0_spare_22 : decode cX0_spare 22 = .ok (.lconst 0, 1) := dk_9 (dk_at dksX0_spare_0 22 rfl rfl)
theorem dX0_spare_23 : decode cX0_spare 23 = .ok (.lconst 1, 1) := dk_10 (dk_at dksX0_spare_0 23 rfl rfl)
theorem dX0_spare_24 : decode cX0_spare 24 = .ok (.invokestatic 107, 3) := dk_184 0 107 (dk_at dksX0_spare_1 0 rfl rfl)
theorem dX0_spare_27 : decode cX0_spare 27 = .ok (.ifCond .ne 5, 3) := dk_154 0 5 (dk_at dksX0_spare_1 3 rfl rfl)
theorem dX0_spare_30 : decode cX0_spare 30 = .ok (.iconst (-1), 1) := dk_2 (dk_at dksX0_spare_1 6 rfl rfl)
theorem dX0_spare_31 : decode cX0_spare 31 = .ok (.ireturn, 1) := dk_172 (dk_at dksX0_spare_1 7 rfl rfl)
theorem dX0_spare_32 : decode cX0_spare 32 = .ok (.iconst 1, 1) := dk_4 (dk_at dksX0_spare_1 8 rfl rfl)
theorem dX0_spare_33 : decode cX0_spare 33 = .ok (.iload_n 2, 1) := dk_28 (dk_at dksX0_spare_1 9 rfl rfl)
theorem dX0_spare_34 : decode cX0_spare 34 = .ok (.ishl, 1) := dk_120 (dk_at dksX0_spare_1 10 rfl rfl)
theorem dX0_spare_35 : decode cX0_spare 35 = .ok (.iconst 1, 1) := dk_4 (dk_at dksX0_spare_1 11 rfl rfl)
theorem dX0_spare_36 : decode cX0_spare 36 = .ok (.isub, 1) := dk_100 (dk_at dksX0_spare_1 12 rfl rfl)
theorem dX0_spare_37 : decode cX0_spare 37 = .ok (.istore 4, 2) := dk_54 4 (dk_at dksX0_spare_1 13 rfl rfl)
theorem dX0_spare_39 : decode cX0_spare 39 = .ok (.iconst 0, 1) := dk_3 (dk_at dksX0_spare_1 15 rfl rfl)
theorem dX0_spare_40 : decode cX0_spare 40 = .ok (.istore 5, 2) := dk_54 5 (dk_at dksX0_spare_1 16 rfl rfl)
theorem dX0_spare_42 : decode cX0_spare 42 = .ok (.iload 5, 2) := dk_21 5 (dk_at dksX0_spare_1 18 rfl rfl)
theorem dX0_spare_44 : decode cX0_spare 44 = .ok (.iconst 1, 1) := dk_4 (dk_at dksX0_spare_1 20 rfl rfl)
theorem dX0_spare_45 : decode cX0_spare 45 = .ok (.iload_n 2, 1) := dk_28 (dk_at dksX0_spare_1 21 rfl rfl)
theorem dX0_spare_46 : decode cX0_spare 46 = .ok (.ishl, 1) := dk_120 (dk_at dksX0_spare_1 22 rfl rfl)
theorem dX0_spare_47 : decode cX0_spare 47 = .ok (.if_icmp .ge 37, 3) := dk_162 0 37 (dk_at dksX0_spare_2 0 rfl rfl)
theorem dX0_spare_50 : decode cX0_spare 50 = .ok (.iload 5, 2) := dk_21 5 (dk_at dksX0_spare_2 3 rfl rfl)
theorem dX0_spare_52 : decode cX0_spare 52 = .ok (.invokestatic 219, 3) := dk_184 0 219 (dk_at dksX0_spare_2 5 rfl rfl)
theorem dX0_spare_55 : decode cX0_spare 55 = .ok (.iload 4, 2) := dk_21 4 (dk_at dksX0_spare_2 8 rfl rfl)
theorem dX0_spare_57 : decode cX0_spare 57 = .ok (.invokestatic 219, 3) := dk_184 0 219 (dk_at dksX0_spare_2 10 rfl rfl)
theorem dX0_spare_60 : decode cX0_spare 60 = .ok (.if_icmp .ge 18, 3) := dk_162 0 18 (dk_at dksX0_spare_2 13 rfl rfl)
theorem dX0_spare_63 : decode cX0_spare 63 = .ok (.aload_n 0, 1) := dk_42 (dk_at dksX0_spare_2 16 rfl rfl)
theorem dX0_spare_64 : decode cX0_spare 64 = .ok (.iload_n 1, 1) := dk_27 (dk_at dksX0_spare_2 17 rfl rfl)
theorem dX0_spare_65 : decode cX0_spare 65 = .ok (.iload_n 2, 1) := dk_28 (dk_at dksX0_spare_2 18 rfl rfl)
theorem dX0_spare_66 : decode cX0_spare 66 = .ok (.iload 5, 2) := dk_21 5 (dk_at dksX0_spare_2 19 rfl rfl)
theorem dX0_spare_68 : decode cX0_spare 68 = .ok (.invokevirtual 299, 3) := dk_182 1 43 (dk_at dksX0_spare_2 21 rfl rfl)
theorem dX0_spare_71 : decode cX0_spare 71 = .ok (.ifCond .eq 7, 3) := dk_153 0 7 (dk_at dksX0_spare_3 0 rfl rfl)
theorem dX0_spare_74 : decode cX0_spare 74 = .ok (.iload 5, 2) := dk_21 5 (dk_at dksX0_spare_3 3 rfl rfl)
theorem dX0_spare_76 : decode cX0_spare 76 = .ok (.istore 4, 2) := dk_54 4 (dk_at dksX0_spare_3 5 rfl rfl)
theorem dX0_spare_78 : decode cX0_spare 78 = .ok (.iinc 5 1, 3) := dk_132 5 1 (dk_at dksX0_spare_3 7 rfl rfl)
theorem dX0_spare_81 : decode cX0_spare 81 = .ok (.goto (-39), 3) := dk_167 255 217 (dk_at dksX0_spare_3 10 rfl rfl)
theorem dX0_spare_84 : decode cX0_spare 84 = .ok (.iload_n 3, 1) := dk_29 (dk_at dksX0_spare_3 13 rfl rfl)
theorem dX0_spare_85 : decode cX0_spare 85 = .ok (.ifCond .ne 11, 3) := dk_154 0 11 (dk_at dksX0_spare_3 14 rfl rfl)
theorem dX0_spare_88 : decode cX0_spare 88 = .ok (.iload 4, 2) := dk_21 4 (dk_at dksX0_spare_3 17 rfl rfl)
theorem dX0_spare_90 : decode cX0_spare 90 = .ok (.invokestatic 219, 3) := dk_184 0 219 (dk_at dksX0_spare_3 19 rfl rfl)
theorem dX0_spare_93 : decode cX0_spare 93 = .ok (.goto 5, 3) := dk_167 0 5 (dk_at dksX0_spare_4 0 rfl rfl)
theorem dX0_spare_96 : decode cX0_spare 96 = .ok (.iload 4, 2) := dk_21 4 (dk_at dksX0_spare_4 3 rfl rfl)
theorem dX0_spare_98 : decode cX0_spare 98 = .ok (.ireturn, 1) := dk_172 (dk_at dksX0_spare_4 5 rfl rfl)
abbrev cX0_isSpared : ByteArray := prog_1_method_38_code
def yX0_isSpared : MethodName := ⟨RX0, "isSpared", "(III)Z"⟩
def dkwX0_isSpared_4 : List UInt8 := [167, 255, 176, 4, 172]
abbrev dktX0_isSpared_4 : List UInt8 := dkwX0_isSpared_4 ++ []
def dkwX0_isSpared_3 : List UInt8 := [29, 21, 5, 184, 0, 166, 153, 0, 15, 21, 4, 42, 180, 0, 10, 180, 0, 100, 96, 54, 4, 132, 5, 1]
abbrev dktX0_isSpared_3 : List UInt8 := dkwX0_isSpared_3 ++ dktX0_isSpared_4
def dkwX0_isSpared_2 : List UInt8 := [182, 0, 179, 27, 184, 0, 166, 153, 0, 17, 21, 4, 42, 180, 0, 10, 180, 0, 156, 161, 0, 5, 3, 172]
abbrev dktX0_isSpared_2 : List UInt8 := dkwX0_isSpared_2 ++ dktX0_isSpared_3
def dkwX0_isSpared_1 : List UInt8 := [184, 0, 166, 153, 0, 6, 3, 54, 4, 42, 180, 0, 10, 42, 180, 0, 19, 180, 0, 176, 21, 5, 96]
abbrev dktX0_isSpared_1 : List UInt8 := dkwX0_isSpared_1 ++ dktX0_isSpared_2
def dkwX0_isSpared_0 : List UInt8 := [42, 180, 0, 19, 180, 0, 153, 27, 46, 54, 4, 3, 54, 5, 21, 5, 28, 162, 0, 80, 29, 21, 5]
abbrev dktX0_isSpared_0 : List UInt8 := dkwX0_isSpared_0 ++ dktX0_isSpared_1
theorem dksX0_isSpared_0 : cX0_isSpared.data.toList.drop 0 = dktX0_isSpared_0 := by decide +kernel
theorem dksX0_isSpared_1 : cX0_isSpared.data.toList.drop 23 = dktX0_isSpared_1 := dk_seg dksX0_isSpared_0 23 rfl rfl
theorem dksX0_isSpared_2 : cX0_isSpared.data.toList.drop 46 = dktX0_isSpared_2 := dk_seg dksX0_isSpared_1 23 rfl rfl
theorem dksX0_isSpared_3 : cX0_isSpared.data.toList.drop 70 = dktX0_isSpared_3 := dk_seg dksX0_isSpared_2 24 rfl rfl
theorem dksX0_isSpared_4 : cX0_isSpared.data.toList.drop 94 = dktX0_isSpared_4 := dk_seg dksX0_isSpared_3 24 rfl rfl
theorem dX0_isSpared_0 : decode cX0_isSpared 0 = .ok (.aload_n 0, 1) := dk_42 (dk_at dksX0_isSpared_0 0 rfl rfl)
theorem dX0_isSpared_1 : decode cX0_isSpared 1 = .ok (.getfield 19, 3) := dk_180 0 19 (dk_at dksX0_isSpared_0 1 rfl rfl)
theorem dX0_isSpared_4 : decode cX0_isSpared 4 = .ok (.getfield 153, 3) := dk_180 0 153 (dk_at dksX0_isSpared_0 4 rfl rfl)
theorem dX0_isSpared_7 : decode cX0_isSpared 7 = .ok (.iload_n 1, 1) := dk_27 (dk_at dksX0_isSpared_0 7 rfl rfl)
theorem dX0_isSpared_8 : decode cX0_isSpared 8 = .ok (.iaload, 1) := dk_46 (dk_at dksX0_isSpared_0 8 rfl rfl)
theorem dX0_isSpared_9 : decode cX0_isSpared 9 = .ok (.istore 4, 2) := dk_54 4 (dk_at dksX0_isSpared_0 9 rfl rfl)
theorem dX0_isSpared_11 : decode cX0_isSpared 11 = .ok (.iconst 0, 1) := dk_3 (dk_at dksX0_isSpared_0 11 rfl rfl)
theorem dX0_isSpared_12 : decode cX0_isSpared 12 = .ok (.istore 5, 2) := dk_54 5 (dk_at dksX0_isSpared_0 12 rfl rfl)
theorem dX0_isSpared_14 : decode cX0_isSpared 14 = .ok (.iload 5, 2) := dk_21 5 (dk_at dksX0_isSpared_0 14 rfl rfl)
theorem dX0_isSpared_16 : decode cX0_isSpared 16 = .ok (.iload_n 2, 1) := dk_28 (dk_at dksX0_isSpared_0 16 rfl rfl)
theorem dX0_isSpared_17 : decode cX0_isSpared 17 = .ok (.if_icmp .ge 80, 3) := dk_162 0 80 (dk_at dksX0_isSpared_0 17 rfl rfl)
theorem dX0_isSpared_20 : decode cX0_isSpared 20 = .ok (.iload_n 3, 1) := dk_29 (dk_at dksX0_isSpared_0 20 rfl rfl)
theorem dX0_isSpared_21 : decode cX0_isSpared 21 = .ok (.iload 5, 2) := dk_21 5 (dk_at dksX0_isSpared_0 21 rfl rfl)
theorem dX0_isSpared_23 : decode cX0_isSpared 23 = .ok (.invokestatic 166, 3) := dk_184 0 166 (dk_at dksX0_isSpared_1 0 rfl rfl)
theorem dX0_isSpared_26 : decode cX0_isSpared 26 = .ok (.ifCond .eq 6, 3) := dk_153 0 6 (dk_at dksX0_isSpared_1 3 rfl rfl)
theorem dX0_isSpared_29 : decode cX0_isSpared 29 = .ok (.iconst 0, 1) := dk_3 (dk_at dksX0_isSpared_1 6 rfl rfl)
theorem dX0_isSpared_30 : decode cX0_isSpared 30 = .ok (.istore 4, 2) := dk_54 4 (dk_at dksX0_isSpared_1 7 rfl rfl)
theorem dX0_isSpared_32 : decode cX0_isSpared 32 = .ok (.aload_n 0, 1) := dk_42 (dk_at dksX0_isSpared_1 9 rfl rfl)
theorem dX0_isSpared_33 : decode cX0_isSpared 33 = .ok (.getfield 10, 3) := dk_180 0 10 (dk_at dksX0_isSpared_1 10 rfl rfl)
theorem dX0_isSpared_36 : decode cX0_isSpared 36 = .ok (.aload_n 0, 1) := dk_42 (dk_at dksX0_isSpared_1 13 rfl rfl)
theorem dX0_isSpared_37 : decode cX0_isSpared 37 = .ok (.getfield 19, 3) := dk_180 0 19 (dk_at dksX0_isSpared_1 14 rfl rfl)
theorem dX0_isSpared_40 : decode cX0_isSpared 40 = .ok (.getfield 176, 3) := dk_180 0 176 (dk_at dksX0_isSpared_1 17 rfl rfl)
theorem dX0_isSpared_43 : decode cX0_isSpared 43 = .ok (.iload 5, 2) := dk_21 5 (dk_at dksX0_isSpared_1 20 rfl rfl)
theorem dX0_isSpared_45 : decode cX0_isSpared 45 = .ok (.iadd, 1) := dk_96 (dk_at dksX0_isSpared_1 22 rfl rfl)
theorem dX0_isSpared_46 : decode cX0_isSpared 46 = .ok (.invokevirtual 179, 3) := dk_182 0 179 (dk_at dksX0_isSpared_2 0 rfl rfl)
theorem dX0_isSpared_49 : decode cX0_isSpared 49 = .ok (.iload_n 1, 1) := dk_27 (dk_at dksX0_isSpared_2 3 rfl rfl)
theorem dX0_isSpared_50 : decode cX0_isSpared 50 = .ok (.invokestatic 166, 3) := dk_184 0 166 (dk_at dksX0_isSpared_2 4 rfl rfl)
theorem dX0_isSpared_53 : decode cX0_isSpared 53 = .ok (.ifCond .eq 17, 3) := dk_153 0 17 (dk_at dksX0_isSpared_2 7 rfl rfl)
theorem dX0_isSpared_56 : decode cX0_isSpared 56 = .ok (.iload 4, 2) := dk_21 4 (dk_at dksX0_isSpared_2 10 rfl rfl)
theorem dX0_isSpared_58 : decode cX0_isSpared 58 = .ok (.aload_n 0, 1) := dk_42 (dk_at dksX0_isSpared_2 12 rfl rfl)
theorem dX0_isSpared_59 : decode cX0_isSpared 59 = .ok (.getfield 10, 3) := dk_180 0 10 (dk_at dksX0_isSpared_2 13 rfl rfl)
theorem dX0_isSpared_62 : decode cX0_isSpared 62 = .ok (.getfield 156, 3) := dk_180 0 156 (dk_at dksX0_isSpared_2 16 rfl rfl)
theorem dX0_isSpared_65 : decode cX0_isSpared 65 = .ok (.if_icmp .lt 5, 3) := dk_161 0 5 (dk_at dksX0_isSpared_2 19 rfl rfl)
theorem dX0_isSpared_68 : decode cX0_isSpared 68 = .ok (.iconst 0, 1) := dk_3 (dk_at dksX0_isSpared_2 22 rfl rfl)
theorem dX0_isSpared_69 : decode cX0_isSpared 69 = .ok (.ireturn, 1) := dk_172 (dk_at dksX0_isSpared_2 23 rfl rfl)
theorem dX0_isSpared_70 : decode cX0_isSpared 70 = .ok (.iload_n 3, 1) := dk_29 (dk_at dksX0_isSpared_3 0 rfl rfl)
theorem dX0_isSpared_71 : decode cX0_isSpared 71 = .ok (.iload 5, 2) := dk_21 5 (dk_at dksX0_isSpared_3 1 rfl rfl)
theorem dX0_isSpared_73 : decode cX0_isSpared 73 = .ok (.invokestatic 166, 3) := dk_184 0 166 (dk_at dksX0_isSpared_3 3 rfl rfl)
theorem dX0_isSpared_76 : decode cX0_isSpared 76 = .ok (.ifCond .eq 15, 3) := dk_153 0 15 (dk_at dksX0_isSpared_3 6 rfl rfl)
theorem dX0_isSpared_79 : decode cX0_isSpared 79 = .ok (.iload 4, 2) := dk_21 4 (dk_at dksX0_isSpared_3 9 rfl rfl)
theorem dX0_isSpared_81 : decode cX0_isSpared 81 = .ok (.aload_n 0, 1) := dk_42 (dk_at dksX0_isSpared_3 11 rfl rfl)
theorem dX0_isSpared_82 : decode cX0_isSpared 82 = .ok (.getfield 10, 3) := dk_180 0 10 (dk_at dksX0_isSpared_3 12 rfl rfl)
theorem dX0_isSpared_85 : decode cX0_isSpared 85 = .ok (.getfield 100, 3) := dk_180 0 100 (dk_at dksX0_isSpared_3 15 rfl rfl)
theorem dX0_isSpared_88 : decode cX0_isSpared 88 = .ok (.iadd, 1) := dk_96 (dk_at dksX0_isSpared_3 18 rfl rfl)
theorem dX0_isSpared_89 : decode cX0_isSpared 89 = .ok (.istore 4, 2) := dk_54 4 (dk_at dksX0_isSpared_3 19 rfl rfl)
theorem dX0_isSpared_91 : decode cX0_isSpared 91 = .ok (.iinc 5 1, 3) := dk_132 5 1 (dk_at dksX0_isSpared_3 21 rfl rfl)
theorem dX0_isSpared_94 : decode cX0_isSpared 94 = .ok (.goto (-80), 3) := dk_167 255 176 (dk_at dksX0_isSpared_4 0 rfl rfl)
theorem dX0_isSpared_97 : decode cX0_isSpared 97 = .ok (.iconst 1, 1) := dk_4 (dk_at dksX0_isSpared_4 3 rfl rfl)
theorem dX0_isSpared_98 : decode cX0_isSpared 98 = .ok (.ireturn, 1) := dk_172 (dk_at dksX0_isSpared_4 4 rfl rfl)
abbrev cX0_figure : ByteArray := prog_1_method_41_code
def yX0_figure : MethodName := ⟨RX0, "figure", "(II)I"⟩
def dkwX0_figure_7 : List UInt8 := [160, 0, 8, 21, 4, 167, 0, 8, 21, 4, 184, 0, 219, 172]
abbrev dktX0_figure_7 : List UInt8 := dkwX0_figure_7 ++ []
def dkwX0_figure_6 : List UInt8 := [160, 0, 7, 21, 5, 54, 4, 132, 5, 1, 167, 255, 201, 21, 4, 16, 254, 159, 0, 8, 28, 4]
abbrev dktX0_figure_6 : List UInt8 := dkwX0_figure_6 ++ dktX0_figure_7
def dkwX0_figure_5 : List UInt8 := [21, 5, 184, 0, 219, 21, 4, 184, 0, 219, 161, 0, 6, 167, 0, 17, 42, 21, 5, 182, 1, 47, 27]
abbrev dktX0_figure_5 : List UInt8 := dkwX0_figure_5 ++ dktX0_figure_6
def dkwX0_figure_4 : List UInt8 := [54, 5, 21, 5, 29, 163, 0, 55, 21, 5, 29, 2, 130, 126, 154, 0, 40, 21, 4, 16, 254, 159, 0, 19]
abbrev dktX0_figure_4 : List UInt8 := dkwX0_figure_4 ++ dktX0_figure_5
def dkwX0_figure_3 : List UInt8 := [158, 0, 10, 4, 21, 4, 120, 167, 0, 4, 3, 128, 62, 132, 4, 1, 167, 255, 217, 16, 254, 54, 4, 3]
abbrev dktX0_figure_3 : List UInt8 := dkwX0_figure_3 ++ dktX0_figure_4
def dkwX0_figure_2 : List UInt8 := [21, 4, 42, 180, 0, 10, 182, 0, 103, 162, 0, 33, 29, 42, 180, 0, 19, 180, 0, 153, 21, 4, 46]
abbrev dktX0_figure_2 : List UInt8 := dkwX0_figure_2 ++ dktX0_figure_3
def dkwX0_figure_1 : List UInt8 := [184, 0, 107, 153, 0, 13, 28, 133, 9, 10, 184, 0, 107, 154, 0, 5, 2, 172, 3, 62, 3, 54, 4]
abbrev dktX0_figure_1 : List UInt8 := dkwX0_figure_1 ++ dktX0_figure_2
def dkwX0_figure_0 : List UInt8 := [42, 182, 1, 12, 153, 0, 34, 27, 133, 9, 4, 42, 180, 0, 10, 182, 0, 103, 120, 4, 100, 133]
abbrev dktX0_figure_0 : List UInt8 := dkwX0_figure_0 ++ dktX0_figure_1
theorem dksX0_figure_0 : cX0_figure.data.toList.drop 0 = dktX0_figure_0 := by decide +kernel
theorem dksX0_figure_1 : cX0_figure.data.toList.drop 22 = dktX0_figure_1 := dk_seg dksX0_figure_0 22 rfl rfl
theorem dksX0_figure_2 : cX0_figure.data.toList.drop 45 = dktX0_figure_2 := dk_seg dksX0_figure_1 23 rfl rfl
theorem dksX0_figure_3 : cX0_figure.data.toList.drop 68 = dktX0_figure_3 := dk_seg dksX0_figure_2 23 rfl rfl
theorem dksX0_figure_4 : cX0_figure.data.toList.drop 92 = dktX0_figure_4 := dk_seg dksX0_figure_3 24 rfl rfl
theorem dksX0_figure_5 : cX0_figure.data.toList.drop 116 = dktX0_figure_5 := dk_seg dksX0_figure_4 24 rfl rfl
theorem dksX0_figure_6 : cX0_figure.data.toList.drop 139 = dktX0_figure_6 := dk_seg dksX0_figure_5 23 rfl rfl
theorem dksX0_figure_7 : cX0_figure.data.toList.drop 161 = dktX0_figure_7 := dk_seg dksX0_figure_6 22 rfl rfl
theorem dX0_figure_0 : decode cX0_figure 0 = .ok (.aload_n 0, 1) := dk_42 (dk_at dksX0_figure_0 0 rfl rfl)
theorem dX0_figure_1 : decode cX0_figure 1 = .ok (.invokevirtual 268, 3) := dk_182 1 12 (dk_at dksX0_figure_0 1 rfl rfl)
theorem dX0_figure_4 : decode cX0_figure 4 = .ok (.ifCond .eq 34, 3) := dk_153 0 34 (dk_at dksX0_figure_0 4 rfl rfl)
theorem dX0_figure_7 : decode cX0_figure 7 = .ok (.iload_n 1, 1) := dk_27 (dk_at dksX0_figure_0 7 rfl rfl)
theorem dX0_figure_8 : decode cX0_figure 8 = .ok (.i2l, 1) := dk_133 (dk_at dksX0_figure_0 8 rfl rfl)
theorem dX0_figure_9 : decode cX0_figure 9 = .ok (.lconst 0, 1) := dk_9 (dk_at dksX0_figure_0 9 rfl rfl)
theorem dX0_figure_10 : decode cX0_figure 10 = .ok (.iconst 1, 1) := dk_4 (dk_at dksX0_figure_0 10 rfl rfl)
theorem dX0_figure_11 : decode cX0_figure 11 = .ok (.aload_n 0, 1) := dk_42 (dk_at dksX0_figure_0 11 rfl rfl)
theorem dX0_figure_12 : decode cX0_figure 12 = .ok (.getfield 10, 3) := dk_180 0 10 (dk_at dksX0_figure_0 12 rfl rfl)
theorem dX0_figure_15 : decode cX0_figure 15 = .ok (.invokevirtual 103, 3) := dk_182 0 103 (dk_at dksX0_figure_0 15 rfl rfl)
theorem dX0_figure_18 : decode cX0_figure 18 = .ok (.ishl, 1) := dk_120 (dk_at dksX0_figure_0 18 rfl rfl)
theorem dX0_figure_19 : decode cX0_figure 19 = .ok (.iconst 1, 1) := dk_4 (dk_at dksX0_figure_0 19 rfl rfl)
theorem dX0_figure_20 : decode cX0_figure 20 = .ok (.isub, 1) := dk_100 (dk_at dksX0_figure_0 20 rfl rfl)
theorem dX0_figure_21 : decode cX0_figure 21 = .ok (.i2l, 1) := dk_133 (dk_at dksX0_figure_0 21 rfl rfl)
theorem dX0_figure_22 : decode cX0_figure 22 = .ok (.invokestatic 107, 3) := dk_184 0 107 (dk_at dksX0_figure_1 0 rfl rfl)
theorem dX0_figure_25 : decode cX0_figure 25 = .ok (.ifCond .eq 13, 3) := dk_153 0 13 (dk_at dksX0_figure_1 3 rfl rfl)
theorem dX0_figure_28 : decode cX0_figure 28 = .ok (.iload_n 2, 1) := dk_28 (dk_at dksX0_figure_1 6 rfl rfl)
theorem dX0_figure_29 : decode cX0_figure 29 = .ok (.i2l, 1) := dk_133 (dk_at dksX0_figure_1 7 rfl rfl)
theorem dX0_figure_30 : decode cX0_figure 30 = .ok (.lconst 0, 1) := dk_9 (dk_at dksX0_figure_1 8 rfl rfl)
theorem dX0_figure_31 : decode cX0_figure 31 = .ok (.lconst 1, 1) := dk_10 (dk_at dksX0_figure_1 9 rfl rfl)
theorem dX0_figure_32 : decode cX0_figure 32 = .ok (.invokestatic 107, 3) := dk_184 0 107 (dk_at dksX0_figure_1 10 rfl rfl)
theorem dX0_figure_35 : decode cX0_figure 35 = .ok (.ifCond .ne 5, 3) := dk_154 0 5 (dk_at dksX0_figure_1 13 rfl rfl)
theorem dX0_figure_38 : decode cX0_figure 38 = .ok (.iconst (-1), 1) := dk_2 (dk_at dksX0_figure_1 16 rfl rfl)
theorem dX0_figure_39 : decode cX0_figure 39 = .ok (.ireturn, 1) := dk_172 (dk_at dksX0_figure_1 17 rfl rfl)
theorem dX0_figure_40 : decode cX0_figure 40 = .ok (.iconst 0, 1) := dk_3 (dk_at dksX0_figure_1 18 rfl rfl)
theorem dX0_figure_41 : decode cX0_figure 41 = .ok (.istore_n 3, 1) := dk_62 (dk_at dksX0_figure_1 19 rfl rfl)
theorem dX0_figure_42 : decode cX0_figure 42 = .ok (.iconst 0, 1) := dk_3 (dk_at dksX0_figure_1 20 rfl rfl)
theorem dX0_figure_43 : decode cX0_figure 43 = .ok (.istore 4, 2) := dk_54 4 (dk_at dksX0_figure_1 21 rfl rfl)
theorem dX0_figure_45 : decode cX0_figure 45 = .ok (.iload 4, 2) := dk_21 4 (dk_at dksX0_figure_2 0 rfl rfl)
theorem dX0_figure_47 : decode cX0_figure 47 = .ok (.aload_n 0, 1) := dk_42 (dk_at dksX0_figure_2 2 rfl rfl)
theorem dX0_figure_48 : decode cX0_figure 48 = .ok (.getfield 10, 3) := dk_180 0 10 (dk_at dksX0_figure_2 3 rfl rfl)
theorem dX0_figure_51 : decode cX0_figure 51 = .ok (.invokevirtual 103, 3) := dk_182 0 103 (dk_at dksX0_figure_2 6 rfl rfl)
theorem dX0_figure_54 : decode cX0_figure 54 = .ok (.if_icmp .ge 33, 3) := dk_162 0 33 (dk_at dksX0_figure_2 9 rfl rfl)
theorem dX0_figure_57 : decode cX0_figure 57 = .ok (.iload_n 3, 1) := dk_29 (dk_at dksX0_figure_2 12 rfl rfl)
theorem dX0_figure_58 : decode cX0_figure 58 = .ok (.aload_n 0, 1) := dk_42 (dk_at dksX0_figure_2 13 rfl rfl)
theorem dX0_figure_59 : decode cX0_figure 59 = .ok (.getfield 19, 3) := dk_180 0 19 (dk_at dksX0_figure_2 14 rfl rfl)
theorem dX0_figure_62 : decode cX0_figure 62 = .ok (.getfield 153, 3) := dk_180 0 153 (dk_at dksX0_figure_2 17 rfl rfl)
theorem dX0_figure_65 : decode cX0_figure 65 = .ok (.iload 4, 2) := dk_21 4 (dk_at dksX0_figure_2 20 rfl rfl)
theorem dX0_figure_67 : decode cX0_figure 67 = .ok (.iaload, 1) := dk_46 (dk_at dksX0_figure_2 22 rfl rfl)
theorem dX0_figure_68 : decode cX0_figure 68 = .ok (.ifCond .le 10, 3) := dk_158 0 10 (dk_at dksX0_figure_3 0 rfl rfl)
theorem dX0_figure_71 : decode cX0_figure 71 = .ok (.iconst 1, 1) := dk_4 (dk_at dksX0_figure_3 3 rfl rfl)
theorem dX0_figure_72 : decode cX0_figure 72 = .ok (.iload 4, 2) := dk_21 4 (dk_at dksX0_figure_3 4 rfl rfl)
theorem dX0_figure_74 : decode cX0_figure 74 = .ok (.ishl, 1) := dk_120 (dk_at dksX0_figure_3 6 rfl rfl)
theorem dX0_figure_75 : decode cX0_figure 75 = .ok (.goto 4, 3) := dk_167 0 4 (dk_at dksX0_figure_3 7 rfl rfl)
theorem dX0_figure_78 : decode cX0_figure 78 = .ok (.iconst 0, 1) := dk_3 (dk_at dksX0_figure_3 10 rfl rfl)
theorem dX0_figure_79 : decode cX0_figure 79 = .ok (.ior, 1) := dk_128 (dk_at dksX0_figure_3 11 rfl rfl)
theorem dX0_figure_80 : decode cX0_figure 80 = .ok (.istore_n 3, 1) := dk_62 (dk_at dksX0_figure_3 12 rfl rfl)
theorem dX0_figure_81 : decode cX0_figure 81 = .ok (.iinc 4 1, 3) := dk_132 4 1 (dk_at dksX0_figure_3 13 rfl rfl)
theorem dX0_figure_84 : decode cX0_figure 84 = .ok (.goto (-39), 3) := dk_167 255 217 (dk_at dksX0_figure_3 16 rfl rfl)
theorem dX0_figure_87 : decode cX0_figure 87 = .ok (.bipush (-2), 2) := dk_16 254 (dk_at dksX0_figure_3 19 rfl rfl)
theorem dX0_figure_89 : decode cX0_figure 89 = .ok (.istore 4, 2) := dk_54 4 (dk_at dksX0_figure_3 21 rfl rfl)
theorem dX0_figure_91 : decode cX0_figure 91 = .ok (.iconst 0, 1) := dk_3 (dk_at dksX0_figure_3 23 rfl rfl)
theorem dX0_figure_92 : decode cX0_figure 92 = .ok (.istore 5, 2) := dk_54 5 (dk_at dksX0_figure_4 0 rfl rfl)
theorem dX0_figure_94 : decode cX0_figure 94 = .ok (.iload 5, 2) := dk_21 5 (dk_at dksX0_figure_4 2 rfl rfl)
theorem dX0_figure_96 : decode cX0_figure 96 = .ok (.iload_n 3, 1) := dk_29 (dk_at dksX0_figure_4 4 rfl rfl)
theorem dX0_figure_97 : decode cX0_figure 97 = .ok (.if_icmp .gt 55, 3) := dk_163 0 55 (dk_at dksX0_figure_4 5 rfl rfl)
theorem dX0_figure_100 : decode cX0_figure 100 = .ok (.iload 5, 2) := dk_21 5 (dk_at dksX0_figure_4 8 rfl rfl)
theorem dX0_figure_102 : decode cX0_figure 102 = .ok (.iload_n 3, 1) := dk_29 (dk_at dksX0_figure_4 10 rfl rfl)
theorem dX0_figure_103 : decode cX0_figure 103 = .ok (.iconst (-1), 1) := dk_2 (dk_at dksX0_figure_4 11 rfl rfl)
theorem dX0_figure_104 : decode cX0_figure 104 = .ok (.ixor, 1) := dk_130 (dk_at dksX0_figure_4 12 rfl rfl)
theorem dX0_figure_105 : decode cX0_figure 105 = .ok (.iand, 1) := dk_126 (dk_at dksX0_figure_4 13 rfl rfl)
theorem dX0_figure_106 : decode cX0_figure 106 = .ok (.ifCond .ne 40, 3) := dk_154 0 40 (dk_at dksX0_figure_4 14 rfl rfl)
theorem dX0_figure_109 : decode cX0_figure 109 = .ok (.iload 4, 2) := dk_21 4 (dk_at dksX0_figure_4 17 rfl rfl)
theorem dX0_figure_111 : decode cX0_figure 111 = .ok (.bipush (-2), 2) := dk_16 254 (dk_at dksX0_figure_4 19 rfl rfl)
theorem dX0_figure_113 : decode cX0_figure 113 = .ok (.if_icmp .eq 19, 3) := dk_159 0 19 (dk_at dksX0_figure_4 21 rfl rfl)
theorem dX0_figure_116 : decode cX0_figure 116 = .ok (.iload 5, 2) := dk_21 5 (dk_at dksX0_figure_5 0 rfl rfl)
theorem dX0_figure_118 : decode cX0_figure 118 = .ok (.invokestatic 219, 3) := dk_184 0 219 (dk_at dksX0_figure_5 2 rfl rfl)
theorem dX0_figure_121 : decode cX0_figure 121 = .ok (.iload 4, 2) := dk_21 4 (dk_at dksX0_figure_5 5 rfl rfl)
theorem dX0_figure_123 : decode cX0_figure 123 = .ok (.invokestatic 219, 3) := dk_184 0 219 (dk_at dksX0_figure_5 7 rfl rfl)
theorem dX0_figure_126 : decode cX0_figure 126 = .ok (.if_icmp .lt 6, 3) := dk_161 0 6 (dk_at dksX0_figure_5 10 rfl rfl)
theorem dX0_figure_129 : decode cX0_figure 129 = .ok (.goto 17, 3) := dk_167 0 17 (dk_at dksX0_figure_5 13 rfl rfl)
theorem dX0_figure_132 : decode cX0_figure 132 = .ok (.aload_n 0, 1) := dk_42 (dk_at dksX0_figure_5 16 rfl rfl)
theorem dX0_figure_133 : decode cX0_figure 133 = .ok (.iload 5, 2) := dk_21 5 (dk_at dksX0_figure_5 17 rfl rfl)
theorem dX0_figure_135 : decode cX0_figure 135 = .ok (.invokevirtual 303, 3) := dk_182 1 47 (dk_at dksX0_figure_5 19 rfl rfl)
theorem dX0_figure_138 : decode cX0_figure 138 = .ok (.iload_n 1, 1) := dk_27 (dk_at dksX0_figure_5 22 rfl rfl)
theorem dX0_figure_139 : decode cX0_figure 139 = .ok (.if_icmp .ne 7, 3) := dk_160 0 7 (dk_at dksX0_figure_6 0 rfl rfl)
theorem dX0_figure_142 : decode cX0_figure 142 = .ok (.iload 5, 2) := dk_21 5 (dk_at dksX0_figure_6 3 rfl rfl)
theorem dX0_figure_144 : decode cX0_figure 144 = .ok (.istore 4, 2) := dk_54 4 (dk_at dksX0_figure_6 5 rfl rfl)
theorem dX0_figure_146 : decode cX0_figure 146 = .ok (.iinc 5 1, 3) := dk_132 5 1 (dk_at dksX0_figure_6 7 rfl rfl)
theorem dX0_figure_149 : decode cX0_figure 149 = .ok (.goto (-55), 3) := dk_167 255 201 (dk_at dksX0_figure_6 10 rfl rfl)
theorem dX0_figure_152 : decode cX0_figure 152 = .ok (.iload 4, 2) := dk_21 4 (dk_at dksX0_figure_6 13 rfl rfl)
theorem dX0_figure_154 : decode cX0_figure 154 = .ok (.bipush (-2), 2) := dk_16 254 (dk_at dksX0_figure_6 15 rfl rfl)
theorem dX0_figure_156 : decode cX0_figure 156 = .ok (.if_icmp .eq 8, 3) := dk_159 0 8 (dk_at dksX0_figure_6 17 rfl rfl)
theorem dX0_figure_159 : decode cX0_figure 159 = .ok (.iload_n 2, 1) := dk_28 (dk_at dksX0_figure_6 20 rfl rfl)
theorem dX0_figure_160 : decode cX0_figure 160 = .ok (.iconst 1, 1) := dk_4 (dk_at dksX0_figure_6 21 rfl rfl)
theorem dX0_figure_161 : decode cX0_figure 161 = .ok (.if_icmp .ne 8, 3) := dk_160 0 8 (dk_at dksX0_figure_7 0 rfl rfl)
theorem dX0_figure_164 : decode cX0_figure 164 = .ok (.iload 4, 2) := dk_21 4 (dk_at dksX0_figure_7 3 rfl rfl)
theorem dX0_figure_166 : decode cX0_figure 166 = .ok (.goto 8, 3) := dk_167 0 8 (dk_at dksX0_figure_7 5 rfl rfl)
theorem dX0_figure_169 : decode cX0_figure 169 = .ok (.iload 4, 2) := dk_21 4 (dk_at dksX0_figure_7 8 rfl rfl)
theorem dX0_figure_171 : decode cX0_figure 171 = .ok (.invokestatic 219, 3) := dk_184 0 219 (dk_at dksX0_figure_7 10 rfl rfl)
theorem dX0_figure_174 : decode cX0_figure 174 = .ok (.ireturn, 1) := dk_172 (dk_at dksX0_figure_7 13 rfl rfl)
abbrev cX0_closedBehind : ByteArray := prog_1_method_40_code
def yX0_closedBehind : MethodName := ⟨RX0, "closedBehind", "(I)I"⟩
def dkwX0_closedBehind_6 : List UInt8 := [42, 180, 0, 10, 182, 0, 215, 172]
abbrev dktX0_closedBehind_6 : List UInt8 := dkwX0_closedBehind_6 ++ []
def dkwX0_closedBehind_5 : List UInt8 := [180, 0, 163, 27, 128, 181, 0, 163, 42, 180, 0, 23, 42, 180, 0, 10, 182, 0, 249, 87, 42, 180, 0, 23]
abbrev dktX0_closedBehind_5 : List UInt8 := dkwX0_closedBehind_5 ++ dktX0_closedBehind_6
def dkwX0_closedBehind_4 : List UInt8 := [46, 42, 180, 0, 19, 180, 0, 153, 28, 46, 182, 1, 21, 132, 2, 1, 167, 255, 196, 42, 180, 0, 23, 89]
abbrev dktX0_closedBehind_4 : List UInt8 := dkwX0_closedBehind_4 ++ dktX0_closedBehind_5
def dkwX0_closedBehind_3 : List UInt8 := [180, 0, 23, 180, 0, 170, 28, 46, 2, 159, 0, 28, 42, 180, 0, 23, 42, 180, 0, 23, 180, 0, 170, 28]
abbrev dktX0_closedBehind_3 : List UInt8 := dkwX0_closedBehind_3 ++ dktX0_closedBehind_4
def dkwX0_closedBehind_2 : List UInt8 := [3, 61, 28, 42, 180, 0, 10, 182, 0, 103, 162, 0, 55, 27, 28, 184, 0, 166, 153, 0, 41, 42]
abbrev dktX0_closedBehind_2 : List UInt8 := dkwX0_closedBehind_2 ++ dktX0_closedBehind_3
def dkwX0_closedBehind_1 : List UInt8 := [27, 28, 184, 0, 166, 153, 0, 13, 42, 180, 0, 23, 180, 0, 153, 28, 3, 79, 132, 2, 1, 167, 255, 224]
abbrev dktX0_closedBehind_1 : List UInt8 := dkwX0_closedBehind_1 ++ dktX0_closedBehind_2
def dkwX0_closedBehind_0 : List UInt8 := [42, 180, 0, 23, 42, 180, 0, 19, 182, 1, 3, 3, 61, 28, 42, 180, 0, 10, 182, 0, 103, 162, 0, 27]
abbrev dktX0_closedBehind_0 : List UInt8 := dkwX0_closedBehind_0 ++ dktX0_closedBehind_1
theorem dksX0_closedBehind_0 : cX0_closedBehind.data.toList.drop 0 = dktX0_closedBehind_0 := by decide +kernel
theorem dksX0_closedBehind_1 : cX0_closedBehind.data.toList.drop 24 = dktX0_closedBehind_1 := dk_seg dksX0_closedBehind_0 24 rfl rfl
theorem dksX0_closedBehind_2 : cX0_closedBehind.data.toList.drop 48 = dktX0_closedBehind_2 := dk_seg dksX0_closedBehind_1 24 rfl rfl
theorem dksX0_closedBehind_3 : cX0_closedBehind.data.toList.drop 70 = dktX0_closedBehind_3 := dk_seg dksX0_closedBehind_2 22 rfl rfl
theorem dksX0_closedBehind_4 : cX0_closedBehind.data.toList.drop 94 = dktX0_closedBehind_4 := dk_seg dksX0_closedBehind_3 24 rfl rfl
theorem dksX0_closedBehind_5 : cX0_closedBehind.data.toList.drop 118 = dktX0_closedBehind_5 := dk_seg dksX0_closedBehind_4 24 rfl rfl
theorem dksX0_closedBehind_6 : cX0_closedBehind.data.toList.drop 142 = dktX0_closedBehind_6 := dk_seg dksX0_closedBehind_5 24 rfl rfl
theorem dX0_closedBehind_0 : decode cX0_closedBehind 0 = .ok (.aload_n 0, 1) := dk_42 (dk_at dksX0_closedBehind_0 0 rfl rfl)
theorem dX0_closedBehind_1 : decode cX0_closedBehind 1 = .ok (.getfield 23, 3) := dk_180 0 23 (dk_at dksX0_closedBehind_0 1 rfl rfl)
theorem dX0_closedBehind_4 : decode cX0_closedBehind 4 = .ok (.aload_n 0, 1) := dk_42 (dk_at dksX0_closedBehind_0 4 rfl rfl)
theorem dX0_closedBehind_5 : decode cX0_closedBehind 5 = .ok (.getfield 19, 3) := dk_180 0 19 (dk_at dksX0_closedBehind_0 5 rfl rfl)
theorem dX0_closedBehind_8 : decode cX0_closedBehind 8 = .ok (.invokevirtual 259, 3) := dk_182 1 3 (dk_at dksX0_closedBehind_0 8 rfl rfl)
theorem dX0_closedBehind_11 : decode cX0_closedBehind 11 = .ok (.iconst 0, 1) := dk_3 (dk_at dksX0_closedBehind_0 11 rfl rfl)
theorem dX0_closedBehind_12 : decode cX0_closedBehind 12 = .ok (.istore_n 2, 1) := dk_61 (dk_at dksX0_closedBehind_0 12 rfl rfl)
theorem dX0_closedBehind_13 : decode cX0_closedBehind 13 = .ok (.iload_n 2, 1) := dk_28 (dk_at dksX0_closedBehind_0 13 rfl rfl)
theorem dX0_closedBehind_14 : decode cX0_closedBehind 14 = .ok (.aload_n 0, 1) := dk_42 (dk_at dksX0_closedBehind_0 14 rfl rfl)
theorem dX0_closedBehind_15 : decode cX0_closedBehind 15 = .ok (.getfield 10, 3) := dk_180 0 10 (dk_at dksX0_closedBehind_0 15 rfl rfl)
theorem dX0_closedBehind_18 : decode cX0_closedBehind 18 = .ok (.invokevirtual 103, 3) := dk_182 0 103 (dk_at dksX0_closedBehind_0 18 rfl rfl)
theorem dX0_closedBehind_21 : decode cX0_closedBehind 21 = .ok (.if_icmp .ge 27, 3) := dk_162 0 27 (dk_at dksX0_closedBehind_0 21 rfl rfl)
theorem dX0_closedBehind_24 : decode cX0_closedBehind 24 = .ok (.iload_n 1, 1) := dk_27 (dk_at dksX0_closedBehind_1 0 rfl rfl)
theorem dX0_closedBehind_25 : decode cX0_closedBehind 25 = .ok (.iload_n 2, 1) := dk_28 (dk_at dksX0_closedBehind_1 1 rfl rfl)
theorem dX0_closedBehind_26 : decode cX0_closedBehind 26 = .ok (.invokestatic 166, 3) := dk_184 0 166 (dk_at dksX0_closedBehind_1 2 rfl rfl)
theorem dX0_closedBehind_29 : decode cX0_closedBehind 29 = .ok (.ifCond .eq 13, 3) := dk_153 0 13 (dk_at dksX0_closedBehind_1 5 rfl rfl)
theorem dX0_closedBehind_32 : decode cX0_closedBehind 32 = .ok (.aload_n 0, 1) := dk_42 (dk_at dksX0_closedBehind_1 8 rfl rfl)
theorem dX0_closedBehind_33 : decode cX0_closedBehind 33 = .ok (.getfield 23, 3) := dk_180 0 23 (dk_at dksX0_closedBehind_1 9 rfl rfl)
theorem dX0_closedBehind_36 : decode cX0_closedBehind 36 = .ok (.getfield 153, 3) := dk_180 0 153 (dk_at dksX0_closedBehind_1 12 rfl rfl)
theorem dX0_closedBehind_39 : decode cX0_closedBehind 39 = .ok (.iload_n 2, 1) := dk_28 (dk_at dksX0_closedBehind_1 15 rfl rfl)
theorem dX0_closedBehind_40 : decode cX0_closedBehind 40 = .ok (.iconst 0, 1) := dk_3 (dk_at dksX0_closedBehind_1 16 rfl rfl)
theorem dX0_closedBehind_41 : decode cX0_closedBehind 41 = .ok (.iastore, 1) := dk_79 (dk_at dksX0_closedBehind_1 17 rfl rfl)
theorem dX0_closedBehind_42 : decode cX0_closedBehind 42 = .ok (.iinc 2 1, 3) := dk_132 2 1 (dk_at dksX0_closedBehind_1 18 rfl rfl)
theorem dX0_closedBehind_45 : decode cX0_closedBehind 45 = .ok (.goto (-32), 3) := dk_167 255 224 (dk_at dksX0_closedBehind_1 21 rfl rfl)
theorem dX0_closedBehind_48 : decode cX0_closedBehind 48 = .ok (.iconst 0, 1) := dk_3 (dk_at dksX0_closedBehind_2 0 rfl rfl)
theorem dX0_closedBehind_49 : decode cX0_closedBehind 49 = .ok (.istore_n 2, 1) := dk_61 (dk_at dksX0_closedBehind_2 1 rfl rfl)
theorem dX0_closedBehind_50 : decode cX0_closedBehind 50 = .ok (.iload_n 2, 1) := dk_28 (dk_at dksX0_closedBehind_2 2 rfl rfl)
theorem dX0_closedBehind_51 : decode cX0_closedBehind 51 = .ok (.aload_n 0, 1) := dk_42 (dk_at dksX0_closedBehind_2 3 rfl rfl)
theorem dX0_closedBehind_52 : decode cX0_closedBehind 52 = .ok (.getfield 10, 3) := dk_180 0 10 (dk_at dksX0_closedBehind_2 4 rfl rfl)
theorem dX0_closedBehind_55 : decode cX0_closedBehind 55 = .ok (.invokevirtual 103, 3) := dk_182 0 103 (dk_at dksX0_closedBehind_2 7 rfl rfl)
theorem dX0_closedBehind_58 : decode cX0_closedBehind 58 = .ok (.if_icmp .ge 55, 3) := dk_162 0 55 (dk_at dksX0_closedBehind_2 10 rfl rfl)
theorem dX0_closedBehind_61 : decode cX0_closedBehind 61 = .ok (.iload_n 1, 1) := dk_27 (dk_at dksX0_closedBehind_2 13 rfl rfl)
theorem dX0_closedBehind_62 : decode cX0_closedBehind 62 = .ok (.iload_n 2, 1) := dk_28 (dk_at dksX0_closedBehind_2 14 rfl rfl)
theorem dX0_closedBehind_63 : decode cX0_closedBehind 63 = .ok (.invokestatic 166, 3) := dk_184 0 166 (dk_at dksX0_closedBehind_2 15 rfl rfl)
theorem dX0_closedBehind_66 : decode cX0_closedBehind 66 = .ok (.ifCond .eq 41, 3) := dk_153 0 41 (dk_at dksX0_closedBehind_2 18 rfl rfl)
theorem dX0_closedBehind_69 : decode cX0_closedBehind 69 = .ok (.aload_n 0, 1) := dk_42 (dk_at dksX0_closedBehind_2 21 rfl rfl)
theorem dX0_closedBehind_70 : decode cX0_closedBehind 70 = .ok (.getfield 23, 3) := dk_180 0 23 (dk_at dksX0_closedBehind_3 0 rfl rfl)
theorem dX0_closedBehind_73 : decode cX0_closedBehind 73 = .ok (.getfield 170, 3) := dk_180 0 170 (dk_at dksX0_closedBehind_3 3 rfl rfl)
theorem dX0_closedBehind_76 : decode cX0_closedBehind 76 = .ok (.iload_n 2, 1) := dk_28 (dk_at dksX0_closedBehind_3 6 rfl rfl)
theorem dX0_closedBehind_77 : decode cX0_closedBehind 77 = .ok (.iaload, 1) := dk_46 (dk_at dksX0_closedBehind_3 7 rfl rfl)
theorem dX0_closedBehind_78 : decode cX0_closedBehind 78 = .ok (.iconst (-1), 1) := dk_2 (dk_at dksX0_closedBehind_3 8 rfl rfl)
theorem dX0_closedBehind_79 : decode cX0_closedBehind 79 = .ok (.if_icmp .eq 28, 3) := dk_159 0 28 (dk_at dksX0_closedBehind_3 9 rfl rfl)
theorem dX0_closedBehind_82 : decode cX0_closedBehind 82 = .ok (.aload_n 0, 1) := dk_42 (dk_at dksX0_closedBehind_3 12 rfl rfl)
theorem dX0_closedBehind_83 : decode cX0_closedBehind 83 = .ok (.getfield 23, 3) := dk_180 0 23 (dk_at dksX0_closedBehind_3 13 rfl rfl)
theorem dX0_closedBehind_86 : decode cX0_closedBehind 86 = .ok (.aload_n 0, 1) := dk_42 (dk_at dksX0_closedBehind_3 16 rfl rfl)
theorem dX0_closedBehind_87 : decode cX0_closedBehind 87 = .ok (.getfield 23, 3) := dk_180 0 23 (dk_at dksX0_closedBehind_3 17 rfl rfl)
theorem dX0_closedBehind_90 : decode cX0_closedBehind 90 = .ok (.getfield 170, 3) := dk_180 0 170 (dk_at dksX0_closedBehind_3 20 rfl rfl)
theorem dX0_closedBehind_93 : decode cX0_closedBehind 93 = .ok (.iload_n 2, 1) := dk_28 (dk_at dksX0_closedBehind_3 23 rfl rfl)
theorem dX0_closedBehind_94 : decode cX0_closedBehind 94 = .ok (.iaload, 1) := dk_46 (dk_at dksX0_closedBehind_4 0 rfl rfl)
theorem dX0_closedBehind_95 : decode cX0_closedBehind 95 = .ok (.aload_n 0, 1) := dk_42 (dk_at dksX0_closedBehind_4 1 rfl rfl)
theorem dX0_closedBehind_96 : decode cX0_closedBehind 96 = .ok (.getfield 19, 3) := dk_180 0 19 (dk_at dksX0_closedBehind_4 2 rfl rfl)
theorem dX0_closedBehind_99 : decode cX0_closedBehind 99 = .ok (.getfield 153, 3) := dk_180 0 153 (dk_at dksX0_closedBehind_4 5 rfl rfl)
theorem dX0_closedBehind_102 : decode cX0_closedBehind 102 = .ok (.iload_n 2, 1) := dk_28 (dk_at dksX0_closedBehind_4 8 rfl rfl)
theorem dX0_closedBehind_103 : decode cX0_closedBehind 103 = .ok (.iaload, 1) := dk_46 (dk_at dksX0_closedBehind_4 9 rfl rfl)
theorem dX0_closedBehind_104 : decode cX0_closedBehind 104 = .ok (.invokevirtual 277, 3) := dk_182 1 21 (dk_at dksX0_closedBehind_4 10 rfl rfl)
theorem dX0_closedBehind_107 : decode cX0_closedBehind 107 = .ok (.iinc 2 1, 3) := dk_132 2 1 (dk_at dksX0_closedBehind_4 13 rfl rfl)
theorem dX0_closedBehind_110 : decode cX0_closedBehind 110 = .ok (.goto (-60), 3) := dk_167 255 196 (dk_at dksX0_closedBehind_4 16 rfl rfl)
theorem dX0_closedBehind_113 : decode cX0_closedBehind 113 = .ok (.aload_n 0, 1) := dk_42 (dk_at dksX0_closedBehind_4 19 rfl rfl)
theorem dX0_closedBehind_114 : decode cX0_closedBehind 114 = .ok (.getfield 23, 3) := dk_180 0 23 (dk_at dksX0_closedBehind_4 20 rfl rfl)
theorem dX0_closedBehind_117 : decode cX0_closedBehind 117 = .ok (.dup, 1) := dk_89 (dk_at dksX0_closedBehind_4 23 rfl rfl)
theorem dX0_closedBehind_118 : decode cX0_closedBehind 118 = .ok (.getfield 163, 3) := dk_180 0 163 (dk_at dksX0_closedBehind_5 0 rfl rfl)
theorem dX0_closedBehind_121 : decode cX0_closedBehind 121 = .ok (.iload_n 1, 1) := dk_27 (dk_at dksX0_closedBehind_5 3 rfl rfl)
theorem dX0_closedBehind_122 : decode cX0_closedBehind 122 = .ok (.ior, 1) := dk_128 (dk_at dksX0_closedBehind_5 4 rfl rfl)
theorem dX0_closedBehind_123 : decode cX0_closedBehind 123 = .ok (.putfield 163, 3) := dk_181 0 163 (dk_at dksX0_closedBehind_5 5 rfl rfl)
theorem dX0_closedBehind_126 : decode cX0_closedBehind 126 = .ok (.aload_n 0, 1) := dk_42 (dk_at dksX0_closedBehind_5 8 rfl rfl)
theorem dX0_closedBehind_127 : decode cX0_closedBehind 127 = .ok (.getfield 23, 3) := dk_180 0 23 (dk_at dksX0_closedBehind_5 9 rfl rfl)
theorem dX0_closedBehind_130 : decode cX0_closedBehind 130 = .ok (.aload_n 0, 1) := dk_42 (dk_at dksX0_closedBehind_5 12 rfl rfl)
theorem dX0_closedBehind_131 : decode cX0_closedBehind 131 = .ok (.getfield 10, 3) := dk_180 0 10 (dk_at dksX0_closedBehind_5 13 rfl rfl)
theorem dX0_closedBehind_134 : decode cX0_closedBehind 134 = .ok (.invokevirtual 249, 3) := dk_182 0 249 (dk_at dksX0_closedBehind_5 16 rfl rfl)
theorem dX0_closedBehind_137 : decode cX0_closedBehind 137 = .ok (.pop, 1) := dk_87 (dk_at dksX0_closedBehind_5 19 rfl rfl)
theorem dX0_closedBehind_138 : decode cX0_closedBehind 138 = .ok (.aload_n 0, 1) := dk_42 (dk_at dksX0_closedBehind_5 20 rfl rfl)
theorem dX0_closedBehind_139 : decode cX0_closedBehind 139 = .ok (.getfield 23, 3) := dk_180 0 23 (dk_at dksX0_closedBehind_5 21 rfl rfl)
theorem dX0_closedBehind_142 : decode cX0_closedBehind 142 = .ok (.aload_n 0, 1) := dk_42 (dk_at dksX0_closedBehind_6 0 rfl rfl)
theorem dX0_closedBehind_143 : decode cX0_closedBehind 143 = .ok (.getfield 10, 3) := dk_180 0 10 (dk_at dksX0_closedBehind_6 1 rfl rfl)
theorem dX0_closedBehind_146 : decode cX0_closedBehind 146 = .ok (.invokevirtual 215, 3) := dk_182 0 215 (dk_at dksX0_closedBehind_6 4 rfl rfl)
theorem dX0_closedBehind_149 : decode cX0_closedBehind 149 = .ok (.ireturn, 1) := dk_172 (dk_at dksX0_closedBehind_6 7 rfl rfl)
abbrev cX0_way : ByteArray := prog_1_method_44_code
def yX0_way : MethodName := ⟨RX0, "way", "(III)I"⟩
def dkwX0_way_6 : List UInt8 := [46, 160, 0, 6, 21, 4, 172, 132, 4, 1, 167, 255, 194, 2, 172]
abbrev dktX0_way_6 : List UInt8 := dkwX0_way_6 ++ []
def dkwX0_way_5 : List UInt8 := [184, 0, 166, 153, 0, 28, 42, 180, 0, 85, 21, 4, 46, 42, 27, 182, 1, 50, 96, 42, 180, 0, 85, 27]
abbrev dktX0_way_5 : List UInt8 := dkwX0_way_5 ++ dktX0_way_6
def dkwX0_way_4 : List UInt8 := [182, 0, 103, 162, 0, 56, 27, 28, 159, 0, 51, 42, 180, 0, 10, 180, 0, 173, 27, 46, 21, 4]
abbrev dktX0_way_4 : List UInt8 := dkwX0_way_4 ++ dktX0_way_5
def dkwX0_way_3 : List UInt8 := [167, 0, 12, 42, 180, 0, 85, 27, 46, 16, 100, 112, 172, 3, 54, 4, 21, 4, 42, 180, 0, 10]
abbrev dktX0_way_3 : List UInt8 := dkwX0_way_3 ++ dktX0_way_4
def dkwX0_way_2 : List UInt8 := [161, 0, 6, 16, 254, 172, 29, 5, 162, 0, 29, 29, 154, 0, 15, 42, 180, 0, 85, 27, 46, 16, 100, 108]
abbrev dktX0_way_2 : List UInt8 := dkwX0_way_2 ++ dktX0_way_3
def dkwX0_way_1 : List UInt8 := [184, 0, 107, 154, 0, 6, 16, 253, 172, 42, 28, 182, 1, 56, 42, 180, 0, 85, 27, 46, 19, 1, 53]
abbrev dktX0_way_1 : List UInt8 := dkwX0_way_1 ++ dktX0_way_2
def dkwX0_way_0 : List UInt8 := [42, 27, 182, 0, 149, 153, 0, 23, 42, 28, 182, 0, 149, 153, 0, 15, 29, 133, 9, 20, 1, 54]
abbrev dktX0_way_0 : List UInt8 := dkwX0_way_0 ++ dktX0_way_1
theorem dksX0_way_0 : cX0_way.data.toList.drop 0 = dktX0_way_0 := by decide +kernel
theorem dksX0_way_1 : cX0_way.data.toList.drop 22 = dktX0_way_1 := dk_seg dksX0_way_0 22 rfl rfl
theorem dksX0_way_2 : cX0_way.data.toList.drop 45 = dktX0_way_2 := dk_seg dksX0_way_1 23 rfl rfl
theorem dksX0_way_3 : cX0_way.data.toList.drop 69 = dktX0_way_3 := dk_seg dksX0_way_2 24 rfl rfl
theorem dksX0_way_4 : cX0_way.data.toList.drop 91 = dktX0_way_4 := dk_seg dksX0_way_3 22 rfl rfl
theorem dksX0_way_5 : cX0_way.data.toList.drop 113 = dktX0_way_5 := dk_seg dksX0_way_4 22 rfl rfl
theorem dksX0_way_6 : cX0_way.data.toList.drop 137 = dktX0_way_6 := dk_seg dksX0_way_5 24 rfl rfl
theorem dX0_way_0 : decode cX0_way 0 = .ok (.aload_n 0, 1) := dk_42 (dk_at dksX0_way_0 0 rfl rfl)
theorem dX0_way_1 : decode cX0_way 1 = .ok (.iload_n 1, 1) := dk_27 (dk_at dksX0_way_0 1 rfl rfl)
theorem dX0_way_2 : decode cX0_way 2 = .ok (.invokevirtual 149, 3) := dk_182 0 149 (dk_at dksX0_way_0 2 rfl rfl)
theorem dX0_way_5 : decode cX0_way 5 = .ok (.ifCond .eq 23, 3) := dk_153 0 23 (dk_at dksX0_way_0 5 rfl rfl)
theorem dX0_way_8 : decode cX0_way 8 = .ok (.aload_n 0, 1) := dk_42 (dk_at dksX0_way_0 8 rfl rfl)
theorem dX0_way_9 : decode cX0_way 9 = .ok (.iload_n 2, 1) := dk_28 (dk_at dksX0_way_0 9 rfl rfl)
theorem dX0_way_10 : decode cX0_way 10 = .ok (.invokevirtual 149, 3) := dk_182 0 149 (dk_at dksX0_way_0 10 rfl rfl)
theorem dX0_way_13 : decode cX0_way 13 = .ok (.ifCond .eq 15, 3) := dk_153 0 15 (dk_at dksX0_way_0 13 rfl rfl)
theorem dX0_way_16 : decode cX0_way 16 = .ok (.iload_n 3, 1) := dk_29 (dk_at dksX0_way_0 16 rfl rfl)
theorem dX0_way_17 : decode cX0_way 17 = .ok (.i2l, 1) := dk_133 (dk_at dksX0_way_0 17 rfl rfl)
theorem dX0_way_18 : decode cX0_way 18 = .ok (.lconst 0, 1) := dk_9 (dk_at dksX0_way_0 18 rfl rfl)
theorem dX0_way_19 : decode cX0_way 19 = .ok (.ldc2_w 310, 3) := dk_20 1 54 (dk_at dksX0_way_0 19 rfl rfl)
theorem dX0_way_22 : decode cX0_way 22 = .ok (.invokestatic 107, 3) := dk_184 0 107 (dk_at dksX0_way_1 0 rfl rfl)
theorem dX0_way_25 : decode cX0_way 25 = .ok (.ifCond .ne 6, 3) := dk_154 0 6 (dk_at dksX0_way_1 3 rfl rfl)
theorem dX0_way_28 : decode cX0_way 28 = .ok (.bipush (-3), 2) := dk_16 253 (dk_at dksX0_way_1 6 rfl rfl)
theorem dX0_way_30 : decode cX0_way 30 = .ok (.ireturn, 1) := dk_172 (dk_at dksX0_way_1 8 rfl rfl)
theorem dX0_way_31 : decode cX0_way 31 = .ok (.aload_n 0, 1) := dk_42 (dk_at dksX0_way_1 9 rfl rfl)
theorem dX0_way_32 : decode cX0_way 32 = .ok (.iload_n 2, 1) := dk_28 (dk_at dksX0_way_1 10 rfl rfl)
theorem dX0_way_33 : decode cX0_way 33 = .ok (.invokevirtual 312, 3) := dk_182 1 56 (dk_at dksX0_way_1 11 rfl rfl)
theorem dX0_way_36 : decode cX0_way 36 = .ok (.aload_n 0, 1) := dk_42 (dk_at dksX0_way_1 14 rfl rfl)
theorem dX0_way_37 : decode cX0_way 37 = .ok (.getfield 85, 3) := dk_180 0 85 (dk_at dksX0_way_1 15 rfl rfl)
theorem dX0_way_40 : decode cX0_way 40 = .ok (.iload_n 1, 1) := dk_27 (dk_at dksX0_way_1 18 rfl rfl)
theorem dX0_way_41 : decode cX0_way 41 = .ok (.iaload, 1) := dk_46 (dk_at dksX0_way_1 19 rfl rfl)
theorem dX0_way_42 : decode cX0_way 42 = .ok (.ldc_w 309, 3) := dk_19 1 53 (dk_at dksX0_way_1 20 rfl rfl)
theorem dX0_way_45 : decode cX0_way 45 = .ok (.if_icmp .lt 6, 3) := dk_161 0 6 (dk_at dksX0_way_2 0 rfl rfl)
theorem dX0_way_48 : decode cX0_way 48 = .ok (.bipush (-2), 2) := dk_16 254 (dk_at dksX0_way_2 3 rfl rfl)
theorem dX0_way_50 : decode cX0_way 50 = .ok (.ireturn, 1) := dk_172 (dk_at dksX0_way_2 5 rfl rfl)
theorem dX0_way_51 : decode cX0_way 51 = .ok (.iload_n 3, 1) := dk_29 (dk_at dksX0_way_2 6 rfl rfl)
theorem dX0_way_52 : decode cX0_way 52 = .ok (.iconst 2, 1) := dk_5 (dk_at dksX0_way_2 7 rfl rfl)
theorem dX0_way_53 : decode cX0_way 53 = .ok (.if_icmp .ge 29, 3) := dk_162 0 29 (dk_at dksX0_way_2 8 rfl rfl)
theorem dX0_way_56 : decode cX0_way 56 = .ok (.iload_n 3, 1) := dk_29 (dk_at dksX0_way_2 11 rfl rfl)
theorem dX0_way_57 : decode cX0_way 57 = .ok (.ifCond .ne 15, 3) := dk_154 0 15 (dk_at dksX0_way_2 12 rfl rfl)
theorem dX0_way_60 : decode cX0_way 60 = .ok (.aload_n 0, 1) := dk_42 (dk_at dksX0_way_2 15 rfl rfl)
theorem dX0_way_61 : decode cX0_way 61 = .ok (.getfield 85, 3) := dk_180 0 85 (dk_at dksX0_way_2 16 rfl rfl)
theorem dX0_way_64 : decode cX0_way 64 = .ok (.iload_n 1, 1) := dk_27 (dk_at dksX0_way_2 19 rfl rfl)
theorem dX0_way_65 : decode cX0_way 65 = .ok (.iaload, 1) := dk_46 (dk_at dksX0_way_2 20 rfl rfl)
theorem dX0_way_66 : decode cX0_way 66 = .ok (.bipush 100, 2) := dk_16 100 (dk_at dksX0_way_2 21 rfl rfl)
theorem dX0_way_68 : decode cX0_way 68 = .ok (.idiv, 1) := dk_108 (dk_at dksX0_way_2 23 rfl rfl)
theorem dX0_way_69 : decode cX0_way 69 = .ok (.goto 12, 3) := dk_167 0 12 (dk_at dksX0_way_3 0 rfl rfl)
theorem dX0_way_72 : decode cX0_way 72 = .ok (.aload_n 0, 1) := dk_42 (dk_at dksX0_way_3 3 rfl rfl)
theorem dX0_way_73 : decode cX0_way 73 = .ok (.getfield 85, 3) := dk_180 0 85 (dk_at dksX0_way_3 4 rfl rfl)
theorem dX0_way_76 : decode cX0_way 76 = .ok (.iload_n 1, 1) := dk_27 (dk_at dksX0_way_3 7 rfl rfl)
theorem dX0_way_77 : decode cX0_way 77 = .ok (.iaload, 1) := dk_46 (dk_at dksX0_way_3 8 rfl rfl)
theorem dX0_way_78 : decode cX0_way 78 = .ok (.bipush 100, 2) := dk_16 100 (dk_at dksX0_way_3 9 rfl rfl)
theorem dX0_way_80 : decode cX0_way 80 = .ok (.irem, 1) := dk_112 (dk_at dksX0_way_3 11 rfl rfl)
theorem dX0_way_81 : decode cX0_way 81 = .ok (.ireturn, 1) := dk_172 (dk_at dksX0_way_3 12 rfl rfl)
theorem dX0_way_82 : decode cX0_way 82 = .ok (.iconst 0, 1) := dk_3 (dk_at dksX0_way_3 13 rfl rfl)
theorem dX0_way_83 : decode cX0_way 83 = .ok (.istore 4, 2) := dk_54 4 (dk_at dksX0_way_3 14 rfl rfl)
theorem dX0_way_85 : decode cX0_way 85 = .ok (.iload 4, 2) := dk_21 4 (dk_at dksX0_way_3 16 rfl rfl)
theorem dX0_way_87 : decode cX0_way 87 = .ok (.aload_n 0, 1) := dk_42 (dk_at dksX0_way_3 18 rfl rfl)
theorem dX0_way_88 : decode cX0_way 88 = .ok (.getfield 10, 3) := dk_180 0 10 (dk_at dksX0_way_3 19 rfl rfl)
theorem dX0_way_91 : decode cX0_way 91 = .ok (.invokevirtual 103, 3) := dk_182 0 103 (dk_at dksX0_way_4 0 rfl rfl)
theorem dX0_way_94 : decode cX0_way 94 = .ok (.if_icmp .ge 56, 3) := dk_162 0 56 (dk_at dksX0_way_4 3 rfl rfl)
theorem dX0_way_97 : decode cX0_way 97 = .ok (.iload_n 1, 1) := dk_27 (dk_at dksX0_way_4 6 rfl rfl)
theorem dX0_way_98 : decode cX0_way 98 = .ok (.iload_n 2, 1) := dk_28 (dk_at dksX0_way_4 7 rfl rfl)
theorem dX0_way_99 : decode cX0_way 99 = .ok (.if_icmp .eq 51, 3) := dk_159 0 51 (dk_at dksX0_way_4 8 rfl rfl)
theorem dX0_way_102 : decode cX0_way 102 = .ok (.aload_n 0, 1) := dk_42 (dk_at dksX0_way_4 11 rfl rfl)
theorem dX0_way_103 : decode cX0_way 103 = .ok (.getfield 10, 3) := dk_180 0 10 (dk_at dksX0_way_4 12 rfl rfl)
theorem dX0_way_106 : decode cX0_way 106 = .ok (.getfield 173, 3) := dk_180 0 173 (dk_at dksX0_way_4 15 rfl rfl)
theorem dX0_way_109 : decode cX0_way 109 = .ok (.iload_n 1, 1) := dk_27 (dk_at dksX0_way_4 18 rfl rfl)
theorem dX0_way_110 : decode cX0_way 110 = .ok (.iaload, 1) := dk_46 (dk_at dksX0_way_4 19 rfl rfl)
theorem dX0_way_111 : decode cX0_way 111 = .ok (.iload 4, 2) := dk_21 4 (dk_at dksX0_way_4 20 rfl rfl)
theorem dX0_way_113 : decode cX0_way 113 = .ok (.invokestatic 166, 3) := dk_184 0 166 (dk_at dksX0_way_5 0 rfl rfl)
theorem dX0_way_116 : decode cX0_way 116 = .ok (.ifCond .eq 28, 3) := dk_153 0 28 (dk_at dksX0_way_5 3 rfl rfl)
theorem dX0_way_119 : decode cX0_way 119 = .ok (.aload_n 0, 1) := dk_42 (dk_at dksX0_way_5 6 rfl rfl)
theorem dX0_way_120 : decode cX0_way 120 = .ok (.getfield 85, 3) := dk_180 0 85 (dk_at dksX0_way_5 7 rfl rfl)
theorem dX0_way_123 : decode cX0_way 123 = .ok (.iload 4, 2) := dk_21 4 (dk_at dksX0_way_5 10 rfl rfl)
theorem dX0_way_125 : decode cX0_way 125 = .ok (.iaload, 1) := dk_46 (dk_at dksX0_way_5 12 rfl rfl)
theorem dX0_way_126 : decode cX0_way 126 = .ok (.aload_n 0, 1) := dk_42 (dk_at dksX0_way_5 13 rfl rfl)
theorem dX0_way_127 : decode cX0_way 127 = .ok (.iload_n 1, 1) := dk_27 (dk_at dksX0_way_5 14 rfl rfl)
theorem dX0_way_128 : decode cX0_way 128 = .ok (.invokevirtual 306, 3) := dk_182 1 50 (dk_at dksX0_way_5 15 rfl rfl)
theorem dX0_way_131 : decode cX0_way 131 = .ok (.iadd, 1) := dk_96 (dk_at dksX0_way_5 18 rfl rfl)
theorem dX0_way_132 : decode cX0_way 132 = .ok (.aload_n 0, 1) := dk_42 (dk_at dksX0_way_5 19 rfl rfl)
theorem dX0_way_133 : decode cX0_way 133 = .ok (.getfield 85, 3) := dk_180 0 85 (dk_at dksX0_way_5 20 rfl rfl)
theorem dX0_way_136 : decode cX0_way 136 = .ok (.iload_n 1, 1) := dk_27 (dk_at dksX0_way_5 23 rfl rfl)
theorem dX0_way_137 : decode cX0_way 137 = .ok (.iaload, 1) := dk_46 (dk_at dksX0_way_6 0 rfl rfl)
theorem dX0_way_138 : decode cX0_way 138 = .ok (.if_icmp .ne 6, 3) := dk_160 0 6 (dk_at dksX0_way_6 1 rfl rfl)
theorem dX0_way_141 : decode cX0_way 141 = .ok (.iload 4, 2) := dk_21 4 (dk_at dksX0_way_6 4 rfl rfl)
theorem dX0_way_143 : decode cX0_way 143 = .ok (.ireturn, 1) := dk_172 (dk_at dksX0_way_6 6 rfl rfl)
theorem dX0_way_144 : decode cX0_way 144 = .ok (.iinc 4 1, 3) := dk_132 4 1 (dk_at dksX0_way_6 7 rfl rfl)
theorem dX0_way_147 : decode cX0_way 147 = .ok (.goto (-62), 3) := dk_167 255 194 (dk_at dksX0_way_6 10 rfl rfl)
theorem dX0_way_150 : decode cX0_way 150 = .ok (.iconst (-1), 1) := dk_2 (dk_at dksX0_way_6 13 rfl rfl)
theorem dX0_way_151 : decode cX0_way 151 = .ok (.ireturn, 1) := dk_172 (dk_at dksX0_way_6 14 rfl rfl)
abbrev cX0_laysFar : ByteArray := prog_1_method_43_code
def yX0_laysFar : MethodName := ⟨RX0, "laysFar", "(I)V"⟩
def dkwX0_laysFar_5 : List UInt8 := [132, 4, 1, 167, 255, 196, 132, 3, 1, 167, 255, 176, 132, 2, 1, 167, 255, 162, 177]
abbrev dktX0_laysFar_5 : List UInt8 := dkwX0_laysFar_5 ++ []
def dkwX0_laysFar_4 : List UInt8 := [29, 42, 180, 0, 85, 29, 46, 42, 180, 0, 85, 21, 4, 46, 42, 29, 182, 1, 50, 96, 184, 1, 7, 79]
abbrev dktX0_laysFar_4 : List UInt8 := dkwX0_laysFar_4 ++ dktX0_laysFar_5
def dkwX0_laysFar_3 : List UInt8 := [162, 0, 54, 42, 180, 0, 10, 180, 0, 173, 29, 46, 21, 4, 184, 0, 166, 153, 0, 31, 42, 180, 0, 85]
abbrev dktX0_laysFar_3 : List UInt8 := dkwX0_laysFar_3 ++ dktX0_laysFar_4
def dkwX0_laysFar_2 : List UInt8 := [42, 180, 0, 10, 182, 0, 103, 162, 0, 75, 3, 54, 4, 21, 4, 42, 180, 0, 10, 182, 0, 103]
abbrev dktX0_laysFar_2 : List UInt8 := dkwX0_laysFar_2 ++ dktX0_laysFar_3
def dkwX0_laysFar_1 : List UInt8 := [167, 0, 6, 19, 1, 53, 79, 132, 2, 1, 167, 255, 225, 3, 61, 28, 16, 8, 162, 0, 94, 3, 62, 29]
abbrev dktX0_laysFar_1 : List UInt8 := dkwX0_laysFar_1 ++ dktX0_laysFar_2
def dkwX0_laysFar_0 : List UInt8 := [3, 61, 28, 16, 8, 162, 0, 31, 42, 180, 0, 85, 28, 28, 27, 160, 0, 11, 42, 28, 182, 1, 50]
abbrev dktX0_laysFar_0 : List UInt8 := dkwX0_laysFar_0 ++ dktX0_laysFar_1
theorem dksX0_laysFar_0 : cX0_laysFar.data.toList.drop 0 = dktX0_laysFar_0 := by decide +kernel
theorem dksX0_laysFar_1 : cX0_laysFar.data.toList.drop 23 = dktX0_laysFar_1 := dk_seg dksX0_laysFar_0 23 rfl rfl
theorem dksX0_laysFar_2 : cX0_laysFar.data.toList.drop 47 = dktX0_laysFar_2 := dk_seg dksX0_laysFar_1 24 rfl rfl
theorem dksX0_laysFar_3 : cX0_laysFar.data.toList.drop 69 = dktX0_laysFar_3 := dk_seg dksX0_laysFar_2 22 rfl rfl
theorem dksX0_laysFar_4 : cX0_laysFar.data.toList.drop 93 = dktX0_laysFar_4 := dk_seg dksX0_laysFar_3 24 rfl rfl
theorem dksX0_laysFar_5 : cX0_laysFar.data.toList.drop 117 = dktX0_laysFar_5 := dk_seg dksX0_laysFar_4 24 rfl rfl
theorem dX0_laysFar_0 : decode cX0_laysFar 0 = .ok (.iconst 0, 1) := dk_3 (dk_at dksX0_laysFar_0 0 rfl rfl)
theorem dX0_laysFar_1 : decode cX0_laysFar 1 = .ok (.istore_n 2, 1) := dk_61 (dk_at dksX0_laysFar_0 1 rfl rfl)
theorem dX0_laysFar_2 : decode cX0_laysFar 2 = .ok (.iload_n 2, 1) := dk_28 (dk_at dksX0_laysFar_0 2 rfl rfl)
theorem dX0_laysFar_3 : decode cX0_laysFar 3 = .ok (.bipush 8, 2) := dk_16 8 (dk_at dksX0_laysFar_0 3 rfl rfl)
theorem dX0_laysFar_5 : decode cX0_laysFar 5 = .ok (.if_icmp .ge 31, 3) := dk_162 0 31 (dk_at dksX0_laysFar_0 5 rfl rfl)
theorem dX0_laysFar_8 : decode cX0_laysFar 8 = .ok (.aload_n 0, 1) := dk_42 (dk_at dksX0_laysFar_0 8 rfl rfl)
theorem dX0_laysFar_9 : decode cX0_laysFar 9 = .ok (.getfield 85, 3) := dk_180 0 85 (dk_at dksX0_laysFar_0 9 rfl rfl)
theorem dX0_laysFar_12 : decode cX0_laysFar 12 = .ok (.iload_n 2, 1) := dk_28 (dk_at dksX0_laysFar_0 12 rfl rfl)
theorem dX0_laysFar_13 : decode cX0_laysFar 13 = .ok (.iload_n 2, 1) := dk_28 (dk_at dksX0_laysFar_0 13 rfl rfl)
theorem dX0_laysFar_14 : decode cX0_laysFar 14 = .ok (.iload_n 1, 1) := dk_27 (dk_at dksX0_laysFar_0 14 rfl rfl)
theorem dX0_laysFar_15 : decode cX0_laysFar 15 = .ok (.if_icmp .ne 11, 3) := dk_160 0 11 (dk_at dksX0_laysFar_0 15 rfl rfl)
theorem dX0_laysFar_18 : decode cX0_laysFar 18 = .ok (.aload_n 0, 1) := dk_42 (dk_at dksX0_laysFar_0 18 rfl rfl)
theorem dX0_laysFar_19 : decode cX0_laysFar 19 = .ok (.iload_n 2, 1) := dk_28 (dk_at dksX0_laysFar_0 19 rfl rfl)
theorem dX0_laysFar_20 : decode cX0_laysFar 20 = .ok (.invokevirtual 306, 3) := dk_182 1 50 (dk_at dksX0_laysFar_0 20 rfl rfl)
theorem dX0_laysFar_23 : decode cX0_laysFar 23 = .ok (.goto 6, 3) := dk_167 0 6 (dk_at dksX0_laysFar_1 0 rfl rfl)
theorem dX0_laysFar_26 : decode cX0_laysFar 26 = .ok (.ldc_w 309, 3) := dk_19 1 53 (dk_at dksX0_laysFar_1 3 rfl rfl)
theorem dX0_laysFar_29 : decode cX0_laysFar 29 = .ok (.iastore, 1) := dk_79 (dk_at dksX0_laysFar_1 6 rfl rfl)
theorem dX0_laysFar_30 : decode cX0_laysFar 30 = .ok (.iinc 2 1, 3) := dk_132 2 1 (dk_at dksX0_laysFar_1 7 rfl rfl)
theorem dX0_laysFar_33 : decode cX0_laysFar 33 = .ok (.goto (-31), 3) := dk_167 255 225 (dk_at dksX0_laysFar_1 10 rfl rfl)
theorem dX0_laysFar_36 : decode cX0_laysFar 36 = .ok (.iconst 0, 1) := dk_3 (dk_at dksX0_laysFar_1 13 rfl rfl)
theorem dX0_laysFar_37 : decode cX0_laysFar 37 = .ok (.istore_n 2, 1) := dk_61 (dk_at dksX0_laysFar_1 14 rfl rfl)
theorem dX0_laysFar_38 : decode cX0_laysFar 38 = .ok (.iload_n 2, 1) := dk_28 (dk_at dksX0_laysFar_1 15 rfl rfl)
theorem dX0_laysFar_39 : decode cX0_laysFar 39 = .ok (.bipush 8, 2) := dk_16 8 (dk_at dksX0_laysFar_1 16 rfl rfl)
theorem dX0_laysFar_41 : decode cX0_laysFar 41 = .ok (.if_icmp .ge 94, 3) := dk_162 0 94 (dk_at dksX0_laysFar_1 18 rfl rfl)
theorem dX0_laysFar_44 : decode cX0_laysFar 44 = .ok (.iconst 0, 1) := dk_3 (dk_at dksX0_laysFar_1 21 rfl rfl)
theorem dX0_laysFar_45 : decode cX0_laysFar 45 = .ok (.istore_n 3, 1) := dk_62 (dk_at dksX0_laysFar_1 22 rfl rfl)
theorem dX0_laysFar_46 : decode cX0_laysFar 46 = .ok (.iload_n 3, 1) := dk_29 (dk_at dksX0_laysFar_1 23 rfl rfl)
theorem dX0_laysFar_47 : decode cX0_laysFar 47 = .ok (.aload_n 0, 1) := dk_42 (dk_at dksX0_laysFar_2 0 rfl rfl)
theorem dX0_laysFar_48 : decode cX0_laysFar 48 = .ok (.getfield 10, 3) := dk_180 0 10 (dk_at dksX0_laysFar_2 1 rfl rfl)
theorem dX0_laysFar_51 : decode cX0_laysFar 51 = .ok (.invokevirtual 103, 3) := dk_182 0 103 (dk_at dksX0_laysFar_2 4 rfl rfl)
theorem dX0_laysFar_54 : decode cX0_laysFar 54 = .ok (.if_icmp .ge 75, 3) := dk_162 0 75 (dk_at dksX0_laysFar_2 7 rfl rfl)
theorem dX0_laysFar_57 : decode cX0_laysFar 57 = .ok (.iconst 0, 1) := dk_3 (dk_at dksX0_laysFar_2 10 rfl rfl)
theorem dX0_laysFar_58 : decode cX0_laysFar 58 = .ok (.istore 4, 2) := dk_54 4 (dk_at dksX0_laysFar_2 11 rfl rfl)
theorem dX0_laysFar_60 : decode cX0_laysFar 60 = .ok (.iload 4, 2) := dk_21 4 (dk_at dksX0_laysFar_2 13 rfl rfl)
theorem dX0_laysFar_62 : decode cX0_laysFar 62 = .ok (.aload_n 0, 1) := dk_42 (dk_at dksX0_laysFar_2 15 rfl rfl)
theorem dX0_laysFar_63 : decode cX0_laysFar 63 = .ok (.getfield 10, 3) := dk_180 0 10 (dk_at dksX0_laysFar_2 16 rfl rfl)
theorem dX0_laysFar_66 : decode cX0_laysFar 66 = .ok (.invokevirtual 103, 3) := dk_182 0 103 (dk_at dksX0_laysFar_2 19 rfl rfl)
theorem dX0_laysFar_69 : decode cX0_laysFar 69 = .ok (.if_icmp .ge 54, 3) := dk_162 0 54 (dk_at dksX0_laysFar_3 0 rfl rfl)
theorem dX0_laysFar_72 : decode cX0_laysFar 72 = .ok (.aload_n 0, 1) := dk_42 (dk_at dksX0_laysFar_3 3 rfl rfl)
theorem dX0_laysFar_73 : decode cX0_laysFar 73 = .ok (.getfield 10, 3) := dk_180 0 10 (dk_at dksX0_laysFar_3 4 rfl rfl)
theorem dX0_laysFar_76 : decode cX0_laysFar 76 = .ok (.getfield 173, 3) := dk_180 0 173 (dk_at dksX0_laysFar_3 7 rfl rfl)
theorem dX0_laysFar_79 : decode cX0_laysFar 79 = .ok (.iload_n 3, 1) := dk_29 (dk_at dksX0_laysFar_3 10 rfl rfl)
theorem dX0_laysFar_80 : decode cX0_laysFar 80 = .ok (.iaload, 1) := dk_46 (dk_at dksX0_laysFar_3 11 rfl rfl)
theorem dX0_laysFar_81 : decode cX0_laysFar 81 = .ok (.iload 4, 2) := dk_21 4 (dk_at dksX0_laysFar_3 12 rfl rfl)
theorem dX0_laysFar_83 : decode cX0_laysFar 83 = .ok (.invokestatic 166, 3) := dk_184 0 166 (dk_at dksX0_laysFar_3 14 rfl rfl)
theorem dX0_laysFar_86 : decode cX0_laysFar 86 = .ok (.ifCond .eq 31, 3) := dk_153 0 31 (dk_at dksX0_laysFar_3 17 rfl rfl)
theorem dX0_laysFar_89 : decode cX0_laysFar 89 = .ok (.aload_n 0, 1) := dk_42 (dk_at dksX0_laysFar_3 20 rfl rfl)
theorem dX0_laysFar_90 : decode cX0_laysFar 90 = .ok (.getfield 85, 3) := dk_180 0 85 (dk_at dksX0_laysFar_3 21 rfl rfl)
theorem dX0_laysFar_93 : decode cX0_laysFar 93 = .ok (.iload_n 3, 1) := dk_29 (dk_at dksX0_laysFar_4 0 rfl rfl)
theorem dX0_laysFar_94 : decode cX0_laysFar 94 = .ok (.aload_n 0, 1) := dk_42 (dk_at dksX0_laysFar_4 1 rfl rfl)
theorem dX0_laysFar_95 : decode cX0_laysFar 95 = .ok (.getfield 85, 3) := dk_180 0 85 (dk_at dksX0_laysFar_4 2 rfl rfl)
theorem dX0_laysFar_98 : decode cX0_laysFar 98 = .ok (.iload_n 3, 1) := dk_29 (dk_at dksX0_laysFar_4 5 rfl rfl)
theorem dX0_laysFar_99 : decode cX0_laysFar 99 = .ok (.iaload, 1) := dk_46 (dk_at dksX0_laysFar_4 6 rfl rfl)
theorem dX0_laysFar_100 : decode cX0_laysFar 100 = .ok (.aload_n 0, 1) := dk_42 (dk_at dksX0_laysFar_4 7 rfl rfl)
theorem dX0_laysFar_101 : decode cX0_laysFar 101 = .ok (.getfield 85, 3) := dk_180 0 85 (dk_at dksX0_laysFar_4 8 rfl rfl)
theorem dX0_laysFar_104 : decode cX0_laysFar 104 = .ok (.iload 4, 2) := dk_21 4 (dk_at dksX0_laysFar_4 11 rfl rfl)
theorem dX0_laysFar_106 : decode cX0_laysFar 106 = .ok (.iaload, 1) := dk_46 (dk_at dksX0_laysFar_4 13 rfl rfl)
theorem dX0_laysFar_107 : decode cX0_laysFar 107 = .ok (.aload_n 0, 1) := dk_42 (dk_at dksX0_laysFar_4 14 rfl rfl)
theorem dX0_laysFar_108 : decode cX0_laysFar 108 = .ok (.iload_n 3, 1) := dk_29 (dk_at dksX0_laysFar_4 15 rfl rfl)
theorem dX0_laysFar_109 : decode cX0_laysFar 109 = .ok (.invokevirtual 306, 3) := dk_182 1 50 (dk_at dksX0_laysFar_4 16 rfl rfl)
theorem dX0_laysFar_112 : decode cX0_laysFar 112 = .ok (.iadd, 1) := dk_96 (dk_at dksX0_laysFar_4 19 rfl rfl)
theorem dX0_laysFar_113 : decode cX0_laysFar 113 = .ok (.invokestatic 263, 3) := dk_184 1 7 (dk_at dksX0_laysFar_4 20 rfl rfl)
theorem dX0_laysFar_116 : decode cX0_laysFar 116 = .ok (.iastore, 1) := dk_79 (dk_at dksX0_laysFar_4 23 rfl rfl)
theorem dX0_laysFar_117 : decode cX0_laysFar 117 = .ok (.iinc 4 1, 3) := dk_132 4 1 (dk_at dksX0_laysFar_5 0 rfl rfl)
theorem dX0_laysFar_120 : decode cX0_laysFar 120 = .ok (.goto (-60), 3) := dk_167 255 196 (dk_at dksX0_laysFar_5 3 rfl rfl)
theorem dX0_laysFar_123 : decode cX0_laysFar 123 = .ok (.iinc 3 1, 3) := dk_132 3 1 (dk_at dksX0_laysFar_5 6 rfl rfl)
theorem dX0_laysFar_126 : decode cX0_laysFar 126 = .ok (.goto (-80), 3) := dk_167 255 176 (dk_at dksX0_laysFar_5 9 rfl rfl)
theorem dX0_laysFar_129 : decode cX0_laysFar 129 = .ok (.iinc 2 1, 3) := dk_132 2 1 (dk_at dksX0_laysFar_5 12 rfl rfl)
theorem dX0_laysFar_132 : decode cX0_laysFar 132 = .ok (.goto (-94), 3) := dk_167 255 162 (dk_at dksX0_laysFar_5 15 rfl rfl)
theorem dX0_laysFar_135 : decode cX0_laysFar 135 = .ok (.return_, 1) := dk_177 (dk_at dksX0_laysFar_5 18 rfl rfl)
abbrev cX0_costOf : ByteArray := prog_1_method_42_code
def yX0_costOf : MethodName := ⟨RX0, "costOf", "(I)I"⟩
def dkwX0_costOf_1 : List UInt8 := [167, 0, 4, 3, 184, 0, 159, 104, 96, 172]
abbrev dktX0_costOf_1 : List UInt8 := dkwX0_costOf_1 ++ []
def dkwX0_costOf_0 : List UInt8 := [4, 16, 100, 42, 180, 0, 19, 180, 0, 153, 27, 46, 42, 180, 0, 10, 180, 0, 156, 161, 0, 7, 4]
abbrev dktX0_costOf_0 : List UInt8 := dkwX0_costOf_0 ++ dktX0_costOf_1
theorem dksX0_costOf_0 : cX0_costOf.data.toList.drop 0 = dktX0_costOf_0 := by decide +kernel
theorem dksX0_costOf_1 : cX0_costOf.data.toList.drop 23 = dktX0_costOf_1 := dk_seg dksX0_costOf_0 23 rfl rfl
theorem dX0_costOf_0 : decode cX0_costOf 0 = .ok (.iconst 1, 1) := dk_4 (dk_at dksX0_costOf_0 0 rfl rfl)
theorem dX0_costOf_1 : decode cX0_costOf 1 = .ok (.bipush 100, 2) := dk_16 100 (dk_at dksX0_costOf_0 1 rfl rfl)
theorem dX0_costOf_3 : decode cX0_costOf 3 = .ok (.aload_n 0, 1) := dk_42 (dk_at dksX0_costOf_0 3 rfl rfl)
theorem dX0_costOf_4 : decode cX0_costOf 4 = .ok (.getfield 19, 3) := dk_180 0 19 (dk_at dksX0_costOf_0 4 rfl rfl)
theorem dX0_costOf_7 : decode cX0_costOf 7 = .ok (.getfield 153, 3) := dk_180 0 153 (dk_at dksX0_costOf_0 7 rfl rfl)
theorem dX0_costOf_10 : decode cX0_costOf 10 = .ok (.iload_n 1, 1) := dk_27 (dk_at dksX0_costOf_0 10 rfl rfl)
theorem dX0_costOf_11 : decode cX0_costOf 11 = .ok (.iaload, 1) := dk_46 (dk_at dksX0_costOf_0 11 rfl rfl)
theorem dX0_costOf_12 : decode cX0_costOf 12 = .ok (.aload_n 0, 1) := dk_42 (dk_at dksX0_costOf_0 12 rfl rfl)
theorem dX0_costOf_13 : decode cX0_costOf 13 = .ok (.getfield 10, 3) := dk_180 0 10 (dk_at dksX0_costOf_0 13 rfl rfl)
theorem dX0_costOf_16 : decode cX0_costOf 16 = .ok (.getfield 156, 3) := dk_180 0 156 (dk_at dksX0_costOf_0 16 rfl rfl)
theorem dX0_costOf_19 : decode cX0_costOf 19 = .ok (.if_icmp .lt 7, 3) := dk_161 0 7 (dk_at dksX0_costOf_0 19 rfl rfl)
theorem dX0_costOf_22 : decode cX0_costOf 22 = .ok (.iconst 1, 1) := dk_4 (dk_at dksX0_costOf_0 22 rfl rfl)
theorem dX0_costOf_23 : decode cX0_costOf 23 = .ok (.goto 4, 3) := dk_167 0 4 (dk_at dksX0_costOf_1 0 rfl rfl)
theorem dX0_costOf_26 : decode cX0_costOf 26 = .ok (.iconst 0, 1) := dk_3 (dk_at dksX0_costOf_1 3 rfl rfl)
theorem dX0_costOf_27 : decode cX0_costOf 27 = .ok (.invokestatic 159, 3) := dk_184 0 159 (dk_at dksX0_costOf_1 4 rfl rfl)
theorem dX0_costOf_30 : decode cX0_costOf 30 = .ok (.imul, 1) := dk_104 (dk_at dksX0_costOf_1 7 rfl rfl)
theorem dX0_costOf_31 : decode cX0_costOf 31 = .ok (.iadd, 1) := dk_96 (dk_at dksX0_costOf_1 8 rfl rfl)
theorem dX0_costOf_32 : decode cX0_costOf 32 = .ok (.ireturn, 1) := dk_172 (dk_at dksX0_costOf_1 9 rfl rfl)
abbrev cX0_pacts : ByteArray := prog_1_method_48_code
def yX0_pacts : MethodName := ⟨RX0, "pacts", "(II)I"⟩
def dkwX0_pacts_7 : List UInt8 := [160, 0, 8, 21, 5, 167, 0, 8, 21, 6, 21, 7, 100, 172]
abbrev dktX0_pacts_7 : List UInt8 := dkwX0_pacts_7 ++ []
def dkwX0_pacts_6 : List UInt8 := [54, 5, 132, 4, 1, 132, 8, 1, 167, 255, 192, 28, 154, 0, 8, 21, 4, 167, 0, 18, 28, 4]
abbrev dktX0_pacts_6 : List UInt8 := dkwX0_pacts_6 ++ dktX0_pacts_7
def dkwX0_pacts_5 : List UInt8 := [42, 21, 8, 182, 1, 70, 154, 0, 6, 167, 0, 20, 21, 4, 154, 0, 8, 21, 8, 167, 0, 5, 21, 5]
abbrev dktX0_pacts_5 : List UInt8 := dkwX0_pacts_5 ++ dktX0_pacts_6
def dkwX0_pacts_4 : List UInt8 := [42, 21, 8, 182, 1, 64, 184, 1, 67, 54, 6, 21, 7, 42, 21, 8, 182, 1, 64, 184, 1, 7, 54, 7]
abbrev dktX0_pacts_4 : List UInt8 := dkwX0_pacts_4 ++ dktX0_pacts_5
def dkwX0_pacts_3 : List UInt8 := [54, 5, 42, 3, 182, 1, 64, 54, 6, 21, 6, 54, 7, 3, 54, 8, 21, 8, 29, 162, 0, 64, 21, 6]
abbrev dktX0_pacts_3 : List UInt8 := dkwX0_pacts_3 ++ dktX0_pacts_4
def dkwX0_pacts_2 : List UInt8 := [21, 4, 29, 162, 0, 16, 42, 21, 4, 27, 182, 1, 61, 132, 4, 1, 167, 255, 240, 3, 54, 4, 16, 254]
abbrev dktX0_pacts_2 : List UInt8 := dkwX0_pacts_2 ++ dktX0_pacts_3
def dkwX0_pacts_1 : List UInt8 := [20, 1, 54, 184, 0, 107, 154, 0, 5, 2, 172, 4, 42, 180, 0, 10, 182, 0, 111, 120, 62, 3, 54, 4]
abbrev dktX0_pacts_1 : List UInt8 := dkwX0_pacts_1 ++ dktX0_pacts_2
def dkwX0_pacts_0 : List UInt8 := [42, 182, 1, 12, 153, 0, 27, 27, 133, 10, 20, 1, 59, 184, 0, 107, 153, 0, 15, 28, 133, 9]
abbrev dktX0_pacts_0 : List UInt8 := dkwX0_pacts_0 ++ dktX0_pacts_1
theorem dksX0_pacts_0 : cX0_pacts.data.toList.drop 0 = dktX0_pacts_0 := by decide +kernel
theorem dksX0_pacts_1 : cX0_pacts.data.toList.drop 22 = dktX0_pacts_1 := dk_seg dksX0_pacts_0 22 rfl rfl
theorem dksX0_pacts_2 : cX0_pacts.data.toList.drop 46 = dktX0_pacts_2 := dk_seg dksX0_pacts_1 24 rfl rfl
theorem dksX0_pacts_3 : cX0_pacts.data.toList.drop 70 = dktX0_pacts_3 := dk_seg dksX0_pacts_2 24 rfl rfl
theorem dksX0_pacts_4 : cX0_pacts.data.toList.drop 94 = dktX0_pacts_4 := dk_seg dksX0_pacts_3 24 rfl rfl
theorem dksX0_pacts_5 : cX0_pacts.data.toList.drop 118 = dktX0_pacts_5 := dk_seg dksX0_pacts_4 24 rfl rfl
theorem dksX0_pacts_6 : cX0_pacts.data.toList.drop 142 = dktX0_pacts_6 := dk_seg dksX0_pacts_5 24 rfl rfl
theorem dksX0_pacts_7 : cX0_pacts.data.toList.drop 164 = dktX0_pacts_7 := dk_seg dksX0_pacts_6 22 rfl rfl
theorem dX0_pacts_0 : decode cX0_pacts 0 = .ok (.aload_n 0, 1) := dk_42 (dk_at dksX0_pacts_0 0 rfl rfl)
theorem dX0_pacts_1 : decode cX0_pacts 1 = .ok (.invokevirtual 268, 3) := dk_182 1 12 (dk_at dksX0_pacts_0 1 rfl rfl)
theorem dX0_pacts_4 : decode cX0_pacts 4 = .ok (.ifCond .eq 27, 3) := dk_153 0 27 (dk_at dksX0_pacts_0 4 rfl rfl)
theorem dX0_pacts_7 : decode cX0_pacts 7 = .ok (.iload_n 1, 1) := dk_27 (dk_at dksX0_pacts_0 7 rfl rfl)
theorem dX0_pacts_8 : decode cX0_pacts 8 = .ok (.i2l, 1) := dk_133 (dk_at dksX0_pacts_0 8 rfl rfl)
theorem dX0_pacts_9 : decode cX0_pacts 9 = .ok (.lconst 1, 1) := dk_10 (dk_at dksX0_pacts_0 9 rfl rfl)
theorem dX0_pacts_10 : decode cX0_pacts 10 = .ok (.ldc2_w 315, 3) := dk_20 1 59 (dk_at dksX0_pacts_0 10 rfl rfl)
theorem dX0_pacts_13 : decode cX0_pacts 13 = .ok (.invokestatic 107, 3) := dk_184 0 107 (dk_at dksX0_pacts_0 13 rfl rfl)
theorem dX0_pacts_16 : decode cX0_pacts 16 = .ok (.ifCond .eq 15, 3) := dk_153 0 15 (dk_at dksX0_pacts_0 16 rfl rfl)
theorem dX0_pacts_19 : decode cX0_pacts 19 = .ok (.iload_n 2, 1) := dk_28 (dk_at dksX0_pacts_0 19 rfl rfl)
theorem dX0_pacts_20 : decode cX0_pacts 20 = .ok (.i2l, 1) := dk_133 (dk_at dksX0_pacts_0 20 rfl rfl)
theorem dX0_pacts_21 : decode cX0_pacts 21 = .ok (.lconst 0, 1) := dk_9 (dk_at dksX0_pacts_0 21 rfl rfl)
theorem dX0_pacts_22 : decode cX0_pacts 22 = .ok (.ldc2_w 310, 3) := dk_20 1 54 (dk_at dksX0_pacts_1 0 rfl rfl)
theorem dX0_pacts_25 : decode cX0_pacts 25 = .ok (.invokestatic 107, 3) := dk_184 0 107 (dk_at dksX0_pacts_1 3 rfl rfl)
theorem dX0_pacts_28 : decode cX0_pacts 28 = .ok (.ifCond .ne 5, 3) := dk_154 0 5 (dk_at dksX0_pacts_1 6 rfl rfl)
theorem dX0_pacts_31 : decode cX0_pacts 31 = .ok (.iconst (-1), 1) := dk_2 (dk_at dksX0_pacts_1 9 rfl rfl)
theorem dX0_pacts_32 : decode cX0_pacts 32 = .ok (.ireturn, 1) := dk_172 (dk_at dksX0_pacts_1 10 rfl rfl)
theorem dX0_pacts_33 : decode cX0_pacts 33 = .ok (.iconst 1, 1) := dk_4 (dk_at dksX0_pacts_1 11 rfl rfl)
theorem dX0_pacts_34 : decode cX0_pacts 34 = .ok (.aload_n 0, 1) := dk_42 (dk_at dksX0_pacts_1 12 rfl rfl)
theorem dX0_pacts_35 : decode cX0_pacts 35 = .ok (.getfield 10, 3) := dk_180 0 10 (dk_at dksX0_pacts_1 13 rfl rfl)
theorem dX0_pacts_38 : decode cX0_pacts 38 = .ok (.invokevirtual 111, 3) := dk_182 0 111 (dk_at dksX0_pacts_1 16 rfl rfl)
theorem dX0_pacts_41 : decode cX0_pacts 41 = .ok (.ishl, 1) := dk_120 (dk_at dksX0_pacts_1 19 rfl rfl)
theorem dX0_pacts_42 : decode cX0_pacts 42 = .ok (.istore_n 3, 1) := dk_62 (dk_at dksX0_pacts_1 20 rfl rfl)
theorem dX0_pacts_43 : decode cX0_pacts 43 = .ok (.iconst 0, 1) := dk_3 (dk_at dksX0_pacts_1 21 rfl rfl)
theorem dX0_pacts_44 : decode cX0_pacts 44 = .ok (.istore 4, 2) := dk_54 4 (dk_at dksX0_pacts_1 22 rfl rfl)
theorem dX0_pacts_46 : decode cX0_pacts 46 = .ok (.iload 4, 2) := dk_21 4 (dk_at dksX0_pacts_2 0 rfl rfl)
theorem dX0_pacts_48 : decode cX0_pacts 48 = .ok (.iload_n 3, 1) := dk_29 (dk_at dksX0_pacts_2 2 rfl rfl)
theorem dX0_pacts_49 : decode cX0_pacts 49 = .ok (.if_icmp .ge 16, 3) := dk_162 0 16 (dk_at dksX0_pacts_2 3 rfl rfl)
theorem dX0_pacts_52 : decode cX0_pacts 52 = .ok (.aload_n 0, 1) := dk_42 (dk_at dksX0_pacts_2 6 rfl rfl)
theorem dX0_pacts_53 : decode cX0_pacts 53 = .ok (.iload 4, 2) := dk_21 4 (dk_at dksX0_pacts_2 7 rfl rfl)
theorem dX0_pacts_55 : decode cX0_pacts 55 = .ok (.iload_n 1, 1) := dk_27 (dk_at dksX0_pacts_2 9 rfl rfl)
theorem dX0_pacts_56 : decode cX0_pacts 56 = .ok (.invokevirtual 317, 3) := dk_182 1 61 (dk_at dksX0_pacts_2 10 rfl rfl)
theorem dX0_pacts_59 : decode cX0_pacts 59 = .ok (.iinc 4 1, 3) := dk_132 4 1 (dk_at dksX0_pacts_2 13 rfl rfl)
theorem dX0_pacts_62 : decode cX0_pacts 62 = .ok (.goto (-16), 3) := dk_167 255 240 (dk_at dksX0_pacts_2 16 rfl rfl)
theorem dX0_pacts_65 : decode cX0_pacts 65 = .ok (.iconst 0, 1) := dk_3 (dk_at dksX0_pacts_2 19 rfl rfl)
theorem dX0_pacts_66 : decode cX0_pacts 66 = .ok (.istore 4, 2) := dk_54 4 (dk_at dksX0_pacts_2 20 rfl rfl)
theorem dX0_pacts_68 : decode cX0_pacts 68 = .ok (.bipush (-2), 2) := dk_16 254 (dk_at dksX0_pacts_2 22 rfl rfl)
theorem dX0_pacts_70 : decode cX0_pacts 70 = .ok (.istore 5, 2) := dk_54 5 (dk_at dksX0_pacts_3 0 rfl rfl)
theorem dX0_pacts_72 : decode cX0_pacts 72 = .ok (.aload_n 0, 1) := dk_42 (dk_at dksX0_pacts_3 2 rfl rfl)
theorem dX0_pacts_73 : decode cX0_pacts 73 = .ok (.iconst 0, 1) := dk_3 (dk_at dksX0_pacts_3 3 rfl rfl)
theorem dX0_pacts_74 : decode cX0_pacts 74 = .ok (.invokevirtual 320, 3) := dk_182 1 64 (dk_at dksX0_pacts_3 4 rfl rfl)
theorem dX0_pacts_77 : decode cX0_pacts 77 = .ok (.istore 6, 2) := dk_54 6 (dk_at dksX0_pacts_3 7 rfl rfl)
theorem dX0_pacts_79 : decode cX0_pacts 79 = .ok (.iload 6, 2) := dk_21 6 (dk_at dksX0_pacts_3 9 rfl rfl)
theorem dX0_pacts_81 : decode cX0_pacts 81 = .ok (.istore 7, 2) := dk_54 7 (dk_at dksX0_pacts_3 11 rfl rfl)
theorem dX0_pacts_83 : decode cX0_pacts 83 = .ok (.iconst 0, 1) := dk_3 (dk_at dksX0_pacts_3 13 rfl rfl)
theorem dX0_pacts_84 : decode cX0_pacts 84 = .ok (.istore 8, 2) := dk_54 8 (dk_at dksX0_pacts_3 14 rfl rfl)
theorem dX0_pacts_86 : decode cX0_pacts 86 = .ok (.iload 8, 2) := dk_21 8 (dk_at dksX0_pacts_3 16 rfl rfl)
theorem dX0_pacts_88 : decode cX0_pacts 88 = .ok (.iload_n 3, 1) := dk_29 (dk_at dksX0_pacts_3 18 rfl rfl)
theorem dX0_pacts_89 : decode cX0_pacts 89 = .ok (.if_icmp .ge 64, 3) := dk_162 0 64 (dk_at dksX0_pacts_3 19 rfl rfl)
theorem dX0_pacts_92 : decode cX0_pacts 92 = .ok (.iload 6, 2) := dk_21 6 (dk_at dksX0_pacts_3 22 rfl rfl)
theorem dX0_pacts_94 : decode cX0_pacts 94 = .ok (.aload_n 0, 1) := dk_42 (dk_at dksX0_pacts_4 0 rfl rfl)
theorem dX0_pacts_95 : decode cX0_pacts 95 = .ok (.iload 8, 2) := dk_21 8 (dk_at dksX0_pacts_4 1 rfl rfl)
theorem dX0_pacts_97 : decode cX0_pacts 97 = .ok (.invokevirtual 320, 3) := dk_182 1 64 (dk_at dksX0_pacts_4 3 rfl rfl)
theorem dX0_pacts_100 : decode cX0_pacts 100 = .ok (.invokestatic 323, 3) := dk_184 1 67 (dk_at dksX0_pacts_4 6 rfl rfl)
theorem dX0_pacts_103 : decode cX0_pacts 103 = .ok (.istore 6, 2) := dk_54 6 (dk_at dksX0_pacts_4 9 rfl rfl)
theorem dX0_pacts_105 : decode cX0_pacts 105 = .ok (.iload 7, 2) := dk_21 7 (dk_at dksX0_pacts_4 11 rfl rfl)
theorem dX0_pacts_107 : decode cX0_pacts 107 = .ok (.aload_n 0, 1) := dk_42 (dk_at dksX0_pacts_4 13 rfl rfl)
theorem dX0_pacts_108 : decode cX0_pacts 108 = .ok (.iload 8, 2) := dk_21 8 (dk_at dksX0_pacts_4 14 rfl rfl)
theorem dX0_pacts_110 : decode cX0_pacts 110 = .ok (.invokevirtual 320, 3) := dk_182 1 64 (dk_at dksX0_pacts_4 16 rfl rfl)
theorem dX0_pacts_113 : decode cX0_pacts 113 = .ok (.invokestatic 263, 3) := dk_184 1 7 (dk_at dksX0_pacts_4 19 rfl rfl)
theorem dX0_pacts_116 : decode cX0_pacts 116 = .ok (.istore 7, 2) := dk_54 7 (dk_at dksX0_pacts_4 22 rfl rfl)
theorem dX0_pacts_118 : decode cX0_pacts 118 = .ok (.aload_n 0, 1) := dk_42 (dk_at dksX0_pacts_5 0 rfl rfl)
theorem dX0_pacts_119 : decode cX0_pacts 119 = .ok (.iload 8, 2) := dk_21 8 (dk_at dksX0_pacts_5 1 rfl rfl)
theorem dX0_pacts_121 : decode cX0_pacts 121 = .ok (.invokevirtual 326, 3) := dk_182 1 70 (dk_at dksX0_pacts_5 3 rfl rfl)
theorem dX0_pacts_124 : decode cX0_pacts 124 = .ok (.ifCond .ne 6, 3) := dk_154 0 6 (dk_at dksX0_pacts_5 6 rfl rfl)
theorem dX0_pacts_127 : decode cX0_pacts 127 = .ok (.goto 20, 3) := dk_167 0 20 (dk_at dksX0_pacts_5 9 rfl rfl)
theorem dX0_pacts_130 : decode cX0_pacts 130 = .ok (.iload 4, 2) := dk_21 4 (dk_at dksX0_pacts_5 12 rfl rfl)
theorem dX0_pacts_132 : decode cX0_pacts 132 = .ok (.ifCond .ne 8, 3) := dk_154 0 8 (dk_at dksX0_pacts_5 14 rfl rfl)
theorem dX0_pacts_135 : decode cX0_pacts 135 = .ok (.iload 8, 2) := dk_21 8 (dk_at dksX0_pacts_5 17 rfl rfl)
theorem dX0_pacts_137 : decode cX0_pacts 137 = .ok (.goto 5, 3) := dk_167 0 5 (dk_at dksX0_pacts_5 19 rfl rfl)
theorem dX0_pacts_140 : decode cX0_pacts 140 = .ok (.iload 5, 2) := dk_21 5 (dk_at dksX0_pacts_5 22 rfl rfl)
theorem dX0_pacts_142 : decode cX0_pacts 142 = .ok (.istore 5, 2) := dk_54 5 (dk_at dksX0_pacts_6 0 rfl rfl)
theorem dX0_pacts_144 : decode cX0_pacts 144 = .ok (.iinc 4 1, 3) := dk_132 4 1 (dk_at dksX0_pacts_6 2 rfl rfl)
theorem dX0_pacts_147 : decode cX0_pacts 147 = .ok (.iinc 8 1, 3) := dk_132 8 1 (dk_at dksX0_pacts_6 5 rfl rfl)
theorem dX0_pacts_150 : decode cX0_pacts 150 = .ok (.goto (-64), 3) := dk_167 255 192 (dk_at dksX0_pacts_6 8 rfl rfl)
theorem dX0_pacts_153 : decode cX0_pacts 153 = .ok (.iload_n 2, 1) := dk_28 (dk_at dksX0_pacts_6 11 rfl rfl)
theorem dX0_pacts_154 : decode cX0_pacts 154 = .ok (.ifCond .ne 8, 3) := dk_154 0 8 (dk_at dksX0_pacts_6 12 rfl rfl)
theorem dX0_pacts_157 : decode cX0_pacts 157 = .ok (.iload 4, 2) := dk_21 4 (dk_at dksX0_pacts_6 15 rfl rfl)
theorem dX0_pacts_159 : decode cX0_pacts 159 = .ok (.goto 18, 3) := dk_167 0 18 (dk_at dksX0_pacts_6 17 rfl rfl)
theorem dX0_pacts_162 : decode cX0_pacts 162 = .ok (.iload_n 2, 1) := dk_28 (dk_at dksX0_pacts_6 20 rfl rfl)
theorem dX0_pacts_163 : decode cX0_pacts 163 = .ok (.iconst 1, 1) := dk_4 (dk_at dksX0_pacts_6 21 rfl rfl)
theorem dX0_pacts_164 : decode cX0_pacts 164 = .ok (.if_icmp .ne 8, 3) := dk_160 0 8 (dk_at dksX0_pacts_7 0 rfl rfl)
theorem dX0_pacts_167 : decode cX0_pacts 167 = .ok (.iload 5, 2) := dk_21 5 (dk_at dksX0_pacts_7 3 rfl rfl)
theorem dX0_pacts_169 : decode cX0_pacts 169 = .ok (.goto 8, 3) := dk_167 0 8 (dk_at dksX0_pacts_7 5 rfl rfl)
theorem dX0_pacts_172 : decode cX0_pacts 172 = .ok (.iload 6, 2) := dk_21 6 (dk_at dksX0_pacts_7 8 rfl rfl)
theorem dX0_pacts_174 : decode cX0_pacts 174 = .ok (.iload 7, 2) := dk_21 7 (dk_at dksX0_pacts_7 10 rfl rfl)
theorem dX0_pacts_176 : decode cX0_pacts 176 = .ok (.isub, 1) := dk_100 (dk_at dksX0_pacts_7 12 rfl rfl)
theorem dX0_pacts_177 : decode cX0_pacts 177 = .ok (.ireturn, 1) := dk_172 (dk_at dksX0_pacts_7 13 rfl rfl)
abbrev cX0_laysGains : ByteArray := prog_1_method_45_code
def yX0_laysGains : MethodName := ⟨RX0, "laysGains", "(II)V"⟩
def dkwX0_laysGains_10 : List UInt8 := [167, 0, 4, 3, 96, 79, 132, 5, 1, 167, 255, 188, 132, 4, 1, 167, 255, 57, 177]
abbrev dktX0_laysGains_10 : List UInt8 := dkwX0_laysGains_10 ++ []
def dkwX0_laysGains_9 : List UInt8 := [21, 5, 182, 0, 188, 192, 0, 192, 180, 0, 194, 46, 42, 180, 0, 10, 180, 0, 156, 162, 0, 7, 5]
abbrev dktX0_laysGains_9 : List UInt8 := dkwX0_laysGains_9 ++ dktX0_laysGains_10
def dkwX0_laysGains_8 : List UInt8 := [180, 0, 88, 29, 21, 5, 96, 92, 46, 42, 180, 0, 23, 180, 0, 153, 42, 180, 0, 10, 180, 0, 186]
abbrev dktX0_laysGains_8 : List UInt8 := dkwX0_laysGains_8 ++ dktX0_laysGains_9
def dkwX0_laysGains_7 : List UInt8 := [180, 0, 10, 182, 0, 249, 87, 3, 54, 5, 21, 5, 42, 180, 0, 10, 182, 0, 111, 162, 0, 62, 42]
abbrev dktX0_laysGains_7 : List UInt8 := dkwX0_laysGains_7 ++ dktX0_laysGains_8
def dkwX0_laysGains_6 : List UInt8 := [180, 0, 88, 29, 21, 5, 96, 92, 46, 4, 100, 79, 132, 5, 1, 167, 255, 158, 42, 180, 0, 23, 42]
abbrev dktX0_laysGains_6 : List UInt8 := dkwX0_laysGains_6 ++ dktX0_laysGains_7
def dkwX0_laysGains_5 : List UInt8 := [180, 0, 10, 180, 0, 186, 21, 5, 182, 0, 188, 192, 0, 192, 180, 0, 197, 182, 0, 238, 87, 42]
abbrev dktX0_laysGains_5 : List UInt8 := dkwX0_laysGains_5 ++ dktX0_laysGains_6
def dkwX0_laysGains_4 : List UInt8 := [153, 0, 57, 42, 180, 0, 23, 180, 0, 153, 21, 6, 46, 158, 0, 44, 42, 180, 0, 23, 21, 6, 42]
abbrev dktX0_laysGains_4 : List UInt8 := dkwX0_laysGains_4 ++ dktX0_laysGains_5
def dkwX0_laysGains_3 : List UInt8 := [180, 0, 186, 21, 5, 182, 0, 188, 192, 0, 192, 180, 0, 194, 54, 6, 27, 21, 5, 184, 0, 166]
abbrev dktX0_laysGains_3 : List UInt8 := dkwX0_laysGains_3 ++ dktX0_laysGains_4
def dkwX0_laysGains_2 : List UInt8 := [162, 0, 199, 3, 54, 5, 21, 5, 42, 180, 0, 10, 182, 0, 111, 162, 0, 92, 42, 180, 0, 10]
abbrev dktX0_laysGains_2 : List UInt8 := dkwX0_laysGains_2 ++ dktX0_laysGains_3
def dkwX0_laysGains_1 : List UInt8 := [42, 180, 0, 88, 29, 21, 4, 96, 3, 79, 132, 4, 1, 167, 255, 237, 3, 54, 4, 21, 4, 28]
abbrev dktX0_laysGains_1 : List UInt8 := dkwX0_laysGains_1 ++ dktX0_laysGains_2
def dkwX0_laysGains_0 : List UInt8 := [42, 180, 0, 23, 42, 180, 0, 19, 182, 1, 3, 7, 27, 104, 62, 3, 54, 4, 21, 4, 7, 162, 0, 19]
abbrev dktX0_laysGains_0 : List UInt8 := dkwX0_laysGains_0 ++ dktX0_laysGains_1
theorem dksX0_laysGains_0 : cX0_laysGains.data.toList.drop 0 = dktX0_laysGains_0 := by decide +kernel
theorem dksX0_laysGains_1 : cX0_laysGains.data.toList.drop 24 = dktX0_laysGains_1 := dk_seg dksX0_laysGains_0 24 rfl rfl
theorem dksX0_laysGains_2 : cX0_laysGains.data.toList.drop 46 = dktX0_laysGains_2 := dk_seg dksX0_laysGains_1 22 rfl rfl
theorem dksX0_laysGains_3 : cX0_laysGains.data.toList.drop 68 = dktX0_laysGains_3 := dk_seg dksX0_laysGains_2 22 rfl rfl
theorem dksX0_laysGains_4 : cX0_laysGains.data.toList.drop 90 = dktX0_laysGains_4 := dk_seg dksX0_laysGains_3 22 rfl rfl
theorem dksX0_laysGains_5 : cX0_laysGains.data.toList.drop 113 = dktX0_laysGains_5 := dk_seg dksX0_laysGains_4 23 rfl rfl
theorem dksX0_laysGains_6 : cX0_laysGains.data.toList.drop 135 = dktX0_laysGains_6 := dk_seg dksX0_laysGains_5 22 rfl rfl
theorem dksX0_laysGains_7 : cX0_laysGains.data.toList.drop 158 = dktX0_laysGains_7 := dk_seg dksX0_laysGains_6 23 rfl rfl
theorem dksX0_laysGains_8 : cX0_laysGains.data.toList.drop 181 = dktX0_laysGains_8 := dk_seg dksX0_laysGains_7 23 rfl rfl
theorem dksX0_laysGains_9 : cX0_laysGains.data.toList.drop 204 = dktX0_laysGains_9 := dk_seg dksX0_laysGains_8 23 rfl rfl
theorem dksX0_laysGains_10 : cX0_laysGains.data.toList.drop 227 = dktX0_laysGains_10 := dk_seg dksX0_laysGains_9 23 rfl rfl
theorem dX0_laysGains_0 : decode cX0_laysGains 0 = .ok (.aload_n 0, 1) := dk_42 (dk_at dksX0_laysGains_0 0 rfl rfl)
theorem dX0_laysGains_1 : decode cX0_laysGains 1 = .ok (.getfield 23, 3) := dk_180 0 23 (dk_at dksX0_laysGains_0 1 rfl rfl)
theorem dX0_laysGains_4 : decode cX0_laysGains 4 = .ok (.aload_n 0, 1) := dk_42 (dk_at dksX0_laysGains_0 4 rfl rfl)
theorem dX0_laysGains_5 : decode cX0_laysGains 5 = .ok (.getfield 19, 3) := dk_180 0 19 (dk_at dksX0_laysGains_0 5 rfl rfl)
theorem dX0_laysGains_8 : decode cX0_laysGains 8 = .ok (.invokevirtual 259, 3) := dk_182 1 3 (dk_at dksX0_laysGains_0 8 rfl rfl)
theorem dX0_laysGains_11 : decode cX0_laysGains 11 = .ok (.iconst 4, 1) := dk_7 (dk_at dksX0_laysGains_0 11 rfl rfl)
theorem dX0_laysGains_12 : decode cX0_laysGains 12 = .ok (.iload_n 1, 1) := dk_27 (dk_at dksX0_laysGains_0 12 rfl rfl)
theorem dX0_laysGains_13 : decode cX0_laysGains 13 = .ok (.imul, 1) := dk_104 (dk_at dksX0_laysGains_0 13 rfl rfl)
theorem dX0_laysGains_14 : decode cX0_laysGains 14 = .ok (.istore_n 3, 1) := dk_62 (dk_at dksX0_laysGains_0 14 rfl rfl)
theorem dX0_laysGains_15 : decode cX0_laysGains 15 = .ok (.iconst 0, 1) := dk_3 (dk_at dksX0_laysGains_0 15 rfl rfl)
theorem dX0_laysGains_16 : decode cX0_laysGains 16 = .ok (.istore 4, 2) := dk_54 4 (dk_at dksX0_laysGains_0 16 rfl rfl)
theorem dX0_laysGains_18 : decode cX0_laysGains 18 = .ok (.iload 4, 2) := dk_21 4 (dk_at dksX0_laysGains_0 18 rfl rfl)
theorem dX0_laysGains_20 : decode cX0_laysGains 20 = .ok (.iconst 4, 1) := dk_7 (dk_at dksX0_laysGains_0 20 rfl rfl)
theorem dX0_laysGains_21 : decode cX0_laysGains 21 = .ok (.if_icmp .ge 19, 3) := dk_162 0 19 (dk_at dksX0_laysGains_0 21 rfl rfl)
theorem dX0_laysGains_24 : decode cX0_laysGains 24 = .ok (.aload_n 0, 1) := dk_42 (dk_at dksX0_laysGains_1 0 rfl rfl)
theorem dX0_laysGains_25 : decode cX0_laysGains 25 = .ok (.getfield 88, 3) := dk_180 0 88 (dk_at dksX0_laysGains_1 1 rfl rfl)
theorem dX0_laysGains_28 : decode cX0_laysGains 28 = .ok (.iload_n 3, 1) := dk_29 (dk_at dksX0_laysGains_1 4 rfl rfl)
theorem dX0_laysGains_29 : decode cX0_laysGains 29 = .ok (.iload 4, 2) := dk_21 4 (dk_at dksX0_laysGains_1 5 rfl rfl)
theorem dX0_laysGains_31 : decode cX0_laysGains 31 = .ok (.iadd, 1) := dk_96 (dk_at dksX0_laysGains_1 7 rfl rfl)
theorem dX0_laysGains_32 : decode cX0_laysGains 32 = .ok (.iconst 0, 1) := dk_3 (dk_at dksX0_laysGains_1 8 rfl rfl)
theorem dX0_laysGains_33 : decode cX0_laysGains 33 = .ok (.iastore, 1) := dk_79 (dk_at dksX0_laysGains_1 9 rfl rfl)
theorem dX0_laysGains_34 : decode cX0_laysGains 34 = .ok (.iinc 4 1, 3) := dk_132 4 1 (dk_at dksX0_laysGains_1 10 rfl rfl)
theorem dX0_laysGains_37 : decode cX0_laysGains 37 = .ok (.goto (-19), 3) := dk_167 255 237 (dk_at dksX0_laysGains_1 13 rfl rfl)
theorem dX0_laysGains_40 : decode cX0_laysGains 40 = .ok (.iconst 0, 1) := dk_3 (dk_at dksX0_laysGains_1 16 rfl rfl)
theorem dX0_laysGains_41 : decode cX0_laysGains 41 = .ok (.istore 4, 2) := dk_54 4 (dk_at dksX0_laysGains_1 17 rfl rfl)
theorem dX0_laysGains_43 : decode cX0_laysGains 43 = .ok (.iload 4, 2) := dk_21 4 (dk_at dksX0_laysGains_1 19 rfl rfl)
theorem dX0_laysGains_45 : decode cX0_laysGains 45 = .ok (.iload_n 2, 1) := dk_28 (dk_at dksX0_laysGains_1 21 rfl rfl)
theorem dX0_laysGains_46 : decode cX0_laysGains 46 = .ok (.if_icmp .ge 199, 3) := dk_162 0 199 (dk_at dksX0_laysGains_2 0 rfl rfl)
theorem dX0_laysGains_49 : decode cX0_laysGains 49 = .ok (.iconst 0, 1) := dk_3 (dk_at dksX0_laysGains_2 3 rfl rfl)
theorem dX0_laysGains_50 : decode cX0_laysGains 50 = .ok (.istore 5, 2) := dk_54 5 (dk_at dksX0_laysGains_2 4 rfl rfl)
theorem dX0_laysGains_52 : decode cX0_laysGains 52 = .ok (.iload 5, 2) := dk_21 5 (dk_at dksX0_laysGains_2 6 rfl rfl)
theorem dX0_laysGains_54 : decode cX0_laysGains 54 = .ok (.aload_n 0, 1) := dk_42 (dk_at dksX0_laysGains_2 8 rfl rfl)
theorem dX0_laysGains_55 : decode cX0_laysGains 55 = .ok (.getfield 10, 3) := dk_180 0 10 (dk_at dksX0_laysGains_2 9 rfl rfl)
theorem dX0_laysGains_58 : decode cX0_laysGains 58 = .ok (.invokevirtual 111, 3) := dk_182 0 111 (dk_at dksX0_laysGains_2 12 rfl rfl)
theorem dX0_laysGains_61 : decode cX0_laysGains 61 = .ok (.if_icmp .ge 92, 3) := dk_162 0 92 (dk_at dksX0_laysGains_2 15 rfl rfl)
theorem dX0_laysGains_64 : decode cX0_laysGains 64 = .ok (.aload_n 0, 1) := dk_42 (dk_at dksX0_laysGains_2 18 rfl rfl)
theorem dX0_laysGains_65 : decode cX0_laysGains 65 = .ok (.getfield 10, 3) := dk_180 0 10 (dk_at dksX0_laysGains_2 19 rfl rfl)
theorem dX0_laysGains_68 : decode cX0_laysGains 68 = .ok (.getfield 186, 3) := dk_180 0 186 (dk_at dksX0_laysGains_3 0 rfl rfl)
theorem dX0_laysGains_71 : decode cX0_laysGains 71 = .ok (.iload 5, 2) := dk_21 5 (dk_at dksX0_laysGains_3 3 rfl rfl)
theorem dX0_laysGains_73 : decode cX0_laysGains 73 = .ok (.invokevirtual 188, 3) := dk_182 0 188 (dk_at dksX0_laysGains_3 5 rfl rfl)
theorem dX0_laysGains_76 : decode cX0_laysGains 76 = .ok (.checkcast 192, 3) := dk_192 0 192 (dk_at dksX0_laysGains_3 8 rfl rfl)
theorem dX0_laysGains_79 : decode cX0_laysGains 79 = .ok (.getfield 194, 3) := dk_180 0 194 (dk_at dksX0_laysGains_3 11 rfl rfl)
theorem dX0_laysGains_82 : decode cX0_laysGains 82 = .ok (.istore 6, 2) := dk_54 6 (dk_at dksX0_laysGains_3 14 rfl rfl)
theorem dX0_laysGains_84 : decode cX0_laysGains 84 = .ok (.iload_n 1, 1) := dk_27 (dk_at dksX0_laysGains_3 16 rfl rfl)
theorem dX0_laysGains_85 : decode cX0_laysGains 85 = .ok (.iload 5, 2) := dk_21 5 (dk_at dksX0_laysGains_3 17 rfl rfl)
theorem dX0_laysGains_87 : decode cX0_laysGains 87 = .ok (.invokestatic 166, 3) := dk_184 0 166 (dk_at dksX0_laysGains_3 19 rfl rfl)
theorem dX0_laysGains_90 : decode cX0_laysGains 90 = .ok (.ifCond .eq 57, 3) := dk_153 0 57 (dk_at dksX0_laysGains_4 0 rfl rfl)
theorem dX0_laysGains_93 : decode cX0_laysGains 93 = .ok (.aload_n 0, 1) := dk_42 (dk_at dksX0_laysGains_4 3 rfl rfl)
theorem dX0_laysGains_94 : decode cX0_laysGains 94 = .ok (.getfield 23, 3) := dk_180 0 23 (dk_at dksX0_laysGains_4 4 rfl rfl)
theorem dX0_laysGains_97 : decode cX0_laysGains 97 = .ok (.getfield 153, 3) := dk_180 0 153 (dk_at dksX0_laysGains_4 7 rfl rfl)
theorem dX0_laysGains_100 : decode cX0_laysGains 100 = .ok (.iload 6, 2) := dk_21 6 (dk_at dksX0_laysGains_4 10 rfl rfl)
theorem dX0_laysGains_102 : decode cX0_laysGains 102 = .ok (.iaload, 1) := dk_46 (dk_at dksX0_laysGains_4 12 rfl rfl)
theorem dX0_laysGains_103 : decode cX0_laysGains 103 = .ok (.ifCond .le 44, 3) := dk_158 0 44 (dk_at dksX0_laysGains_4 13 rfl rfl)
theorem dX0_laysGains_106 : decode cX0_laysGains 106 = .ok (.aload_n 0, 1) := dk_42 (dk_at dksX0_laysGains_4 16 rfl rfl)
theorem dX0_laysGains_107 : decode cX0_laysGains 107 = .ok (.getfield 23, 3) := dk_180 0 23 (dk_at dksX0_laysGains_4 17 rfl rfl)
theorem dX0_laysGains_110 : decode cX0_laysGains 110 = .ok (.iload 6, 2) := dk_21 6 (dk_at dksX0_laysGains_4 20 rfl rfl)
theorem dX0_laysGains_112 : decode cX0_laysGains 112 = .ok (.aload_n 0, 1) := dk_42 (dk_at dksX0_laysGains_4 22 rfl rfl)
theorem dX0_laysGains_113 : decode cX0_laysGains 113 = .ok (.getfield 10, 3) := dk_180 0 10 (dk_at dksX0_laysGains_5 0 rfl rfl)
theorem dX0_laysGains_116 : decode cX0_laysGains 116 = .ok (.getfield 186, 3) := dk_180 0 186 (dk_at dksX0_laysGains_5 3 rfl rfl)
theorem dX0_laysGains_119 : decode cX0_laysGains 119 = .ok (.iload 5, 2) := dk_21 5 (dk_at dksX0_laysGains_5 6 rfl rfl)
theorem dX0_laysGains_121 : decode cX0_laysGains 121 = .ok (.invokevirtual 188, 3) := dk_182 0 188 (dk_at dksX0_laysGains_5 8 rfl rfl)
theorem dX0_laysGains_124 : decode cX0_laysGains 124 = .ok (.checkcast 192, 3) := dk_192 0 192 (dk_at dksX0_laysGains_5 11 rfl rfl)
theorem dX0_laysGains_127 : decode cX0_laysGains 127 = .ok (.getfield 197, 3) := dk_180 0 197 (dk_at dksX0_laysGains_5 14 rfl rfl)
theorem dX0_laysGains_130 : decode cX0_laysGains 130 = .ok (.invokevirtual 238, 3) := dk_182 0 238 (dk_at dksX0_laysGains_5 17 rfl rfl)
theorem dX0_laysGains_133 : decode cX0_laysGains 133 = .ok (.pop, 1) := dk_87 (dk_at dksX0_laysGains_5 20 rfl rfl)
theorem dX0_laysGains_134 : decode cX0_laysGains 134 = .ok (.aload_n 0, 1) := dk_42 (dk_at dksX0_laysGains_5 21 rfl rfl)
theorem dX0_laysGains_135 : decode cX0_laysGains 135 = .ok (.getfield 88, 3) := dk_180 0 88 (dk_at dksX0_laysGains_6 0 rfl rfl)
theorem dX0_laysGains_138 : decode cX0_laysGains 138 = .ok (.iload_n 3, 1) := dk_29 (dk_at dksX0_laysGains_6 3 rfl rfl)
theorem dX0_laysGains_139 : decode cX0_laysGains 139 = .ok (.iload 5, 2) := dk_21 5 (dk_at dksX0_laysGains_6 4 rfl rfl)
theorem dX0_laysGains_141 : decode cX0_laysGains 141 = .ok (.iadd, 1) := dk_96 (dk_at dksX0_laysGains_6 6 rfl rfl)
theorem dX0_laysGains_142 : decode cX0_laysGains 142 = .ok (.dup2, 1) := dk_92 (dk_at dksX0_laysGains_6 7 rfl rfl)
theorem dX0_laysGains_143 : decode cX0_laysGains 143 = .ok (.iaload, 1) := dk_46 (dk_at dksX0_laysGains_6 8 rfl rfl)
theorem dX0_laysGains_144 : decode cX0_laysGains 144 = .ok (.iconst 1, 1) := dk_4 (dk_at dksX0_laysGains_6 9 rfl rfl)
theorem dX0_laysGains_145 : decode cX0_laysGains 145 = .ok (.isub, 1) := dk_100 (dk_at dksX0_laysGains_6 10 rfl rfl)
theorem dX0_laysGains_146 : decode cX0_laysGains 146 = .ok (.iastore, 1) := dk_79 (dk_at dksX0_laysGains_6 11 rfl rfl)
theorem dX0_laysGains_147 : decode cX0_laysGains 147 = .ok (.iinc 5 1, 3) := dk_132 5 1 (dk_at dksX0_laysGains_6 12 rfl rfl)
theorem dX0_laysGains_150 : decode cX0_laysGains 150 = .ok (.goto (-98), 3) := dk_167 255 158 (dk_at dksX0_laysGains_6 15 rfl rfl)
theorem dX0_laysGains_153 : decode cX0_laysGains 153 = .ok (.aload_n 0, 1) := dk_42 (dk_at dksX0_laysGains_6 18 rfl rfl)
theorem dX0_laysGains_154 : decode cX0_laysGains 154 = .ok (.getfield 23, 3) := dk_180 0 23 (dk_at dksX0_laysGains_6 19 rfl rfl)
theorem dX0_laysGains_157 : decode cX0_laysGains 157 = .ok (.aload_n 0, 1) := dk_42 (dk_at dksX0_laysGains_6 22 rfl rfl)
theorem dX0_laysGains_158 : decode cX0_laysGains 158 = .ok (.getfield 10, 3) := dk_180 0 10 (dk_at dksX0_laysGains_7 0 rfl rfl)
theorem dX0_laysGains_161 : decode cX0_laysGains 161 = .ok (.invokevirtual 249, 3) := dk_182 0 249 (dk_at dksX0_laysGains_7 3 rfl rfl)
theorem dX0_laysGains_164 : decode cX0_laysGains 164 = .ok (.pop, 1) := dk_87 (dk_at dksX0_laysGains_7 6 rfl rfl)
theorem dX0_laysGains_165 : decode cX0_laysGains 165 = .ok (.iconst 0, 1) := dk_3 (dk_at dksX0_laysGains_7 7 rfl rfl)
theorem dX0_laysGains_166 : decode cX0_laysGains 166 = .ok (.istore 5, 2) := dk_54 5 (dk_at dksX0_laysGains_7 8 rfl rfl)
theorem dX0_laysGains_168 : decode cX0_laysGains 168 = .ok (.iload 5, 2) := dk_21 5 (dk_at dksX0_laysGains_7 10 rfl rfl)
theorem dX0_laysGains_170 : decode cX0_laysGains 170 = .ok (.aload_n 0, 1) := dk_42 (dk_at dksX0_laysGains_7 12 rfl rfl)
theorem dX0_laysGains_171 : decode cX0_laysGains 171 = .ok (.getfield 10, 3) := dk_180 0 10 (dk_at dksX0_laysGains_7 13 rfl rfl)
theorem dX0_laysGains_174 : decode cX0_laysGains 174 = .ok (.invokevirtual 111, 3) := dk_182 0 111 (dk_at dksX0_laysGains_7 16 rfl rfl)
theorem dX0_laysGains_177 : decode cX0_laysGains 177 = .ok (.if_icmp .ge 62, 3) := dk_162 0 62 (dk_at dksX0_laysGains_7 19 rfl rfl)
theorem dX0_laysGains_180 : decode cX0_laysGains 180 = .ok (.aload_n 0, 1) := dk_42 (dk_at dksX0_laysGains_7 22 rfl rfl)
theorem dX0_laysGains_181 : decode cX0_laysGains 181 = .ok (.getfield 88, 3) := dk_180 0 88 (dk_at dksX0_laysGains_8 0 rfl rfl)
theorem dX0_laysGains_184 : decode cX0_laysGains 184 = .ok (.iload_n 3, 1) := dk_29 (dk_at dksX0_laysGains_8 3 rfl rfl)
theorem dX0_laysGains_185 : decode cX0_laysGains 185 = .ok (.iload 5, 2) := dk_21 5 (dk_at dksX0_laysGains_8 4 rfl rfl)
theorem dX0_laysGains_187 : decode cX0_laysGains 187 = .ok (.iadd, 1) := dk_96 (dk_at dksX0_laysGains_8 6 rfl rfl)
theorem dX0_laysGains_188 : decode cX0_laysGains 188 = .ok (.dup2, 1) := dk_92 (dk_at dksX0_laysGains_8 7 rfl rfl)
theorem dX0_laysGains_189 : decode cX0_laysGains 189 = .ok (.iaload, 1) := dk_46 (dk_at dksX0_laysGains_8 8 rfl rfl)
theorem dX0_laysGains_190 : decode cX0_laysGains 190 = .ok (.aload_n 0, 1) := dk_42 (dk_at dksX0_laysGains_8 9 rfl rfl)
theorem dX0_laysGains_191 : decode cX0_laysGains 191 = .ok (.getfield 23, 3) := dk_180 0 23 (dk_at dksX0_laysGains_8 10 rfl rfl)
theorem dX0_laysGains_194 : decode cX0_laysGains 194 = .ok (.getfield 153, 3) := dk_180 0 153 (dk_at dksX0_laysGains_8 13 rfl rfl)
theorem dX0_laysGains_197 : decode cX0_laysGains 197 = .ok (.aload_n 0, 1) := dk_42 (dk_at dksX0_laysGains_8 16 rfl rfl)
theorem dX0_laysGains_198 : decode cX0_laysGains 198 = .ok (.getfield 10, 3) := dk_180 0 10 (dk_at dksX0_laysGains_8 17 rfl rfl)
theorem dX0_laysGains_201 : decode cX0_laysGains 201 = .ok (.getfield 186, 3) := dk_180 0 186 (dk_at dksX0_laysGains_8 20 rfl rfl)
theorem dX0_laysGains_204 : decode cX0_laysGains 204 = .ok (.iload 5, 2) := dk_21 5 (dk_at dksX0_laysGains_9 0 rfl rfl)
theorem dX0_laysGains_206 : decode cX0_laysGains 206 = .ok (.invokevirtual 188, 3) := dk_182 0 188 (dk_at dksX0_laysGains_9 2 rfl rfl)
theorem dX0_laysGains_209 : decode cX0_laysGains 209 = .ok (.checkcast 192, 3) := dk_192 0 192 (dk_at dksX0_laysGains_9 5 rfl rfl)
theorem dX0_laysGains_212 : decode cX0_laysGains 212 = .ok (.getfield 194, 3) := dk_180 0 194 (dk_at dksX0_laysGains_9 8 rfl rfl)
theorem dX0_laysGains_215 : decode cX0_laysGains 215 = .ok (.iaload, 1) := dk_46 (dk_at dksX0_laysGains_9 11 rfl rfl)
theorem dX0_laysGains_216 : decode cX0_laysGains 216 = .ok (.aload_n 0, 1) := dk_42 (dk_at dksX0_laysGains_9 12 rfl rfl)
theorem dX0_laysGains_217 : decode cX0_laysGains 217 = .ok (.getfield 10, 3) := dk_180 0 10 (dk_at dksX0_laysGains_9 13 rfl rfl)
theorem dX0_laysGains_220 : decode cX0_laysGains 220 = .ok (.getfield 156, 3) := dk_180 0 156 (dk_at dksX0_laysGains_9 16 rfl rfl)
theorem dX0_laysGains_223 : decode cX0_laysGains 223 = .ok (.if_icmp .ge 7, 3) := dk_162 0 7 (dk_at dksX0_laysGains_9 19 rfl rfl)
theorem dX0_laysGains_226 : decode cX0_laysGains 226 = .ok (.iconst 2, 1) := dk_5 (dk_at dksX0_laysGains_9 22 rfl rfl)
theorem dX0_laysGains_227 : decode cX0_laysGains 227 = .ok (.goto 4, 3) := dk_167 0 4 (dk_at dksX0_laysGains_10 0 rfl rfl)
theorem dX0_laysGains_230 : decode cX0_laysGains 230 = .ok (.iconst 0, 1) := dk_3 (dk_at dksX0_laysGains_10 3 rfl rfl)
theorem dX0_laysGains_231 : decode cX0_laysGains 231 = .ok (.iadd, 1) := dk_96 (dk_at dksX0_laysGains_10 4 rfl rfl)
theorem dX0_laysGains_232 : decode cX0_laysGains 232 = .ok (.iastore, 1) := dk_79 (dk_at dksX0_laysGains_10 5 rfl rfl)
theorem dX0_laysGains_233 : decode cX0_laysGains 233 = .ok (.iinc 5 1, 3) := dk_132 5 1 (dk_at dksX0_laysGains_10 6 rfl rfl)
theorem dX0_laysGains_236 : decode cX0_laysGains 236 = .ok (.goto (-68), 3) := dk_167 255 188 (dk_at dksX0_laysGains_10 9 rfl rfl)
theorem dX0_laysGains_239 : decode cX0_laysGains 239 = .ok (.iinc 4 1, 3) := dk_132 4 1 (dk_at dksX0_laysGains_10 12 rfl rfl)
theorem dX0_laysGains_242 : decode cX0_laysGains 242 = .ok (.goto (-199), 3) := dk_167 255 57 (dk_at dksX0_laysGains_10 15 rfl rfl)
theorem dX0_laysGains_245 : decode cX0_laysGains 245 = .ok (.return_, 1) := dk_177 (dk_at dksX0_laysGains_10 18 rfl rfl)
abbrev cX0_gainsOf : ByteArray := prog_1_method_46_code
def yX0_gainsOf : MethodName := ⟨RX0, "gainsOf", "(I)I"⟩
def dkwX0_gainsOf_1 : List UInt8 := [132, 3, 1, 167, 255, 235, 28, 172]
abbrev dktX0_gainsOf_1 : List UInt8 := dkwX0_gainsOf_1 ++ []
def dkwX0_gainsOf_0 : List UInt8 := [3, 61, 3, 62, 29, 7, 162, 0, 22, 28, 42, 180, 0, 88, 7, 27, 104, 29, 96, 46, 96, 61]
abbrev dktX0_gainsOf_0 : List UInt8 := dkwX0_gainsOf_0 ++ dktX0_gainsOf_1
theorem dksX0_gainsOf_0 : cX0_gainsOf.data.toList.drop 0 = dktX0_gainsOf_0 := by decide +kernel
theorem dksX0_gainsOf_1 : cX0_gainsOf.data.toList.drop 22 = dktX0_gainsOf_1 := dk_seg dksX0_gainsOf_0 22 rfl rfl
theorem dX0_gainsOf_0 : decode cX0_gainsOf 0 = .ok (.iconst 0, 1) := dk_3 (dk_at dksX0_gainsOf_0 0 rfl rfl)
theorem dX0_gainsOf_1 : decode cX0_gainsOf 1 = .ok (.istore_n 2, 1) := dk_61 (dk_at dksX0_gainsOf_0 1 rfl rfl)
theorem dX0_gainsOf_2 : decode cX0_gainsOf 2 = .ok (.iconst 0, 1) := dk_3 (dk_at dksX0_gainsOf_0 2 rfl rfl)
theorem dX0_gainsOf_3 : decode cX0_gainsOf 3 = .ok (.istore_n 3, 1) := dk_62 (dk_at dksX0_gainsOf_0 3 rfl rfl)
theorem dX0_gainsOf_4 : decode cX0_gainsOf 4 = .ok (.iload_n 3, 1) := dk_29 (dk_at dksX0_gainsOf_0 4 rfl rfl)
theorem dX0_gainsOf_5 : decode cX0_gainsOf 5 = .ok (.iconst 4, 1) := dk_7 (dk_at dksX0_gainsOf_0 5 rfl rfl)
theorem dX0_gainsOf_6 : decode cX0_gainsOf 6 = .ok (.if_icmp .ge 22, 3) := dk_162 0 22 (dk_at dksX0_gainsOf_0 6 rfl rfl)
theorem dX0_gainsOf_9 : decode cX0_gainsOf 9 = .ok (.iload_n 2, 1) := dk_28 (dk_at dksX0_gainsOf_0 9 rfl rfl)
theorem dX0_gainsOf_10 : decode cX0_gainsOf 10 = .ok (.aload_n 0, 1) := dk_42 (dk_at dksX0_gainsOf_0 10 rfl rfl)
theorem dX0_gainsOf_11 : decode cX0_gainsOf 11 = .ok (.getfield 88, 3) := dk_180 0 88 (dk_at dksX0_gainsOf_0 11 rfl rfl)
theorem dX0_gainsOf_14 : decode cX0_gainsOf 14 = .ok (.iconst 4, 1) := dk_7 (dk_at dksX0_gainsOf_0 14 rfl rfl)
theorem dX0_gainsOf_15 : decode cX0_gainsOf 15 = .ok (.iload_n 1, 1) := dk_27 (dk_at dksX0_gainsOf_0 15 rfl rfl)
theorem dX0_gainsOf_16 : decode cX0_gainsOf 16 = .ok (.imul, 1) := dk_104 (dk_at dksX0_gainsOf_0 16 rfl rfl)
theorem dX0_gainsOf_17 : decode cX0_gainsOf 17 = .ok (.iload_n 3, 1) := dk_29 (dk_at dksX0_gainsOf_0 17 rfl rfl)
theorem dX0_gainsOf_18 : decode cX0_gainsOf 18 = .ok (.iadd, 1) := dk_96 (dk_at dksX0_gainsOf_0 18 rfl rfl)
theorem dX0_gainsOf_19 : decode cX0_gainsOf 19 = .ok (.iaload, 1) := dk_46 (dk_at dksX0_gainsOf_0 19 rfl rfl)
theorem dX0_gainsOf_20 : decode cX0_gainsOf 20 = .ok (.iadd, 1) := dk_96 (dk_at dksX0_gainsOf_0 20 rfl rfl)
theorem dX0_gainsOf_21 : decode cX0_gainsOf 21 = .ok (.istore_n 2, 1) := dk_61 (dk_at dksX0_gainsOf_0 21 rfl rfl)
theorem dX0_gainsOf_22 : decode cX0_gainsOf 22 = .ok (.iinc 3 1, 3) := dk_132 3 1 (dk_at dksX0_gainsOf_1 0 rfl rfl)
theorem dX0_gainsOf_25 : decode cX0_gainsOf 25 = .ok (.goto (-21), 3) := dk_167 255 235 (dk_at dksX0_gainsOf_1 3 rfl rfl)
theorem dX0_gainsOf_28 : decode cX0_gainsOf 28 = .ok (.iload_n 2, 1) := dk_28 (dk_at dksX0_gainsOf_1 6 rfl rfl)
theorem dX0_gainsOf_29 : decode cX0_gainsOf 29 = .ok (.ireturn, 1) := dk_172 (dk_at dksX0_gainsOf_1 7 rfl rfl)
abbrev cX0_isPact : ByteArray := prog_1_method_47_code
def yX0_isPact : MethodName := ⟨RX0, "isPact", "(I)Z"⟩
def dkwX0_isPact_2 : List UInt8 := [4, 172]
abbrev dktX0_isPact_2 : List UInt8 := dkwX0_isPact_2 ++ []
def dkwX0_isPact_1 : List UInt8 := [28, 96, 46, 42, 180, 0, 88, 7, 27, 104, 28, 96, 46, 164, 0, 5, 3, 172, 132, 2, 1, 167, 255, 213]
abbrev dktX0_isPact_1 : List UInt8 := dkwX0_isPact_1 ++ dktX0_isPact_2
def dkwX0_isPact_0 : List UInt8 := [3, 61, 28, 42, 180, 0, 10, 182, 0, 111, 162, 0, 38, 42, 180, 0, 88, 7, 27, 4, 28, 120, 130, 104]
abbrev dktX0_isPact_0 : List UInt8 := dkwX0_isPact_0 ++ dktX0_isPact_1
theorem dksX0_isPact_0 : cX0_isPact.data.toList.drop 0 = dktX0_isPact_0 := by decide +kernel
theorem dksX0_isPact_1 : cX0_isPact.data.toList.drop 24 = dktX0_isPact_1 := dk_seg dksX0_isPact_0 24 rfl rfl
theorem dksX0_isPact_2 : cX0_isPact.data.toList.drop 48 = dktX0_isPact_2 := dk_seg dksX0_isPact_1 24 rfl rfl
theorem dX0_isPact_0 : decode cX0_isPact 0 = .ok (.iconst 0, 1) := dk_3 (dk_at dksX0_isPact_0 0 rfl rfl)
theorem dX0_isPact_1 : decode cX0_isPact 1 = .ok (.istore_n 2, 1) := dk_61 (dk_at dksX0_isPact_0 1 rfl rfl)
theorem dX0_isPact_2 : decode cX0_isPact 2 = .ok (.iload_n 2, 1) := dk_28 (dk_at dksX0_isPact_0 2 rfl rfl)
theorem dX0_isPact_3 : decode cX0_isPact 3 = .ok (.aload_n 0, 1) := dk_42 (dk_at dksX0_isPact_0 3 rfl rfl)
theorem dX0_isPact_4 : decode cX0_isPact 4 = .ok (.getfield 10, 3) := dk_180 0 10 (dk_at dksX0_isPact_0 4 rfl rfl)
theorem dX0_isPact_7 : decode cX0_isPact 7 = .ok (.invokevirtual 111, 3) := dk_182 0 111 (dk_at dksX0_isPact_0 7 rfl rfl)
theorem dX0_isPact_10 : decode cX0_isPact 10 = .ok (.if_icmp .ge 38, 3) := dk_162 0 38 (dk_at dksX0_isPact_0 10 rfl rfl)
theorem dX0_isPact_13 : decode cX0_isPact 13 = .ok (.aload_n 0, 1) := dk_42 (dk_at dksX0_isPact_0 13 rfl rfl)
theorem dX0_isPact_14 : decode cX0_isPact 14 = .ok (.getfield 88, 3) := dk_180 0 88 (dk_at dksX0_isPact_0 14 rfl rfl)
theorem dX0_isPact_17 : decode cX0_isPact 17 = .ok (.iconst 4, 1) := dk_7 (dk_at dksX0_isPact_0 17 rfl rfl)
theorem dX0_isPact_18 : decode cX0_isPact 18 = .ok (.iload_n 1, 1) := dk_27 (dk_at dksX0_isPact_0 18 rfl rfl)
theorem dX0_isPact_19 : decode cX0_isPact 19 = .ok (.iconst 1, 1) := dk_4 (dk_at dksX0_isPact_0 19 rfl rfl)
theorem dX0_isPact_20 : decode cX0_isPact 20 = .ok (.iload_n 2, 1) := dk_28 (dk_at dksX0_isPact_0 20 rfl rfl)
theorem dX0_isPact_21 : decode cX0_isPact 21 = .ok (.ishl, 1) := dk_120 (dk_at dksX0_isPact_0 21 rfl rfl)
theorem dX0_isPact_22 : decode cX0_isPact 22 = .ok (.ixor, 1) := dk_130 (dk_at dksX0_isPact_0 22 rfl rfl)
theorem dX0_isPact_23 : decode cX0_isPact 23 = .ok (.imul, 1) := dk_104 (dk_at dksX0_isPact_0 23 rfl rfl)
theorem dX0_isPact_24 : decode cX0_isPact 24 = .ok (.iload_n 2, 1) := dk_28 (dk_at dksX0_isPact_1 0 rfl rfl)
theorem dX0_isPact_25 : decode cX0_isPact 25 = .ok (.iadd, 1) := dk_96 (dk_at dksX0_isPact_1 1 rfl rfl)
theorem dX0_isPact_26 : decode cX0_isPact 26 = .ok (.iaload, 1) := dk_46 (dk_at dksX0_isPact_1 2 rfl rfl)
theorem dX0_isPact_27 : decode cX0_isPact 27 = .ok (.aload_n 0, 1) := dk_42 (dk_at dksX0_isPact_1 3 rfl rfl)
theorem dX0_isPact_28 : decode cX0_isPact 28 = .ok (.getfield 88, 3) := dk_180 0 88 (dk_at dksX0_isPact_1 4 rfl rfl)
theorem dX0_isPact_31 : decode cX0_isPact 31 = .ok (.iconst 4, 1) := dk_7 (dk_at dksX0_isPact_1 7 rfl rfl)
theorem dX0_isPact_32 : decode cX0_isPact 32 = .ok (.iload_n 1, 1) := dk_27 (dk_at dksX0_isPact_1 8 rfl rfl)
theorem dX0_isPact_33 : decode cX0_isPact 33 = .ok (.imul, 1) := dk_104 (dk_at dksX0_isPact_1 9 rfl rfl)
theorem dX0_isPact_34 : decode cX0_isPact 34 = .ok (.iload_n 2, 1) := dk_28 (dk_at dksX0_isPact_1 10 rfl rfl)
theorem dX0_isPact_35 : decode cX0_isPact 35 = .ok (.iadd, 1) := dk_96 (dk_at dksX0_isPact_1 11 rfl rfl)
theorem dX0_isPact_36 : decode cX0_isPact 36 = .ok (.iaload, 1) := dk_46 (dk_at dksX0_isPact_1 12 rfl rfl)
theorem dX0_isPact_37 : decode cX0_isPact 37 = .ok (.if_icmp .le 5, 3) := dk_164 0 5 (dk_at dksX0_isPact_1 13 rfl rfl)
theorem dX0_isPact_40 : decode cX0_isPact 40 = .ok (.iconst 0, 1) := dk_3 (dk_at dksX0_isPact_1 16 rfl rfl)
theorem dX0_isPact_41 : decode cX0_isPact 41 = .ok (.ireturn, 1) := dk_172 (dk_at dksX0_isPact_1 17 rfl rfl)
theorem dX0_isPact_42 : decode cX0_isPact 42 = .ok (.iinc 2 1, 3) := dk_132 2 1 (dk_at dksX0_isPact_1 18 rfl rfl)
theorem dX0_isPact_45 : decode cX0_isPact 45 = .ok (.goto (-43), 3) := dk_167 255 213 (dk_at dksX0_isPact_1 21 rfl rfl)
theorem dX0_isPact_48 : decode cX0_isPact 48 = .ok (.iconst 1, 1) := dk_4 (dk_at dksX0_isPact_2 0 rfl rfl)
theorem dX0_isPact_49 : decode cX0_isPact 49 = .ok (.ireturn, 1) := dk_172 (dk_at dksX0_isPact_2 1 rfl rfl)
abbrev cX0_thrownOn : ByteArray := prog_1_method_49_code
def yX0_thrownOn : MethodName := ⟨RX0, "thrownOn", "(III)I"⟩
def dkwX0_thrownOn_4 : List UInt8 := [27, 46, 167, 0, 13, 21, 4, 42, 180, 0, 10, 180, 0, 100, 104, 172]
abbrev dktX0_thrownOn_4 : List UInt8 := dkwX0_thrownOn_4 ++ []
def dkwX0_thrownOn_3 : List UInt8 := [27, 184, 0, 166, 184, 0, 159, 96, 54, 4, 132, 5, 1, 167, 255, 227, 29, 154, 0, 12, 42, 180, 0, 68]
abbrev dktX0_thrownOn_3 : List UInt8 := dkwX0_thrownOn_3 ++ dktX0_thrownOn_4
def dkwX0_thrownOn_2 : List UInt8 := [3, 79, 3, 54, 4, 3, 54, 5, 21, 5, 28, 162, 0, 29, 21, 4, 42, 42, 180, 0, 23, 182, 0, 252]
abbrev dktX0_thrownOn_2 : List UInt8 := dkwX0_thrownOn_2 ++ dktX0_thrownOn_3
def dkwX0_thrownOn_1 : List UInt8 := [184, 0, 107, 154, 0, 5, 2, 172, 42, 180, 0, 23, 42, 180, 0, 19, 182, 1, 3, 42, 180, 0, 68, 27]
abbrev dktX0_thrownOn_1 : List UInt8 := dkwX0_thrownOn_1 ++ dktX0_thrownOn_2
def dkwX0_thrownOn_0 : List UInt8 := [42, 27, 182, 0, 149, 153, 0, 25, 28, 133, 10, 20, 1, 33, 184, 0, 107, 153, 0, 13, 29, 133, 9, 10]
abbrev dktX0_thrownOn_0 : List UInt8 := dkwX0_thrownOn_0 ++ dktX0_thrownOn_1
theorem dksX0_thrownOn_0 : cX0_thrownOn.data.toList.drop 0 = dktX0_thrownOn_0 := by decide +kernel
theorem dksX0_thrownOn_1 : cX0_thrownOn.data.toList.drop 24 = dktX0_thrownOn_1 := dk_seg dksX0_thrownOn_0 24 rfl rfl
theorem dksX0_thrownOn_2 : cX0_thrownOn.data.toList.drop 48 = dktX0_thrownOn_2 := dk_seg dksX0_thrownOn_1 24 rfl rfl
theorem dksX0_thrownOn_3 : cX0_thrownOn.data.toList.drop 72 = dktX0_thrownOn_3 := dk_seg dksX0_thrownOn_2 24 rfl rfl
theorem dksX0_thrownOn_4 : cX0_thrownOn.data.toList.drop 96 = dktX0_thrownOn_4 := dk_seg dksX0_thrownOn_3 24 rfl rfl
theorem dX0_thrownOn_0 : decode cX0_thrownOn 0 = .ok (.aload_n 0, 1) := dk_42 (dk_at dksX0_thrownOn_0 0 rfl rfl)
theorem dX0_thrownOn_1 : decode cX0_thrownOn 1 = .ok (.iload_n 1, 1) := dk_27 (dk_at dksX0_thrownOn_0 1 rfl rfl)
theorem dX0_thrownOn_2 : decode cX0_thrownOn 2 = .ok (.invokevirtual 149, 3) := dk_182 0 149 (dk_at dksX0_thrownOn_0 2 rfl rfl)
theorem dX0_thrownOn_5 : decode cX0_thrownOn 5 = .ok (.ifCond .eq 25, 3) := dk_153 0 25 (dk_at dksX0_thrownOn_0 5 rfl rfl)
theorem dX0_thrownOn_8 : decode cX0_thrownOn 8 = .ok (.iload_n 2, 1) := dk_28 (dk_at dksX0_thrownOn_0 8 rfl rfl)
theorem dX0_thrownOn_9 : decode cX0_thrownOn 9 = .ok (.i2l, 1) := dk_133 (dk_at dksX0_thrownOn_0 9 rfl rfl)
theorem dX0_thrownOn_10 : decode cX0_thrownOn 10 = .ok (.lconst 1, 1) := dk_10 (dk_at dksX0_thrownOn_0 10 rfl rfl)
theorem dX0_thrownOn_11 : decode cX0_thrownOn 11 = .ok (.ldc2_w 289, 3) := dk_20 1 33 (dk_at dksX0_thrownOn_0 11 rfl rfl)
theorem dX0_thrownOn_14 : decode cX0_thrownOn 14 = .ok (.invokestatic 107, 3) := dk_184 0 107 (dk_at dksX0_thrownOn_0 14 rfl rfl)
theorem dX0_thrownOn_17 : decode cX0_thrownOn 17 = .ok (.ifCond .eq 13, 3) := dk_153 0 13 (dk_at dksX0_thrownOn_0 17 rfl rfl)
theorem dX0_thrownOn_20 : decode cX0_thrownOn 20 = .ok (.iload_n 3, 1) := dk_29 (dk_at dksX0_thrownOn_0 20 rfl rfl)
theorem dX0_thrownOn_21 : decode cX0_thrownOn 21 = .ok (.i2l, 1) := dk_133 (dk_at dksX0_thrownOn_0 21 rfl rfl)
theorem dX0_thrownOn_22 : decode cX0_thrownOn 22 = .ok (.lconst 0, 1) := dk_9 (dk_at dksX0_thrownOn_0 22 rfl rfl)
theorem dX0_thrownOn_23 : decode cX0_thrownOn 23 = .ok (.lconst 1, 1) := dk_10 (dk_at dksX0_thrownOn_0 23 rfl rfl)
theorem dX0_thrownOn_24 : decode cX0_thrownOn 24 = .ok (.invokestatic 107, 3) := dk_184 0 107 (dk_at dksX0_thrownOn_1 0 rfl rfl)
theorem dX0_thrownOn_27 : decode cX0_thrownOn 27 = .ok (.ifCond .ne 5, 3) := dk_154 0 5 (dk_at dksX0_thrownOn_1 3 rfl rfl)
theorem dX0_thrownOn_30 : decode cX0_thrownOn 30 = .ok (.iconst (-1), 1) := dk_2 (dk_at dksX0_thrownOn_1 6 rfl rfl)
theorem dX0_thrownOn_31 : decode cX0_thrownOn 31 = .ok (.ireturn, 1) := dk_172 (dk_at dksX0_thrownOn_1 7 rfl rfl)
theorem dX0_thrownOn_32 : decode cX0_thrownOn 32 = .ok (.aload_n 0, 1) := dk_42 (dk_at dksX0_thrownOn_1 8 rfl rfl)
theorem dX0_thrownOn_33 : decode cX0_thrownOn 33 = .ok (.getfield 23, 3) := dk_180 0 23 (dk_at dksX0_thrownOn_1 9 rfl rfl)
theorem dX0_thrownOn_36 : decode cX0_thrownOn 36 = .ok (.aload_n 0, 1) := dk_42 (dk_at dksX0_thrownOn_1 12 rfl rfl)
theorem dX0_thrownOn_37 : decode cX0_thrownOn 37 = .ok (.getfield 19, 3) := dk_180 0 19 (dk_at dksX0_thrownOn_1 13 rfl rfl)
theorem dX0_thrownOn_40 : decode cX0_thrownOn 40 = .ok (.invokevirtual 259, 3) := dk_182 1 3 (dk_at dksX0_thrownOn_1 16 rfl rfl)
theorem dX0_thrownOn_43 : decode cX0_thrownOn 43 = .ok (.aload_n 0, 1) := dk_42 (dk_at dksX0_thrownOn_1 19 rfl rfl)
theorem dX0_thrownOn_44 : decode cX0_thrownOn 44 = .ok (.getfield 68, 3) := dk_180 0 68 (dk_at dksX0_thrownOn_1 20 rfl rfl)
theorem dX0_thrownOn_47 : decode cX0_thrownOn 47 = .ok (.iload_n 1, 1) := dk_27 (dk_at dksX0_thrownOn_1 23 rfl rfl)
theorem dX0_thrownOn_48 : decode cX0_thrownOn 48 = .ok (.iconst 0, 1) := dk_3 (dk_at dksX0_thrownOn_2 0 rfl rfl)
theorem dX0_thrownOn_49 : decode cX0_thrownOn 49 = .ok (.iastore, 1) := dk_79 (dk_at dksX0_thrownOn_2 1 rfl rfl)
theorem dX0_thrownOn_50 : decode cX0_thrownOn 50 = .ok (.iconst 0, 1) := dk_3 (dk_at dksX0_thrownOn_2 2 rfl rfl)
theorem dX0_thrownOn_51 : decode cX0_thrownOn 51 = .ok (.istore 4, 2) := dk_54 4 (dk_at dksX0_thrownOn_2 3 rfl rfl)
theorem dX0_thrownOn_53 : decode cX0_thrownOn 53 = .ok (.iconst 0, 1) := dk_3 (dk_at dksX0_thrownOn_2 5 rfl rfl)
theorem dX0_thrownOn_54 : decode cX0_thrownOn 54 = .ok (.istore 5, 2) := dk_54 5 (dk_at dksX0_thrownOn_2 6 rfl rfl)
theorem dX0_thrownOn_56 : decode cX0_thrownOn 56 = .ok (.iload 5, 2) := dk_21 5 (dk_at dksX0_thrownOn_2 8 rfl rfl)
theorem dX0_thrownOn_58 : decode cX0_thrownOn 58 = .ok (.iload_n 2, 1) := dk_28 (dk_at dksX0_thrownOn_2 10 rfl rfl)
theorem dX0_thrownOn_59 : decode cX0_thrownOn 59 = .ok (.if_icmp .ge 29, 3) := dk_162 0 29 (dk_at dksX0_thrownOn_2 11 rfl rfl)
theorem dX0_thrownOn_62 : decode cX0_thrownOn 62 = .ok (.iload 4, 2) := dk_21 4 (dk_at dksX0_thrownOn_2 14 rfl rfl)
theorem dX0_thrownOn_64 : decode cX0_thrownOn 64 = .ok (.aload_n 0, 1) := dk_42 (dk_at dksX0_thrownOn_2 16 rfl rfl)
theorem dX0_thrownOn_65 : decode cX0_thrownOn 65 = .ok (.aload_n 0, 1) := dk_42 (dk_at dksX0_thrownOn_2 17 rfl rfl)
theorem dX0_thrownOn_66 : decode cX0_thrownOn 66 = .ok (.getfield 23, 3) := dk_180 0 23 (dk_at dksX0_thrownOn_2 18 rfl rfl)
theorem dX0_thrownOn_69 : decode cX0_thrownOn 69 = .ok (.invokevirtual 252, 3) := dk_182 0 252 (dk_at dksX0_thrownOn_2 21 rfl rfl)
theorem dX0_thrownOn_72 : decode cX0_thrownOn 72 = .ok (.iload_n 1, 1) := dk_27 (dk_at dksX0_thrownOn_3 0 rfl rfl)
theorem dX0_thrownOn_73 : decode cX0_thrownOn 73 = .ok (.invokestatic 166, 3) := dk_184 0 166 (dk_at dksX0_thrownOn_3 1 rfl rfl)
theorem dX0_thrownOn_76 : decode cX0_thrownOn 76 = .ok (.invokestatic 159, 3) := dk_184 0 159 (dk_at dksX0_thrownOn_3 4 rfl rfl)
theorem dX0_thrownOn_79 : decode cX0_thrownOn 79 = .ok (.iadd, 1) := dk_96 (dk_at dksX0_thrownOn_3 7 rfl rfl)
theorem dX0_thrownOn_80 : decode cX0_thrownOn 80 = .ok (.istore 4, 2) := dk_54 4 (dk_at dksX0_thrownOn_3 8 rfl rfl)
theorem dX0_thrownOn_82 : decode cX0_thrownOn 82 = .ok (.iinc 5 1, 3) := dk_132 5 1 (dk_at dksX0_thrownOn_3 10 rfl rfl)
theorem dX0_thrownOn_85 : decode cX0_thrownOn 85 = .ok (.goto (-29), 3) := dk_167 255 227 (dk_at dksX0_thrownOn_3 13 rfl rfl)
theorem dX0_thrownOn_88 : decode cX0_thrownOn 88 = .ok (.iload_n 3, 1) := dk_29 (dk_at dksX0_thrownOn_3 16 rfl rfl)
theorem dX0_thrownOn_89 : decode cX0_thrownOn 89 = .ok (.ifCond .ne 12, 3) := dk_154 0 12 (dk_at dksX0_thrownOn_3 17 rfl rfl)
theorem dX0_thrownOn_92 : decode cX0_thrownOn 92 = .ok (.aload_n 0, 1) := dk_42 (dk_at dksX0_thrownOn_3 20 rfl rfl)
theorem dX0_thrownOn_93 : decode cX0_thrownOn 93 = .ok (.getfield 68, 3) := dk_180 0 68 (dk_at dksX0_thrownOn_3 21 rfl rfl)
theorem dX0_thrownOn_96 : decode cX0_thrownOn 96 = .ok (.iload_n 1, 1) := dk_27 (dk_at dksX0_thrownOn_4 0 rfl rfl)
theorem dX0_thrownOn_97 : decode cX0_thrownOn 97 = .ok (.iaload, 1) := dk_46 (dk_at dksX0_thrownOn_4 1 rfl rfl)
theorem dX0_thrownOn_98 : decode cX0_thrownOn 98 = .ok (.goto 13, 3) := dk_167 0 13 (dk_at dksX0_thrownOn_4 2 rfl rfl)
theorem dX0_thrownOn_101 : decode cX0_thrownOn 101 = .ok (.iload 4, 2) := dk_21 4 (dk_at dksX0_thrownOn_4 5 rfl rfl)
theorem dX0_thrownOn_103 : decode cX0_thrownOn 103 = .ok (.aload_n 0, 1) := dk_42 (dk_at dksX0_thrownOn_4 7 rfl rfl)
theorem dX0_thrownOn_104 : decode cX0_thrownOn 104 = .ok (.getfield 10, 3) := dk_180 0 10 (dk_at dksX0_thrownOn_4 8 rfl rfl)
theorem dX0_thrownOn_107 : decode cX0_thrownOn 107 = .ok (.getfield 100, 3) := dk_180 0 100 (dk_at dksX0_thrownOn_4 11 rfl rfl)
theorem dX0_thrownOn_110 : decode cX0_thrownOn 110 = .ok (.imul, 1) := dk_104 (dk_at dksX0_thrownOn_4 14 rfl rfl)
theorem dX0_thrownOn_111 : decode cX0_thrownOn 111 = .ok (.ireturn, 1) := dk_172 (dk_at dksX0_thrownOn_4 15 rfl rfl)
abbrev cX0_best : ByteArray := prog_1_method_51_code
def yX0_best : MethodName := ⟨RX0, "best", "(III)I"⟩
def dkwX0_best_6 : List UInt8 := [42, 180, 1, 73, 172]
abbrev dktX0_best_6 : List UInt8 := dkwX0_best_6 ++ []
def dkwX0_best_5 : List UInt8 := [42, 21, 4, 28, 182, 1, 79, 132, 4, 1, 167, 255, 183, 29, 154, 0, 10, 42, 180, 1, 76, 167, 0, 7]
abbrev dktX0_best_5 : List UInt8 := dkwX0_best_5 ++ dktX0_best_6
def dkwX0_best_4 : List UInt8 := [180, 0, 19, 182, 1, 3, 21, 4, 2, 159, 0, 15, 42, 42, 180, 0, 23, 27, 21, 4, 182, 0, 245, 87]
abbrev dktX0_best_4 : List UInt8 := dkwX0_best_4 ++ dktX0_best_5
def dkwX0_best_3 : List UInt8 := [159, 0, 19, 42, 180, 0, 19, 180, 0, 153, 21, 4, 46, 154, 0, 6, 167, 0, 39, 42, 180, 0, 23, 42]
abbrev dktX0_best_3 : List UInt8 := dkwX0_best_3 ++ dktX0_best_4
def dkwX0_best_2 : List UInt8 := [16, 9, 181, 1, 73, 2, 54, 4, 21, 4, 42, 180, 0, 10, 182, 0, 103, 162, 0, 67, 21, 4, 2]
abbrev dktX0_best_2 : List UInt8 := dkwX0_best_2 ++ dktX0_best_3
def dkwX0_best_1 : List UInt8 := [10, 20, 1, 59, 184, 0, 107, 153, 0, 13, 29, 133, 9, 10, 184, 0, 107, 154, 0, 6, 16, 254, 172, 42]
abbrev dktX0_best_1 : List UInt8 := dkwX0_best_1 ++ dktX0_best_2
def dkwX0_best_0 : List UInt8 := [42, 27, 182, 0, 183, 153, 0, 39, 42, 180, 0, 19, 180, 0, 200, 27, 184, 0, 166, 154, 0, 25, 28, 133]
abbrev dktX0_best_0 : List UInt8 := dkwX0_best_0 ++ dktX0_best_1
theorem dksX0_best_0 : cX0_best.data.toList.drop 0 = dktX0_best_0 := by decide +kernel
theorem dksX0_best_1 : cX0_best.data.toList.drop 24 = dktX0_best_1 := dk_seg dksX0_best_0 24 rfl rfl
theorem dksX0_best_2 : cX0_best.data.toList.drop 48 = dktX0_best_2 := dk_seg dksX0_best_1 24 rfl rfl
theorem dksX0_best_3 : cX0_best.data.toList.drop 71 = dktX0_best_3 := dk_seg dksX0_best_2 23 rfl rfl
theorem dksX0_best_4 : cX0_best.data.toList.drop 95 = dktX0_best_4 := dk_seg dksX0_best_3 24 rfl rfl
theorem dksX0_best_5 : cX0_best.data.toList.drop 119 = dktX0_best_5 := dk_seg dksX0_best_4 24 rfl rfl
theorem dksX0_best_6 : cX0_best.data.toList.drop 143 = dktX0_best_6 := dk_seg dksX0_best_5 24 rfl rfl
theorem dX0_best_0 : decode cX0_best 0 = .ok (.aload_n 0, 1) := dk_42 (dk_at dksX0_best_0 0 rfl rfl)
theorem dX0_best_1 : decode cX0_best 1 = .ok (.iload_n 1, 1) := dk_27 (dk_at dksX0_best_0 1 rfl rfl)
theorem dX0_best_2 : decode cX0_best 2 = .ok (.invokevirtual 183, 3) := dk_182 0 183 (dk_at dksX0_best_0 2 rfl rfl)
theorem dX0_best_5 : decode cX0_best 5 = .ok (.ifCond .eq 39, 3) := dk_153 0 39 (dk_at dksX0_best_0 5 rfl rfl)
theorem dX0_best_8 : decode cX0_best 8 = .ok (.aload_n 0, 1) := dk_42 (dk_at dksX0_best_0 8 rfl rfl)
theorem dX0_best_9 : decode cX0_best 9 = .ok (.getfield 19, 3) := dk_180 0 19 (dk_at dksX0_best_0 9 rfl rfl)
theorem dX0_best_12 : decode cX0_best 12 = .ok (.getfield 200, 3) := dk_180 0 200 (dk_at dksX0_best_0 12 rfl rfl)
theorem dX0_best_15 : decode cX0_best 15 = .ok (.iload_n 1, 1) := dk_27 (dk_at dksX0_best_0 15 rfl rfl)
theorem dX0_best_16 : decode cX0_best 16 = .ok (.invokestatic 166, 3) := dk_184 0 166 (dk_at dksX0_best_0 16 rfl rfl)
theorem dX0_best_19 : decode cX0_best 19 = .ok (.ifCond .ne 25, 3) := dk_154 0 25 (dk_at dksX0_best_0 19 rfl rfl)
theorem dX0_best_22 : decode cX0_best 22 = .ok (.iload_n 2, 1) := dk_28 (dk_at dksX0_best_0 22 rfl rfl)
theorem dX0_best_23 : decode cX0_best 23 = .ok (.i2l, 1) := dk_133 (dk_at dksX0_best_0 23 rfl rfl)
theorem dX0_best_24 : decode cX0_best 24 = .ok (.lconst 1, 1) := dk_10 (dk_at dksX0_best_1 0 rfl rfl)
theorem dX0_best_25 : decode cX0_best 25 = .ok (.ldc2_w 315, 3) := dk_20 1 59 (dk_at dksX0_best_1 1 rfl rfl)
theorem dX0_best_28 : decode cX0_best 28 = .ok (.invokestatic 107, 3) := dk_184 0 107 (dk_at dksX0_best_1 4 rfl rfl)
theorem dX0_best_31 : decode cX0_best 31 = .ok (.ifCond .eq 13, 3) := dk_153 0 13 (dk_at dksX0_best_1 7 rfl rfl)
theorem dX0_best_34 : decode cX0_best 34 = .ok (.iload_n 3, 1) := dk_29 (dk_at dksX0_best_1 10 rfl rfl)
theorem dX0_best_35 : decode cX0_best 35 = .ok (.i2l, 1) := dk_133 (dk_at dksX0_best_1 11 rfl rfl)
theorem dX0_best_36 : decode cX0_best 36 = .ok (.lconst 0, 1) := dk_9 (dk_at dksX0_best_1 12 rfl rfl)
theorem dX0_best_37 : decode cX0_best 37 = .ok (.lconst 1, 1) := dk_10 (dk_at dksX0_best_1 13 rfl rfl)
theorem dX0_best_38 : decode cX0_best 38 = .ok (.invokestatic 107, 3) := dk_184 0 107 (dk_at dksX0_best_1 14 rfl rfl)
theorem dX0_best_41 : decode cX0_best 41 = .ok (.ifCond .ne 6, 3) := dk_154 0 6 (dk_at dksX0_best_1 17 rfl rfl)
theorem dX0_best_44 : decode cX0_best 44 = .ok (.bipush (-2), 2) := dk_16 254 (dk_at dksX0_best_1 20 rfl rfl)
theorem dX0_best_46 : decode cX0_best 46 = .ok (.ireturn, 1) := dk_172 (dk_at dksX0_best_1 22 rfl rfl)
theorem dX0_best_47 : decode cX0_best 47 = .ok (.aload_n 0, 1) := dk_42 (dk_at dksX0_best_1 23 rfl rfl)
theorem dX0_best_48 : decode cX0_best 48 = .ok (.bipush 9, 2) := dk_16 9 (dk_at dksX0_best_2 0 rfl rfl)
theorem dX0_best_50 : decode cX0_best 50 = .ok (.putfield 329, 3) := dk_181 1 73 (dk_at dksX0_best_2 2 rfl rfl)
theorem dX0_best_53 : decode cX0_best 53 = .ok (.iconst (-1), 1) := dk_2 (dk_at dksX0_best_2 5 rfl rfl)
theorem dX0_best_54 : decode cX0_best 54 = .ok (.istore 4, 2) := dk_54 4 (dk_at dksX0_best_2 6 rfl rfl)
theorem dX0_best_56 : decode cX0_best 56 = .ok (.iload 4, 2) := dk_21 4 (dk_at dksX0_best_2 8 rfl rfl)
theorem dX0_best_58 : decode cX0_best 58 = .ok (.aload_n 0, 1) := dk_42 (dk_at dksX0_best_2 10 rfl rfl)
theorem dX0_best_59 : decode cX0_best 59 = .ok (.getfield 10, 3) := dk_180 0 10 (dk_at dksX0_best_2 11 rfl rfl)
theorem dX0_best_62 : decode cX0_best 62 = .ok (.invokevirtual 103, 3) := dk_182 0 103 (dk_at dksX0_best_2 14 rfl rfl)
theorem dX0_best_65 : decode cX0_best 65 = .ok (.if_icmp .ge 67, 3) := dk_162 0 67 (dk_at dksX0_best_2 17 rfl rfl)
theorem dX0_best_68 : decode cX0_best 68 = .ok (.iload 4, 2) := dk_21 4 (dk_at dksX0_best_2 20 rfl rfl)
theorem dX0_best_70 : decode cX0_best 70 = .ok (.iconst (-1), 1) := dk_2 (dk_at dksX0_best_2 22 rfl rfl)
theorem dX0_best_71 : decode cX0_best 71 = .ok (.if_icmp .eq 19, 3) := dk_159 0 19 (dk_at dksX0_best_3 0 rfl rfl)
theorem dX0_best_74 : decode cX0_best 74 = .ok (.aload_n 0, 1) := dk_42 (dk_at dksX0_best_3 3 rfl rfl)
theorem dX0_best_75 : decode cX0_best 75 = .ok (.getfield 19, 3) := dk_180 0 19 (dk_at dksX0_best_3 4 rfl rfl)
theorem dX0_best_78 : decode cX0_best 78 = .ok (.getfield 153, 3) := dk_180 0 153 (dk_at dksX0_best_3 7 rfl rfl)
theorem dX0_best_81 : decode cX0_best 81 = .ok (.iload 4, 2) := dk_21 4 (dk_at dksX0_best_3 10 rfl rfl)
theorem dX0_best_83 : decode cX0_best 83 = .ok (.iaload, 1) := dk_46 (dk_at dksX0_best_3 12 rfl rfl)
theorem dX0_best_84 : decode cX0_best 84 = .ok (.ifCond .ne 6, 3) := dk_154 0 6 (dk_at dksX0_best_3 13 rfl rfl)
theorem dX0_best_87 : decode cX0_best 87 = .ok (.goto 39, 3) := dk_167 0 39 (dk_at dksX0_best_3 16 rfl rfl)
theorem dX0_best_90 : decode cX0_best 90 = .ok (.aload_n 0, 1) := dk_42 (dk_at dksX0_best_3 19 rfl rfl)
theorem dX0_best_91 : decode cX0_best 91 = .ok (.getfield 23, 3) := dk_180 0 23 (dk_at dksX0_best_3 20 rfl rfl)
theorem dX0_best_94 : decode cX0_best 94 = .ok (.aload_n 0, 1) := dk_42 (dk_at dksX0_best_3 23 rfl rfl)
theorem dX0_best_95 : decode cX0_best 95 = .ok (.getfield 19, 3) := dk_180 0 19 (dk_at dksX0_best_4 0 rfl rfl)
theorem dX0_best_98 : decode cX0_best 98 = .ok (.invokevirtual 259, 3) := dk_182 1 3 (dk_at dksX0_best_4 3 rfl rfl)
theorem dX0_best_101 : decode cX0_best 101 = .ok (.iload 4, 2) := dk_21 4 (dk_at dksX0_best_4 6 rfl rfl)
theorem dX0_best_103 : decode cX0_best 103 = .ok (.iconst (-1), 1) := dk_2 (dk_at dksX0_best_4 8 rfl rfl)
theorem dX0_best_104 : decode cX0_best 104 = .ok (.if_icmp .eq 15, 3) := dk_159 0 15 (dk_at dksX0_best_4 9 rfl rfl)
theorem dX0_best_107 : decode cX0_best 107 = .ok (.aload_n 0, 1) := dk_42 (dk_at dksX0_best_4 12 rfl rfl)
theorem dX0_best_108 : decode cX0_best 108 = .ok (.aload_n 0, 1) := dk_42 (dk_at dksX0_best_4 13 rfl rfl)
theorem dX0_best_109 : decode cX0_best 109 = .ok (.getfield 23, 3) := dk_180 0 23 (dk_at dksX0_best_4 14 rfl rfl)
theorem dX0_best_112 : decode cX0_best 112 = .ok (.iload_n 1, 1) := dk_27 (dk_at dksX0_best_4 17 rfl rfl)
theorem dX0_best_113 : decode cX0_best 113 = .ok (.iload 4, 2) := dk_21 4 (dk_at dksX0_best_4 18 rfl rfl)
theorem dX0_best_115 : decode cX0_best 115 = .ok (.invokevirtual 245, 3) := dk_182 0 245 (dk_at dksX0_best_4 20 rfl rfl)
theorem dX0_best_118 : decode cX0_best 118 = .ok (.pop, 1) := dk_87 (dk_at dksX0_best_4 23 rfl rfl)
theorem dX0_best_119 : decode cX0_best 119 = .ok (.aload_n 0, 1) := dk_42 (dk_at dksX0_best_5 0 rfl rfl)
theorem dX0_best_120 : decode cX0_best 120 = .ok (.iload 4, 2) := dk_21 4 (dk_at dksX0_best_5 1 rfl rfl)
theorem dX0_best_122 : decode cX0_best 122 = .ok (.iload_n 2, 1) := dk_28 (dk_at dksX0_best_5 3 rfl rfl)
theorem dX0_best_123 : decode cX0_best 123 = .ok (.invokevirtual 335, 3) := dk_182 1 79 (dk_at dksX0_best_5 4 rfl rfl)
theorem dX0_best_126 : decode cX0_best 126 = .ok (.iinc 4 1, 3) := dk_132 4 1 (dk_at dksX0_best_5 7 rfl rfl)
theorem dX0_best_129 : decode cX0_best 129 = .ok (.goto (-73), 3) := dk_167 255 183 (dk_at dksX0_best_5 10 rfl rfl)
theorem dX0_best_132 : decode cX0_best 132 = .ok (.iload_n 3, 1) := dk_29 (dk_at dksX0_best_5 13 rfl rfl)
theorem dX0_best_133 : decode cX0_best 133 = .ok (.ifCond .ne 10, 3) := dk_154 0 10 (dk_at dksX0_best_5 14 rfl rfl)
theorem dX0_best_136 : decode cX0_best 136 = .ok (.aload_n 0, 1) := dk_42 (dk_at dksX0_best_5 17 rfl rfl)
theorem dX0_best_137 : decode cX0_best 137 = .ok (.getfield 332, 3) := dk_180 1 76 (dk_at dksX0_best_5 18 rfl rfl)
theorem dX0_best_140 : decode cX0_best 140 = .ok (.goto 7, 3) := dk_167 0 7 (dk_at dksX0_best_5 21 rfl rfl)
theorem dX0_best_143 : decode cX0_best 143 = .ok (.aload_n 0, 1) := dk_42 (dk_at dksX0_best_6 0 rfl rfl)
theorem dX0_best_144 : decode cX0_best 144 = .ok (.getfield 329, 3) := dk_180 1 73 (dk_at dksX0_best_6 1 rfl rfl)
theorem dX0_best_147 : decode cX0_best 147 = .ok (.ireturn, 1) := dk_172 (dk_at dksX0_best_6 4 rfl rfl)
abbrev cX0_tries : ByteArray := prog_1_method_50_code
def yX0_tries : MethodName := ⟨RX0, "tries", "(II)V"⟩
def dkwX0_tries_1 : List UInt8 := [180, 1, 73, 161, 0, 4, 177, 42, 27, 181, 1, 76, 42, 29, 181, 1, 73, 177]
abbrev dktX0_tries_1 : List UInt8 := dkwX0_tries_1 ++ []
def dkwX0_tries_0 : List UInt8 := [42, 28, 182, 1, 30, 42, 180, 0, 23, 42, 180, 0, 10, 182, 0, 215, 184, 0, 219, 62, 29, 42]
abbrev dktX0_tries_0 : List UInt8 := dkwX0_tries_0 ++ dktX0_tries_1
theorem dksX0_tries_0 : cX0_tries.data.toList.drop 0 = dktX0_tries_0 := by decide +kernel
theorem dksX0_tries_1 : cX0_tries.data.toList.drop 22 = dktX0_tries_1 := dk_seg dksX0_tries_0 22 rfl rfl
theorem dX0_tries_0 : decode cX0_tries 0 = .ok (.aload_n 0, 1) := dk_42 (dk_at dksX0_tries_0 0 rfl rfl)
theorem dX0_tries_1 : decode cX0_tries 1 = .ok (.iload_n 2, 1) := dk_28 (dk_at dksX0_tries_0 1 rfl rfl)
theorem dX0_tries_2 : decode cX0_tries 2 = .ok (.invokevirtual 286, 3) := dk_182 1 30 (dk_at dksX0_tries_0 2 rfl rfl)
theorem dX0_tries_5 : decode cX0_tries 5 = .ok (.aload_n 0, 1) := dk_42 (dk_at dksX0_tries_0 5 rfl rfl)
theorem dX0_tries_6 : decode cX0_tries 6 = .ok (.getfield 23, 3) := dk_180 0 23 (dk_at dksX0_tries_0 6 rfl rfl)
theorem dX0_tries_9 : decode cX0_tries 9 = .ok (.aload_n 0, 1) := dk_42 (dk_at dksX0_tries_0 9 rfl rfl)
theorem dX0_tries_10 : decode cX0_tries 10 = .ok (.getfield 10, 3) := dk_180 0 10 (dk_at dksX0_tries_0 10 rfl rfl)
theorem dX0_tries_13 : decode cX0_tries 13 = .ok (.invokevirtual 215, 3) := dk_182 0 215 (dk_at dksX0_tries_0 13 rfl rfl)
theorem dX0_tries_16 : decode cX0_tries 16 = .ok (.invokestatic 219, 3) := dk_184 0 219 (dk_at dksX0_tries_0 16 rfl rfl)
theorem dX0_tries_19 : decode cX0_tries 19 = .ok (.istore_n 3, 1) := dk_62 (dk_at dksX0_tries_0 19 rfl rfl)
theorem dX0_tries_20 : decode cX0_tries 20 = .ok (.iload_n 3, 1) := dk_29 (dk_at dksX0_tries_0 20 rfl rfl)
theorem dX0_tries_21 : decode cX0_tries 21 = .ok (.aload_n 0, 1) := dk_42 (dk_at dksX0_tries_0 21 rfl rfl)
theorem dX0_tries_22 : decode cX0_tries 22 = .ok (.getfield 329, 3) := dk_180 1 73 (dk_at dksX0_tries_1 0 rfl rfl)
theorem dX0_tries_25 : decode cX0_tries 25 = .ok (.if_icmp .lt 4, 3) := dk_161 0 4 (dk_at dksX0_tries_1 3 rfl rfl)
theorem dX0_tries_28 : decode cX0_tries 28 = .ok (.return_, 1) := dk_177 (dk_at dksX0_tries_1 6 rfl rfl)
theorem dX0_tries_29 : decode cX0_tries 29 = .ok (.aload_n 0, 1) := dk_42 (dk_at dksX0_tries_1 7 rfl rfl)
theorem dX0_tries_30 : decode cX0_tries 30 = .ok (.iload_n 1, 1) := dk_27 (dk_at dksX0_tries_1 8 rfl rfl)
theorem dX0_tries_31 : decode cX0_tries 31 = .ok (.putfield 332, 3) := dk_181 1 76 (dk_at dksX0_tries_1 9 rfl rfl)
theorem dX0_tries_34 : decode cX0_tries 34 = .ok (.aload_n 0, 1) := dk_42 (dk_at dksX0_tries_1 12 rfl rfl)
theorem dX0_tries_35 : decode cX0_tries 35 = .ok (.iload_n 3, 1) := dk_29 (dk_at dksX0_tries_1 13 rfl rfl)
theorem dX0_tries_36 : decode cX0_tries 36 = .ok (.putfield 329, 3) := dk_181 1 73 (dk_at dksX0_tries_1 14 rfl rfl)
theorem dX0_tries_39 : decode cX0_tries 39 = .ok (.return_, 1) := dk_177 (dk_at dksX0_tries_1 17 rfl rfl)
abbrev cX0_might : ByteArray := prog_1_method_53_code
def yX0_might : MethodName := ⟨RX0, "might", "(II)I"⟩
def dkwX0_might_4 : List UInt8 := [167, 255, 207, 42, 2, 181, 0, 71, 21, 4, 172]
abbrev dktX0_might_4 : List UInt8 := dkwX0_might_4 ++ []
def dkwX0_might_3 : List UInt8 := [45, 180, 0, 194, 28, 182, 1, 82, 153, 0, 8, 21, 5, 167, 0, 5, 16, 254, 54, 4, 132, 5, 1]
abbrev dktX0_might_3 : List UInt8 := dkwX0_might_3 ++ dktX0_might_4
def dkwX0_might_2 : List UInt8 := [16, 99, 163, 0, 48, 21, 4, 16, 254, 160, 0, 41, 42, 27, 181, 0, 71, 42, 21, 5, 181, 0, 203, 42]
abbrev dktX0_might_2 : List UInt8 := dkwX0_might_2 ++ dktX0_might_3
def dkwX0_might_1 : List UInt8 := [180, 0, 10, 180, 0, 186, 27, 182, 0, 188, 192, 0, 192, 78, 16, 254, 54, 4, 4, 54, 5, 21, 5]
abbrev dktX0_might_1 : List UInt8 := dkwX0_might_1 ++ dktX0_might_2
def dkwX0_might_0 : List UInt8 := [42, 27, 182, 0, 183, 153, 0, 15, 28, 133, 10, 20, 1, 59, 184, 0, 107, 154, 0, 5, 2, 172, 42]
abbrev dktX0_might_0 : List UInt8 := dkwX0_might_0 ++ dktX0_might_1
theorem dksX0_might_0 : cX0_might.data.toList.drop 0 = dktX0_might_0 := by decide +kernel
theorem dksX0_might_1 : cX0_might.data.toList.drop 23 = dktX0_might_1 := dk_seg dksX0_might_0 23 rfl rfl
theorem dksX0_might_2 : cX0_might.data.toList.drop 46 = dktX0_might_2 := dk_seg dksX0_might_1 23 rfl rfl
theorem dksX0_might_3 : cX0_might.data.toList.drop 70 = dktX0_might_3 := dk_seg dksX0_might_2 24 rfl rfl
theorem dksX0_might_4 : cX0_might.data.toList.drop 93 = dktX0_might_4 := dk_seg dksX0_might_3 23 rfl rfl
theorem dX0_might_0 : decode cX0_might 0 = .ok (.aload_n 0, 1) := dk_42 (dk_at dksX0_might_0 0 rfl rfl)
theorem dX0_might_1 : decode cX0_might 1 = .ok (.iload_n 1, 1) := dk_27 (dk_at dksX0_might_0 1 rfl rfl)
theorem dX0_might_2 : decode cX0_might 2 = .ok (.invokevirtual 183, 3) := dk_182 0 183 (dk_at dksX0_might_0 2 rfl rfl)
theorem dX0_might_5 : decode cX0_might 5 = .ok (.ifCond .eq 15, 3) := dk_153 0 15 (dk_at dksX0_might_0 5 rfl rfl)
theorem dX0_might_8 : decode cX0_might 8 = .ok (.iload_n 2, 1) := dk_28 (dk_at dksX0_might_0 8 rfl rfl)
theorem dX0_might_9 : decode cX0_might 9 = .ok (.i2l, 1) := dk_133 (dk_at dksX0_might_0 9 rfl rfl)
theorem dX0_might_10 : decode cX0_might 10 = .ok (.lconst 1, 1) := dk_10 (dk_at dksX0_might_0 10 rfl rfl)
theorem dX0_might_11 : decode cX0_might 11 = .ok (.ldc2_w 315, 3) := dk_20 1 59 (dk_at dksX0_might_0 11 rfl rfl)
theorem dX0_might_14 : decode cX0_might 14 = .ok (.invokestatic 107, 3) := dk_184 0 107 (dk_at dksX0_might_0 14 rfl rfl)
theorem dX0_might_17 : decode cX0_might 17 = .ok (.ifCond .ne 5, 3) := dk_154 0 5 (dk_at dksX0_might_0 17 rfl rfl)
theorem dX0_might_20 : decode cX0_might 20 = .ok (.iconst (-1), 1) := dk_2 (dk_at dksX0_might_0 20 rfl rfl)
theorem dX0_might_21 : decode cX0_might 21 = .ok (.ireturn, 1) := dk_172 (dk_at dksX0_might_0 21 rfl rfl)
theorem dX0_might_22 : decode cX0_might 22 = .ok (.aload_n 0, 1) := dk_42 (dk_at dksX0_might_0 22 rfl rfl)
theorem dX0_might_23 : decode cX0_might 23 = .ok (.getfield 10, 3) := dk_180 0 10 (dk_at dksX0_might_1 0 rfl rfl)
theorem dX0_might_26 : decode cX0_might 26 = .ok (.getfield 186, 3) := dk_180 0 186 (dk_at dksX0_might_1 3 rfl rfl)
theorem dX0_might_29 : decode cX0_might 29 = .ok (.iload_n 1, 1) := dk_27 (dk_at dksX0_might_1 6 rfl rfl)
theorem dX0_might_30 : decode cX0_might 30 = .ok (.invokevirtual 188, 3) := dk_182 0 188 (dk_at dksX0_might_1 7 rfl rfl)
theorem dX0_might_33 : decode cX0_might 33 = .ok (.checkcast 192, 3) := dk_192 0 192 (dk_at dksX0_might_1 10 rfl rfl)
theorem dX0_might_36 : decode cX0_might 36 = .ok (.astore_n 3, 1) := dk_78 (dk_at dksX0_might_1 13 rfl rfl)
theorem dX0_might_37 : decode cX0_might 37 = .ok (.bipush (-2), 2) := dk_16 254 (dk_at dksX0_might_1 14 rfl rfl)
theorem dX0_might_39 : decode cX0_might 39 = .ok (.istore 4, 2) := dk_54 4 (dk_at dksX0_might_1 16 rfl rfl)
theorem dX0_might_41 : decode cX0_might 41 = .ok (.iconst 1, 1) := dk_4 (dk_at dksX0_might_1 18 rfl rfl)
theorem dX0_might_42 : decode cX0_might 42 = .ok (.istore 5, 2) := dk_54 5 (dk_at dksX0_might_1 19 rfl rfl)
theorem dX0_might_44 : decode cX0_might 44 = .ok (.iload 5, 2) := dk_21 5 (dk_at dksX0_might_1 21 rfl rfl)
theorem dX0_might_46 : decode cX0_might 46 = .ok (.bipush 99, 2) := dk_16 99 (dk_at dksX0_might_2 0 rfl rfl)
theorem dX0_might_48 : decode cX0_might 48 = .ok (.if_icmp .gt 48, 3) := dk_163 0 48 (dk_at dksX0_might_2 2 rfl rfl)
theorem dX0_might_51 : decode cX0_might 51 = .ok (.iload 4, 2) := dk_21 4 (dk_at dksX0_might_2 5 rfl rfl)
theorem dX0_might_53 : decode cX0_might 53 = .ok (.bipush (-2), 2) := dk_16 254 (dk_at dksX0_might_2 7 rfl rfl)
theorem dX0_might_55 : decode cX0_might 55 = .ok (.if_icmp .ne 41, 3) := dk_160 0 41 (dk_at dksX0_might_2 9 rfl rfl)
theorem dX0_might_58 : decode cX0_might 58 = .ok (.aload_n 0, 1) := dk_42 (dk_at dksX0_might_2 12 rfl rfl)
theorem dX0_might_59 : decode cX0_might 59 = .ok (.iload_n 1, 1) := dk_27 (dk_at dksX0_might_2 13 rfl rfl)
theorem dX0_might_60 : decode cX0_might 60 = .ok (.putfield 71, 3) := dk_181 0 71 (dk_at dksX0_might_2 14 rfl rfl)
theorem dX0_might_63 : decode cX0_might 63 = .ok (.aload_n 0, 1) := dk_42 (dk_at dksX0_might_2 17 rfl rfl)
theorem dX0_might_64 : decode cX0_might 64 = .ok (.iload 5, 2) := dk_21 5 (dk_at dksX0_might_2 18 rfl rfl)
theorem dX0_might_66 : decode cX0_might 66 = .ok (.putfield 203, 3) := dk_181 0 203 (dk_at dksX0_might_2 20 rfl rfl)
theorem dX0_might_69 : decode cX0_might 69 = .ok (.aload_n 0, 1) := dk_42 (dk_at dksX0_might_2 23 rfl rfl)
theorem dX0_might_70 : decode cX0_might 70 = .ok (.aload_n 3, 1) := dk_45 (dk_at dksX0_might_3 0 rfl rfl)
theorem dX0_might_71 : decode cX0_might 71 = .ok (.getfield 194, 3) := dk_180 0 194 (dk_at dksX0_might_3 1 rfl rfl)
theorem dX0_might_74 : decode cX0_might 74 = .ok (.iload_n 2, 1) := dk_28 (dk_at dksX0_might_3 4 rfl rfl)
theorem dX0_might_75 : decode cX0_might 75 = .ok (.invokevirtual 338, 3) := dk_182 1 82 (dk_at dksX0_might_3 5 rfl rfl)
theorem dX0_might_78 : decode cX0_might 78 = .ok (.ifCond .eq 8, 3) := dk_153 0 8 (dk_at dksX0_might_3 8 rfl rfl)
theorem dX0_might_81 : decode cX0_might 81 = .ok (.iload 5, 2) := dk_21 5 (dk_at dksX0_might_3 11 rfl rfl)
theorem dX0_might_83 : decode cX0_might 83 = .ok (.goto 5, 3) := dk_167 0 5 (dk_at dksX0_might_3 13 rfl rfl)
theorem dX0_might_86 : decode cX0_might 86 = .ok (.bipush (-2), 2) := dk_16 254 (dk_at dksX0_might_3 16 rfl rfl)
theorem dX0_might_88 : decode cX0_might 88 = .ok (.istore 4, 2) := dk_54 4 (dk_at dksX0_might_3 18 rfl rfl)
theorem dX0_might_90 : decode cX0_might 90 = .ok (.iinc 5 1, 3) := dk_132 5 1 (dk_at dksX0_might_3 20 rfl rfl)
theorem dX0_might_93 : decode cX0_might 93 = .ok (.goto (-49), 3) := dk_167 255 207 (dk_at dksX0_might_4 0 rfl rfl)
theorem dX0_might_96 : decode cX0_might 96 = .ok (.aload_n 0, 1) := dk_42 (dk_at dksX0_might_4 3 rfl rfl)
theorem dX0_might_97 : decode cX0_might 97 = .ok (.iconst (-1), 1) := dk_2 (dk_at dksX0_might_4 4 rfl rfl)
theorem dX0_might_98 : decode cX0_might 98 = .ok (.putfield 71, 3) := dk_181 0 71 (dk_at dksX0_might_4 5 rfl rfl)
theorem dX0_might_101 : decode cX0_might 101 = .ok (.iload 4, 2) := dk_21 4 (dk_at dksX0_might_4 8 rfl rfl)
theorem dX0_might_103 : decode cX0_might 103 = .ok (.ireturn, 1) := dk_172 (dk_at dksX0_might_4 10 rfl rfl)
abbrev cX0_isOpenFor : ByteArray := prog_1_method_52_code
def yX0_isOpenFor : MethodName := ⟨RX0, "isOpenFor", "(II)Z"⟩
def dkwX0_isOpenFor_2 : List UInt8 := [184, 0, 166, 154, 0, 7, 4, 167, 0, 4, 3, 62, 132, 4, 1, 167, 255, 210, 29, 172]
abbrev dktX0_isOpenFor_2 : List UInt8 := dkwX0_isOpenFor_2 ++ []
def dkwX0_isOpenFor_1 : List UInt8 := [153, 0, 42, 42, 42, 180, 0, 23, 182, 0, 252, 87, 42, 180, 0, 23, 42, 180, 0, 10, 182, 0, 215, 27]
abbrev dktX0_isOpenFor_1 : List UInt8 := dkwX0_isOpenFor_1 ++ dktX0_isOpenFor_2
def dkwX0_isOpenFor_0 : List UInt8 := [42, 180, 0, 23, 42, 180, 0, 19, 182, 1, 3, 4, 62, 3, 54, 4, 21, 4, 28, 162, 0, 46, 29]
abbrev dktX0_isOpenFor_0 : List UInt8 := dkwX0_isOpenFor_0 ++ dktX0_isOpenFor_1
theorem dksX0_isOpenFor_0 : cX0_isOpenFor.data.toList.drop 0 = dktX0_isOpenFor_0 := by decide +kernel
theorem dksX0_isOpenFor_1 : cX0_isOpenFor.data.toList.drop 23 = dktX0_isOpenFor_1 := dk_seg dksX0_isOpenFor_0 23 rfl rfl
theorem dksX0_isOpenFor_2 : cX0_isOpenFor.data.toList.drop 47 = dktX0_isOpenFor_2 := dk_seg dksX0_isOpenFor_1 24 rfl rfl
theorem dX0_isOpenFor_0 : decode cX0_isOpenFor 0 = .ok (.aload_n 0, 1) := dk_42 (dk_at dksX0_isOpenFor_0 0 rfl rfl)
theorem dX0_isOpenFor_1 : decode cX0_isOpenFor 1 = .ok (.getfield 23, 3) := dk_180 0 23 (dk_at dksX0_isOpenFor_0 1 rfl rfl)
theorem dX0_isOpenFor_4 : decode cX0_isOpenFor 4 = .ok (.aload_n 0, 1) := dk_42 (dk_at dksX0_isOpenFor_0 4 rfl rfl)
theorem dX0_isOpenFor_5 : decode cX0_isOpenFor 5 = .ok (.getfield 19, 3) := dk_180 0 19 (dk_at dksX0_isOpenFor_0 5 rfl rfl)
theorem dX0_isOpenFor_8 : decode cX0_isOpenFor 8 = .ok (.invokevirtual 259, 3) := dk_182 1 3 (dk_at dksX0_isOpenFor_0 8 rfl rfl)
theorem dX0_isOpenFor_11 : decode cX0_isOpenFor 11 = .ok (.iconst 1, 1) := dk_4 (dk_at dksX0_isOpenFor_0 11 rfl rfl)
theorem dX0_isOpenFor_12 : decode cX0_isOpenFor 12 = .ok (.istore_n 3, 1) := dk_62 (dk_at dksX0_isOpenFor_0 12 rfl rfl)
theorem dX0_isOpenFor_13 : decode cX0_isOpenFor 13 = .ok (.iconst 0, 1) := dk_3 (dk_at dksX0_isOpenFor_0 13 rfl rfl)
theorem dX0_isOpenFor_14 : decode cX0_isOpenFor 14 = .ok (.istore 4, 2) := dk_54 4 (dk_at dksX0_isOpenFor_0 14 rfl rfl)
theorem dX0_isOpenFor_16 : decode cX0_isOpenFor 16 = .ok (.iload 4, 2) := dk_21 4 (dk_at dksX0_isOpenFor_0 16 rfl rfl)
theorem dX0_isOpenFor_18 : decode cX0_isOpenFor 18 = .ok (.iload_n 2, 1) := dk_28 (dk_at dksX0_isOpenFor_0 18 rfl rfl)
theorem dX0_isOpenFor_19 : decode cX0_isOpenFor 19 = .ok (.if_icmp .ge 46, 3) := dk_162 0 46 (dk_at dksX0_isOpenFor_0 19 rfl rfl)
theorem dX0_isOpenFor_22 : decode cX0_isOpenFor 22 = .ok (.iload_n 3, 1) := dk_29 (dk_at dksX0_isOpenFor_0 22 rfl rfl)
theorem dX0_isOpenFor_23 : decode cX0_isOpenFor 23 = .ok (.ifCond .eq 42, 3) := dk_153 0 42 (dk_at dksX0_isOpenFor_1 0 rfl rfl)
theorem dX0_isOpenFor_26 : decode cX0_isOpenFor 26 = .ok (.aload_n 0, 1) := dk_42 (dk_at dksX0_isOpenFor_1 3 rfl rfl)
theorem dX0_isOpenFor_27 : decode cX0_isOpenFor 27 = .ok (.aload_n 0, 1) := dk_42 (dk_at dksX0_isOpenFor_1 4 rfl rfl)
theorem dX0_isOpenFor_28 : decode cX0_isOpenFor 28 = .ok (.getfield 23, 3) := dk_180 0 23 (dk_at dksX0_isOpenFor_1 5 rfl rfl)
theorem dX0_isOpenFor_31 : decode cX0_isOpenFor 31 = .ok (.invokevirtual 252, 3) := dk_182 0 252 (dk_at dksX0_isOpenFor_1 8 rfl rfl)
theorem dX0_isOpenFor_34 : decode cX0_isOpenFor 34 = .ok (.pop, 1) := dk_87 (dk_at dksX0_isOpenFor_1 11 rfl rfl)
theorem dX0_isOpenFor_35 : decode cX0_isOpenFor 35 = .ok (.aload_n 0, 1) := dk_42 (dk_at dksX0_isOpenFor_1 12 rfl rfl)
theorem dX0_isOpenFor_36 : decode cX0_isOpenFor 36 = .ok (.getfield 23, 3) := dk_180 0 23 (dk_at dksX0_isOpenFor_1 13 rfl rfl)
theorem dX0_isOpenFor_39 : decode cX0_isOpenFor 39 = .ok (.aload_n 0, 1) := dk_42 (dk_at dksX0_isOpenFor_1 16 rfl rfl)
theorem dX0_isOpenFor_40 : decode cX0_isOpenFor 40 = .ok (.getfield 10, 3) := dk_180 0 10 (dk_at dksX0_isOpenFor_1 17 rfl rfl)
theorem dX0_isOpenFor_43 : decode cX0_isOpenFor 43 = .ok (.invokevirtual 215, 3) := dk_182 0 215 (dk_at dksX0_isOpenFor_1 20 rfl rfl)
theorem dX0_isOpenFor_46 : decode cX0_isOpenFor 46 = .ok (.iload_n 1, 1) := dk_27 (dk_at dksX0_isOpenFor_1 23 rfl rfl)
theorem dX0_isOpenFor_47 : decode cX0_isOpenFor 47 = .ok (.invokestatic 166, 3) := dk_184 0 166 (dk_at dksX0_isOpenFor_2 0 rfl rfl)
theorem dX0_isOpenFor_50 : decode cX0_isOpenFor 50 = .ok (.ifCond .ne 7, 3) := dk_154 0 7 (dk_at dksX0_isOpenFor_2 3 rfl rfl)
theorem dX0_isOpenFor_53 : decode cX0_isOpenFor 53 = .ok (.iconst 1, 1) := dk_4 (dk_at dksX0_isOpenFor_2 6 rfl rfl)
theorem dX0_isOpenFor_54 : decode cX0_isOpenFor 54 = .ok (.goto 4, 3) := dk_167 0 4 (dk_at dksX0_isOpenFor_2 7 rfl rfl)
theorem dX0_isOpenFor_57 : decode cX0_isOpenFor 57 = .ok (.iconst 0, 1) := dk_3 (dk_at dksX0_isOpenFor_2 10 rfl rfl)
theorem dX0_isOpenFor_58 : decode cX0_isOpenFor 58 = .ok (.istore_n 3, 1) := dk_62 (dk_at dksX0_isOpenFor_2 11 rfl rfl)
theorem dX0_isOpenFor_59 : decode cX0_isOpenFor 59 = .ok (.iinc 4 1, 3) := dk_132 4 1 (dk_at dksX0_isOpenFor_2 12 rfl rfl)
theorem dX0_isOpenFor_62 : decode cX0_isOpenFor 62 = .ok (.goto (-46), 3) := dk_167 255 210 (dk_at dksX0_isOpenFor_2 15 rfl rfl)
theorem dX0_isOpenFor_65 : decode cX0_isOpenFor 65 = .ok (.iload_n 3, 1) := dk_29 (dk_at dksX0_isOpenFor_2 18 rfl rfl)
theorem dX0_isOpenFor_66 : decode cX0_isOpenFor 66 = .ok (.ireturn, 1) := dk_172 (dk_at dksX0_isOpenFor_2 19 rfl rfl)
abbrev cX0_note : ByteArray := prog_1_method_54_code
def yX0_note : MethodName := ⟨RX0, "note", "(III)I"⟩
def dkwX0_note_4 : List UInt8 := [181, 0, 135, 42, 180, 0, 135, 172]
abbrev dktX0_note_4 : List UInt8 := dkwX0_note_4 ++ []
def dkwX0_note_3 : List UInt8 := [180, 0, 135, 28, 79, 42, 180, 0, 57, 42, 180, 0, 135, 29, 79, 42, 89, 180, 0, 135, 4, 96]
abbrev dktX0_note_3 : List UInt8 := dkwX0_note_3 ++ dktX0_note_4
def dkwX0_note_2 : List UInt8 := [16, 10, 160, 0, 6, 16, 254, 172, 42, 180, 0, 50, 42, 180, 0, 135, 27, 79, 42, 180, 0, 54, 42]
abbrev dktX0_note_2 : List UInt8 := dkwX0_note_2 ++ dktX0_note_3
def dkwX0_note_1 : List UInt8 := [42, 28, 182, 0, 149, 153, 0, 24, 29, 133, 9, 20, 1, 85, 184, 0, 107, 153, 0, 12, 42, 180, 0, 135]
abbrev dktX0_note_1 : List UInt8 := dkwX0_note_1 ++ dktX0_note_2
def dkwX0_note_0 : List UInt8 := [27, 2, 160, 0, 10, 42, 3, 181, 0, 135, 3, 172, 27, 133, 9, 20, 1, 33, 184, 0, 107, 153, 0, 32]
abbrev dktX0_note_0 : List UInt8 := dkwX0_note_0 ++ dktX0_note_1
theorem dksX0_note_0 : cX0_note.data.toList.drop 0 = dktX0_note_0 := by decide +kernel
theorem dksX0_note_1 : cX0_note.data.toList.drop 24 = dktX0_note_1 := dk_seg dksX0_note_0 24 rfl rfl
theorem dksX0_note_2 : cX0_note.data.toList.drop 48 = dktX0_note_2 := dk_seg dksX0_note_1 24 rfl rfl
theorem dksX0_note_3 : cX0_note.data.toList.drop 71 = dktX0_note_3 := dk_seg dksX0_note_2 23 rfl rfl
theorem dksX0_note_4 : cX0_note.data.toList.drop 93 = dktX0_note_4 := dk_seg dksX0_note_3 22 rfl rfl
theorem dX0_note_0 : decode cX0_note 0 = .ok (.iload_n 1, 1) := dk_27 (dk_at dksX0_note_0 0 rfl rfl)
theorem dX0_note_1 : decode cX0_note 1 = .ok (.iconst (-1), 1) := dk_2 (dk_at dksX0_note_0 1 rfl rfl)
theorem dX0_note_2 : decode cX0_note 2 = .ok (.if_icmp .ne 10, 3) := dk_160 0 10 (dk_at dksX0_note_0 2 rfl rfl)
theorem dX0_note_5 : decode cX0_note 5 = .ok (.aload_n 0, 1) := dk_42 (dk_at dksX0_note_0 5 rfl rfl)
theorem dX0_note_6 : decode cX0_note 6 = .ok (.iconst 0, 1) := dk_3 (dk_at dksX0_note_0 6 rfl rfl)
theorem dX0_note_7 : decode cX0_note 7 = .ok (.putfield 135, 3) := dk_181 0 135 (dk_at dksX0_note_0 7 rfl rfl)
theorem dX0_note_10 : decode cX0_note 10 = .ok (.iconst 0, 1) := dk_3 (dk_at dksX0_note_0 10 rfl rfl)
theorem dX0_note_11 : decode cX0_note 11 = .ok (.ireturn, 1) := dk_172 (dk_at dksX0_note_0 11 rfl rfl)
theorem dX0_note_12 : decode cX0_note 12 = .ok (.iload_n 1, 1) := dk_27 (dk_at dksX0_note_0 12 rfl rfl)
theorem dX0_note_13 : decode cX0_note 13 = .ok (.i2l, 1) := dk_133 (dk_at dksX0_note_0 13 rfl rfl)
theorem dX0_note_14 : decode cX0_note 14 = .ok (.lconst 0, 1) := dk_9 (dk_at dksX0_note_0 14 rfl rfl)
theorem dX0_note_15 : decode cX0_note 15 = .ok (.ldc2_w 289, 3) := dk_20 1 33 (dk_at dksX0_note_0 15 rfl rfl)
theorem dX0_note_18 : decode cX0_note 18 = .ok (.invokestatic 107, 3) := dk_184 0 107 (dk_at dksX0_note_0 18 rfl rfl)
theorem dX0_note_21 : decode cX0_note 21 = .ok (.ifCond .eq 32, 3) := dk_153 0 32 (dk_at dksX0_note_0 21 rfl rfl)
theorem dX0_note_24 : decode cX0_note 24 = .ok (.aload_n 0, 1) := dk_42 (dk_at dksX0_note_1 0 rfl rfl)
theorem dX0_note_25 : decode cX0_note 25 = .ok (.iload_n 2, 1) := dk_28 (dk_at dksX0_note_1 1 rfl rfl)
theorem dX0_note_26 : decode cX0_note 26 = .ok (.invokevirtual 149, 3) := dk_182 0 149 (dk_at dksX0_note_1 2 rfl rfl)
theorem dX0_note_29 : decode cX0_note 29 = .ok (.ifCond .eq 24, 3) := dk_153 0 24 (dk_at dksX0_note_1 5 rfl rfl)
theorem dX0_note_32 : decode cX0_note 32 = .ok (.iload_n 3, 1) := dk_29 (dk_at dksX0_note_1 8 rfl rfl)
theorem dX0_note_33 : decode cX0_note 33 = .ok (.i2l, 1) := dk_133 (dk_at dksX0_note_1 9 rfl rfl)
theorem dX0_note_34 : decode cX0_note 34 = .ok (.lconst 0, 1) := dk_9 (dk_at dksX0_note_1 10 rfl rfl)
theorem dX0_note_35 : decode cX0_note 35 = .ok (.ldc2_w 341, 3) := dk_20 1 85 (dk_at dksX0_note_1 11 rfl rfl)
theorem dX0_note_38 : decode cX0_note 38 = .ok (.invokestatic 107, 3) := dk_184 0 107 (dk_at dksX0_note_1 14 rfl rfl)
theorem dX0_note_41 : decode cX0_note 41 = .ok (.ifCond .eq 12, 3) := dk_153 0 12 (dk_at dksX0_note_1 17 rfl rfl)
theorem dX0_note_44 : decode cX0_note 44 = .ok (.aload_n 0, 1) := dk_42 (dk_at dksX0_note_1 20 rfl rfl)
theorem dX0_note_45 : decode cX0_note 45 = .ok (.getfield 135, 3) := dk_180 0 135 (dk_at dksX0_note_1 21 rfl rfl)
theorem dX0_note_48 : decode cX0_note 48 = .ok (.bipush 10, 2) := dk_16 10 (dk_at dksX0_note_2 0 rfl rfl)
theorem dX0_note_50 : decode cX0_note 50 = .ok (.if_icmp .ne 6, 3) := dk_160 0 6 (dk_at dksX0_note_2 2 rfl rfl)
theorem dX0_note_53 : decode cX0_note 53 = .ok (.bipush (-2), 2) := dk_16 254 (dk_at dksX0_note_2 5 rfl rfl)
theorem dX0_note_55 : decode cX0_note 55 = .ok (.ireturn, 1) := dk_172 (dk_at dksX0_note_2 7 rfl rfl)
theorem dX0_note_56 : decode cX0_note 56 = .ok (.aload_n 0, 1) := dk_42 (dk_at dksX0_note_2 8 rfl rfl)
theorem dX0_note_57 : decode cX0_note 57 = .ok (.getfield 50, 3) := dk_180 0 50 (dk_at dksX0_note_2 9 rfl rfl)
theorem dX0_note_60 : decode cX0_note 60 = .ok (.aload_n 0, 1) := dk_42 (dk_at dksX0_note_2 12 rfl rfl)
theorem dX0_note_61 : decode cX0_note 61 = .ok (.getfield 135, 3) := dk_180 0 135 (dk_at dksX0_note_2 13 rfl rfl)
theorem dX0_note_64 : decode cX0_note 64 = .ok (.iload_n 1, 1) := dk_27 (dk_at dksX0_note_2 16 rfl rfl)
theorem dX0_note_65 : decode cX0_note 65 = .ok (.iastore, 1) := dk_79 (dk_at dksX0_note_2 17 rfl rfl)
theorem dX0_note_66 : decode cX0_note 66 = .ok (.aload_n 0, 1) := dk_42 (dk_at dksX0_note_2 18 rfl rfl)
theorem dX0_note_67 : decode cX0_note 67 = .ok (.getfield 54, 3) := dk_180 0 54 (dk_at dksX0_note_2 19 rfl rfl)
theorem dX0_note_70 : decode cX0_note 70 = .ok (.aload_n 0, 1) := dk_42 (dk_at dksX0_note_2 22 rfl rfl)
theorem dX0_note_71 : decode cX0_note 71 = .ok (.getfield 135, 3) := dk_180 0 135 (dk_at dksX0_note_3 0 rfl rfl)
theorem dX0_note_74 : decode cX0_note 74 = .ok (.iload_n 2, 1) := dk_28 (dk_at dksX0_note_3 3 rfl rfl)
theorem dX0_note_75 : decode cX0_note 75 = .ok (.iastore, 1) := dk_79 (dk_at dksX0_note_3 4 rfl rfl)
theorem dX0_note_76 : decode cX0_note 76 = .ok (.aload_n 0, 1) := dk_42 (dk_at dksX0_note_3 5 rfl rfl)
theorem dX0_note_77 : decode cX0_note 77 = .ok (.getfield 57, 3) := dk_180 0 57 (dk_at dksX0_note_3 6 rfl rfl)
theorem dX0_note_80 : decode cX0_note 80 = .ok (.aload_n 0, 1) := dk_42 (dk_at dksX0_note_3 9 rfl rfl)
theorem dX0_note_81 : decode cX0_note 81 = .ok (.getfield 135, 3) := dk_180 0 135 (dk_at dksX0_note_3 10 rfl rfl)
theorem dX0_note_84 : decode cX0_note 84 = .ok (.iload_n 3, 1) := dk_29 (dk_at dksX0_note_3 13 rfl rfl)
theorem dX0_note_85 : decode cX0_note 85 = .ok (.iastore, 1) := dk_79 (dk_at dksX0_note_3 14 rfl rfl)
theorem dX0_note_86 : decode cX0_note 86 = .ok (.aload_n 0, 1) := dk_42 (dk_at dksX0_note_3 15 rfl rfl)
theorem dX0_note_87 : decode cX0_note 87 = .ok (.dup, 1) := dk_89 (dk_at dksX0_note_3 16 rfl rfl)
theorem dX0_note_88 : decode cX0_note 88 = .ok (.getfield 135, 3) := dk_180 0 135 (dk_at dksX0_note_3 17 rfl rfl)
theorem dX0_note_91 : decode cX0_note 91 = .ok (.iconst 1, 1) := dk_4 (dk_at dksX0_note_3 20 rfl rfl)
theorem dX0_note_92 : decode cX0_note 92 = .ok (.iadd, 1) := dk_96 (dk_at dksX0_note_3 21 rfl rfl)
theorem dX0_note_93 : decode cX0_note 93 = .ok (.putfield 135, 3) := dk_181 0 135 (dk_at dksX0_note_4 0 rfl rfl)
theorem dX0_note_96 : decode cX0_note 96 = .ok (.aload_n 0, 1) := dk_42 (dk_at dksX0_note_4 3 rfl rfl)
theorem dX0_note_97 : decode cX0_note 97 = .ok (.getfield 135, 3) := dk_180 0 135 (dk_at dksX0_note_4 4 rfl rfl)
theorem dX0_note_100 : decode cX0_note 100 = .ok (.ireturn, 1) := dk_172 (dk_at dksX0_note_4 7 rfl rfl)
abbrev cX0_ruled : ByteArray := prog_1_method_56_code
def yX0_ruled : MethodName := ⟨RX0, "ruled", "(I)I"⟩
def dkwX0_ruled_3 : List UInt8 := [167, 255, 215, 27, 154, 0, 7, 28, 167, 0, 4, 29, 172]
abbrev dktX0_ruled_3 : List UInt8 := dkwX0_ruled_3 ++ []
def dkwX0_ruled_2 : List UInt8 := [154, 0, 6, 167, 0, 17, 28, 154, 0, 8, 21, 4, 167, 0, 4, 29, 62, 132, 2, 1, 132, 4, 1]
abbrev dktX0_ruled_2 : List UInt8 := dkwX0_ruled_2 ++ dktX0_ruled_3
def dkwX0_ruled_1 : List UInt8 := [62, 2, 54, 4, 21, 4, 42, 180, 0, 31, 182, 0, 141, 162, 0, 35, 42, 21, 4, 182, 1, 87]
abbrev dktX0_ruled_1 : List UInt8 := dkwX0_ruled_1 ++ dktX0_ruled_2
def dkwX0_ruled_0 : List UInt8 := [42, 182, 1, 12, 153, 0, 13, 27, 133, 9, 10, 184, 0, 107, 154, 0, 6, 16, 253, 172, 3, 61, 16, 254]
abbrev dktX0_ruled_0 : List UInt8 := dkwX0_ruled_0 ++ dktX0_ruled_1
theorem dksX0_ruled_0 : cX0_ruled.data.toList.drop 0 = dktX0_ruled_0 := by decide +kernel
theorem dksX0_ruled_1 : cX0_ruled.data.toList.drop 24 = dktX0_ruled_1 := dk_seg dksX0_ruled_0 24 rfl rfl
theorem dksX0_ruled_2 : cX0_ruled.data.toList.drop 46 = dktX0_ruled_2 := dk_seg dksX0_ruled_1 22 rfl rfl
theorem dksX0_ruled_3 : cX0_ruled.data.toList.drop 69 = dktX0_ruled_3 := dk_seg dksX0_ruled_2 23 rfl rfl
theorem dX0_ruled_0 : decode cX0_ruled 0 = .ok (.aload_n 0, 1) := dk_42 (dk_at dksX0_ruled_0 0 rfl rfl)
theorem dX0_ruled_1 : decode cX0_ruled 1 = .ok (.invokevirtual 268, 3) := dk_182 1 12 (dk_at dksX0_ruled_0 1 rfl rfl)
theorem dX0_ruled_4 : decode cX0_ruled 4 = .ok (.ifCond .eq 13, 3) := dk_153 0 13 (dk_at dksX0_ruled_0 4 rfl rfl)
theorem dX0_ruled_7 : decode cX0_ruled 7 = .ok (.iload_n 1, 1) := dk_27 (dk_at dksX0_ruled_0 7 rfl rfl)
theorem dX0_ruled_8 : decode cX0_ruled 8 = .ok (.i2l, 1) := dk_133 (dk_at dksX0_ruled_0 8 rfl rfl)
theorem dX0_ruled_9 : decode cX0_ruled 9 = .ok (.lconst 0, 1) := dk_9 (dk_at dksX0_ruled_0 9 rfl rfl)
theorem dX0_ruled_10 : decode cX0_ruled 10 = .ok (.lconst 1, 1) := dk_10 (dk_at dksX0_ruled_0 10 rfl rfl)
theorem dX0_ruled_11 : decode cX0_ruled 11 = .ok (.invokestatic 107, 3) := dk_184 0 107 (dk_at dksX0_ruled_0 11 rfl rfl)
theorem dX0_ruled_14 : decode cX0_ruled 14 = .ok (.ifCond .ne 6, 3) := dk_154 0 6 (dk_at dksX0_ruled_0 14 rfl rfl)
theorem dX0_ruled_17 : decode cX0_ruled 17 = .ok (.bipush (-3), 2) := dk_16 253 (dk_at dksX0_ruled_0 17 rfl rfl)
theorem dX0_ruled_19 : decode cX0_ruled 19 = .ok (.ireturn, 1) := dk_172 (dk_at dksX0_ruled_0 19 rfl rfl)
theorem dX0_ruled_20 : decode cX0_ruled 20 = .ok (.iconst 0, 1) := dk_3 (dk_at dksX0_ruled_0 20 rfl rfl)
theorem dX0_ruled_21 : decode cX0_ruled 21 = .ok (.istore_n 2, 1) := dk_61 (dk_at dksX0_ruled_0 21 rfl rfl)
theorem dX0_ruled_22 : decode cX0_ruled 22 = .ok (.bipush (-2), 2) := dk_16 254 (dk_at dksX0_ruled_0 22 rfl rfl)
theorem dX0_ruled_24 : decode cX0_ruled 24 = .ok (.istore_n 3, 1) := dk_62 (dk_at dksX0_ruled_1 0 rfl rfl)
theorem dX0_ruled_25 : decode cX0_ruled 25 = .ok (.iconst (-1), 1) := dk_2 (dk_at dksX0_ruled_1 1 rfl rfl)
theorem dX0_ruled_26 : decode cX0_ruled 26 = .ok (.istore 4, 2) := dk_54 4 (dk_at dksX0_ruled_1 2 rfl rfl)
theorem dX0_ruled_28 : decode cX0_ruled 28 = .ok (.iload 4, 2) := dk_21 4 (dk_at dksX0_ruled_1 4 rfl rfl)
theorem dX0_ruled_30 : decode cX0_ruled 30 = .ok (.aload_n 0, 1) := dk_42 (dk_at dksX0_ruled_1 6 rfl rfl)
theorem dX0_ruled_31 : decode cX0_ruled 31 = .ok (.getfield 31, 3) := dk_180 0 31 (dk_at dksX0_ruled_1 7 rfl rfl)
theorem dX0_ruled_34 : decode cX0_ruled 34 = .ok (.invokevirtual 141, 3) := dk_182 0 141 (dk_at dksX0_ruled_1 10 rfl rfl)
theorem dX0_ruled_37 : decode cX0_ruled 37 = .ok (.if_icmp .ge 35, 3) := dk_162 0 35 (dk_at dksX0_ruled_1 13 rfl rfl)
theorem dX0_ruled_40 : decode cX0_ruled 40 = .ok (.aload_n 0, 1) := dk_42 (dk_at dksX0_ruled_1 16 rfl rfl)
theorem dX0_ruled_41 : decode cX0_ruled 41 = .ok (.iload 4, 2) := dk_21 4 (dk_at dksX0_ruled_1 17 rfl rfl)
theorem dX0_ruled_43 : decode cX0_ruled 43 = .ok (.invokevirtual 343, 3) := dk_182 1 87 (dk_at dksX0_ruled_1 19 rfl rfl)
theorem dX0_ruled_46 : decode cX0_ruled 46 = .ok (.ifCond .ne 6, 3) := dk_154 0 6 (dk_at dksX0_ruled_2 0 rfl rfl)
theorem dX0_ruled_49 : decode cX0_ruled 49 = .ok (.goto 17, 3) := dk_167 0 17 (dk_at dksX0_ruled_2 3 rfl rfl)
theorem dX0_ruled_52 : decode cX0_ruled 52 = .ok (.iload_n 2, 1) := dk_28 (dk_at dksX0_ruled_2 6 rfl rfl)
theorem dX0_ruled_53 : decode cX0_ruled 53 = .ok (.ifCond .ne 8, 3) := dk_154 0 8 (dk_at dksX0_ruled_2 7 rfl rfl)
theorem dX0_ruled_56 : decode cX0_ruled 56 = .ok (.iload 4, 2) := dk_21 4 (dk_at dksX0_ruled_2 10 rfl rfl)
theorem dX0_ruled_58 : decode cX0_ruled 58 = .ok (.goto 4, 3) := dk_167 0 4 (dk_at dksX0_ruled_2 12 rfl rfl)
theorem dX0_ruled_61 : decode cX0_ruled 61 = .ok (.iload_n 3, 1) := dk_29 (dk_at dksX0_ruled_2 15 rfl rfl)
theorem dX0_ruled_62 : decode cX0_ruled 62 = .ok (.istore_n 3, 1) := dk_62 (dk_at dksX0_ruled_2 16 rfl rfl)
theorem dX0_ruled_63 : decode cX0_ruled 63 = .ok (.iinc 2 1, 3) := dk_132 2 1 (dk_at dksX0_ruled_2 17 rfl rfl)
theorem dX0_ruled_66 : decode cX0_ruled 66 = .ok (.iinc 4 1, 3) := dk_132 4 1 (dk_at dksX0_ruled_2 20 rfl rfl)
theorem dX0_ruled_69 : decode cX0_ruled 69 = .ok (.goto (-41), 3) := dk_167 255 215 (dk_at dksX0_ruled_3 0 rfl rfl)
theorem dX0_ruled_72 : decode cX0_ruled 72 = .ok (.iload_n 1, 1) := dk_27 (dk_at dksX0_ruled_3 3 rfl rfl)
theorem dX0_ruled_73 : decode cX0_ruled 73 = .ok (.ifCond .ne 7, 3) := dk_154 0 7 (dk_at dksX0_ruled_3 4 rfl rfl)
theorem dX0_ruled_76 : decode cX0_ruled 76 = .ok (.iload_n 2, 1) := dk_28 (dk_at dksX0_ruled_3 7 rfl rfl)
theorem dX0_ruled_77 : decode cX0_ruled 77 = .ok (.goto 4, 3) := dk_167 0 4 (dk_at dksX0_ruled_3 8 rfl rfl)
theorem dX0_ruled_80 : decode cX0_ruled 80 = .ok (.iload_n 3, 1) := dk_29 (dk_at dksX0_ruled_3 11 rfl rfl)
theorem dX0_ruled_81 : decode cX0_ruled 81 = .ok (.ireturn, 1) := dk_172 (dk_at dksX0_ruled_3 12 rfl rfl)
abbrev cX0_couldRule : ByteArray := prog_1_method_55_code
def yX0_couldRule : MethodName := ⟨RX0, "couldRule", "(I)Z"⟩
def dkwX0_couldRule_3 : List UInt8 := [3, 172, 132, 3, 1, 167, 255, 213, 4, 172]
abbrev dktX0_couldRule_3 : List UInt8 := dkwX0_couldRule_3 ++ []
def dkwX0_couldRule_2 : List UInt8 := [42, 180, 0, 50, 29, 46, 104, 42, 180, 0, 54, 29, 46, 96, 46, 42, 180, 0, 57, 29, 46, 159, 0, 5]
abbrev dktX0_couldRule_2 : List UInt8 := dkwX0_couldRule_2 ++ dktX0_couldRule_3
def dkwX0_couldRule_1 : List UInt8 := [182, 1, 35, 42, 28, 181, 0, 35, 3, 62, 29, 42, 180, 0, 135, 162, 0, 41, 42, 180, 0, 82, 16, 8]
abbrev dktX0_couldRule_1 : List UInt8 := dkwX0_couldRule_1 ++ dktX0_couldRule_2
def dkwX0_couldRule_0 : List UInt8 := [42, 180, 0, 35, 61, 42, 27, 181, 0, 35, 42, 180, 0, 23, 42, 180, 0, 10, 182, 0, 131, 42]
abbrev dktX0_couldRule_0 : List UInt8 := dkwX0_couldRule_0 ++ dktX0_couldRule_1
theorem dksX0_couldRule_0 : cX0_couldRule.data.toList.drop 0 = dktX0_couldRule_0 := by decide +kernel
theorem dksX0_couldRule_1 : cX0_couldRule.data.toList.drop 22 = dktX0_couldRule_1 := dk_seg dksX0_couldRule_0 22 rfl rfl
theorem dksX0_couldRule_2 : cX0_couldRule.data.toList.drop 46 = dktX0_couldRule_2 := dk_seg dksX0_couldRule_1 24 rfl rfl
theorem dksX0_couldRule_3 : cX0_couldRule.data.toList.drop 70 = dktX0_couldRule_3 := dk_seg dksX0_couldRule_2 24 rfl rfl
theorem dX0_couldRule_0 : decode cX0_couldRule 0 = .ok (.aload_n 0, 1) := dk_42 (dk_at dksX0_couldRule_0 0 rfl rfl)
theorem dX0_couldRule_1 : decode cX0_couldRule 1 = .ok (.getfield 35, 3) := dk_180 0 35 (dk_at dksX0_couldRule_0 1 rfl rfl)
theorem dX0_couldRule_4 : decode cX0_couldRule 4 = .ok (.istore_n 2, 1) := dk_61 (dk_at dksX0_couldRule_0 4 rfl rfl)
theorem dX0_couldRule_5 : decode cX0_couldRule 5 = .ok (.aload_n 0, 1) := dk_42 (dk_at dksX0_couldRule_0 5 rfl rfl)
theorem dX0_couldRule_6 : decode cX0_couldRule 6 = .ok (.iload_n 1, 1) := dk_27 (dk_at dksX0_couldRule_0 6 rfl rfl)
theorem dX0_couldRule_7 : decode cX0_couldRule 7 = .ok (.putfield 35, 3) := dk_181 0 35 (dk_at dksX0_couldRule_0 7 rfl rfl)
theorem dX0_couldRule_10 : decode cX0_couldRule 10 = .ok (.aload_n 0, 1) := dk_42 (dk_at dksX0_couldRule_0 10 rfl rfl)
theorem dX0_couldRule_11 : decode cX0_couldRule 11 = .ok (.getfield 23, 3) := dk_180 0 23 (dk_at dksX0_couldRule_0 11 rfl rfl)
theorem dX0_couldRule_14 : decode cX0_couldRule 14 = .ok (.aload_n 0, 1) := dk_42 (dk_at dksX0_couldRule_0 14 rfl rfl)
theorem dX0_couldRule_15 : decode cX0_couldRule 15 = .ok (.getfield 10, 3) := dk_180 0 10 (dk_at dksX0_couldRule_0 15 rfl rfl)
theorem dX0_couldRule_18 : decode cX0_couldRule 18 = .ok (.invokevirtual 131, 3) := dk_182 0 131 (dk_at dksX0_couldRule_0 18 rfl rfl)
theorem dX0_couldRule_21 : decode cX0_couldRule 21 = .ok (.aload_n 0, 1) := dk_42 (dk_at dksX0_couldRule_0 21 rfl rfl)
theorem dX0_couldRule_22 : decode cX0_couldRule 22 = .ok (.invokevirtual 291, 3) := dk_182 1 35 (dk_at dksX0_couldRule_1 0 rfl rfl)
theorem dX0_couldRule_25 : decode cX0_couldRule 25 = .ok (.aload_n 0, 1) := dk_42 (dk_at dksX0_couldRule_1 3 rfl rfl)
theorem dX0_couldRule_26 : decode cX0_couldRule 26 = .ok (.iload_n 2, 1) := dk_28 (dk_at dksX0_couldRule_1 4 rfl rfl)
theorem dX0_couldRule_27 : decode cX0_couldRule 27 = .ok (.putfield 35, 3) := dk_181 0 35 (dk_at dksX0_couldRule_1 5 rfl rfl)
theorem dX0_couldRule_30 : decode cX0_couldRule 30 = .ok (.iconst 0, 1) := dk_3 (dk_at dksX0_couldRule_1 8 rfl rfl)
theorem dX0_couldRule_31 : decode cX0_couldRule 31 = .ok (.istore_n 3, 1) := dk_62 (dk_at dksX0_couldRule_1 9 rfl rfl)
theorem dX0_couldRule_32 : decode cX0_couldRule 32 = .ok (.iload_n 3, 1) := dk_29 (dk_at dksX0_couldRule_1 10 rfl rfl)
theorem dX0_couldRule_33 : decode cX0_couldRule 33 = .ok (.aload_n 0, 1) := dk_42 (dk_at dksX0_couldRule_1 11 rfl rfl)
theorem dX0_couldRule_34 : decode cX0_couldRule 34 = .ok (.getfield 135, 3) := dk_180 0 135 (dk_at dksX0_couldRule_1 12 rfl rfl)
theorem dX0_couldRule_37 : decode cX0_couldRule 37 = .ok (.if_icmp .ge 41, 3) := dk_162 0 41 (dk_at dksX0_couldRule_1 15 rfl rfl)
theorem dX0_couldRule_40 : decode cX0_couldRule 40 = .ok (.aload_n 0, 1) := dk_42 (dk_at dksX0_couldRule_1 18 rfl rfl)
theorem dX0_couldRule_41 : decode cX0_couldRule 41 = .ok (.getfield 82, 3) := dk_180 0 82 (dk_at dksX0_couldRule_1 19 rfl rfl)
theorem dX0_couldRule_44 : decode cX0_couldRule 44 = .ok (.bipush 8, 2) := dk_16 8 (dk_at dksX0_couldRule_1 22 rfl rfl)
theorem dX0_couldRule_46 : decode cX0_couldRule 46 = .ok (.aload_n 0, 1) := dk_42 (dk_at dksX0_couldRule_2 0 rfl rfl)
theorem dX0_couldRule_47 : decode cX0_couldRule 47 = .ok (.getfield 50, 3) := dk_180 0 50 (dk_at dksX0_couldRule_2 1 rfl rfl)
theorem dX0_couldRule_50 : decode cX0_couldRule 50 = .ok (.iload_n 3, 1) := dk_29 (dk_at dksX0_couldRule_2 4 rfl rfl)
theorem dX0_couldRule_51 : decode cX0_couldRule 51 = .ok (.iaload, 1) := dk_46 (dk_at dksX0_couldRule_2 5 rfl rfl)
theorem dX0_couldRule_52 : decode cX0_couldRule 52 = .ok (.imul, 1) := dk_104 (dk_at dksX0_couldRule_2 6 rfl rfl)
theorem dX0_couldRule_53 : decode cX0_couldRule 53 = .ok (.aload_n 0, 1) := dk_42 (dk_at dksX0_couldRule_2 7 rfl rfl)
theorem dX0_couldRule_54 : decode cX0_couldRule 54 = .ok (.getfield 54, 3) := dk_180 0 54 (dk_at dksX0_couldRule_2 8 rfl rfl)
theorem dX0_couldRule_57 : decode cX0_couldRule 57 = .ok (.iload_n 3, 1) := dk_29 (dk_at dksX0_couldRule_2 11 rfl rfl)
theorem dX0_couldRule_58 : decode cX0_couldRule 58 = .ok (.iaload, 1) := dk_46 (dk_at dksX0_couldRule_2 12 rfl rfl)
theorem dX0_couldRule_59 : decode cX0_couldRule 59 = .ok (.iadd, 1) := dk_96 (dk_at dksX0_couldRule_2 13 rfl rfl)
theorem dX0_couldRule_60 : decode cX0_couldRule 60 = .ok (.iaload, 1) := dk_46 (dk_at dksX0_couldRule_2 14 rfl rfl)
theorem dX0_couldRule_61 : decode cX0_couldRule 61 = .ok (.aload_n 0, 1) := dk_42 (dk_at dksX0_couldRule_2 15 rfl rfl)
theorem dX0_couldRule_62 : decode cX0_couldRule 62 = .ok (.getfield 57, 3) := dk_180 0 57 (dk_at dksX0_couldRule_2 16 rfl rfl)
theorem dX0_couldRule_65 : decode cX0_couldRule 65 = .ok (.iload_n 3, 1) := dk_29 (dk_at dksX0_couldRule_2 19 rfl rfl)
theorem dX0_couldRule_66 : decode cX0_couldRule 66 = .ok (.iaload, 1) := dk_46 (dk_at dksX0_couldRule_2 20 rfl rfl)
theorem dX0_couldRule_67 : decode cX0_couldRule 67 = .ok (.if_icmp .eq 5, 3) := dk_159 0 5 (dk_at dksX0_couldRule_2 21 rfl rfl)
theorem dX0_couldRule_70 : decode cX0_couldRule 70 = .ok (.iconst 0, 1) := dk_3 (dk_at dksX0_couldRule_3 0 rfl rfl)
theorem dX0_couldRule_71 : decode cX0_couldRule 71 = .ok (.ireturn, 1) := dk_172 (dk_at dksX0_couldRule_3 1 rfl rfl)
theorem dX0_couldRule_72 : decode cX0_couldRule 72 = .ok (.iinc 3 1, 3) := dk_132 3 1 (dk_at dksX0_couldRule_3 2 rfl rfl)
theorem dX0_couldRule_75 : decode cX0_couldRule 75 = .ok (.goto (-43), 3) := dk_167 255 213 (dk_at dksX0_couldRule_3 5 rfl rfl)
theorem dX0_couldRule_78 : decode cX0_couldRule 78 = .ok (.iconst 1, 1) := dk_4 (dk_at dksX0_couldRule_3 8 rfl rfl)
theorem dX0_couldRule_79 : decode cX0_couldRule 79 = .ok (.ireturn, 1) := dk_172 (dk_at dksX0_couldRule_3 9 rfl rfl)
abbrev cX0_look : ByteArray := prog_1_method_58_code
def yX0_look : MethodName := ⟨RX0, "look", "(II)I"⟩
def dkwX0_look_8 : List UInt8 := [182, 1, 90, 172]
abbrev dktX0_look_8 : List UInt8 := dkwX0_look_8 ++ []
def dkwX0_look_7 : List UInt8 := [21, 5, 54, 4, 132, 5, 1, 167, 255, 220, 28, 154, 0, 8, 21, 4, 167, 0, 10, 42, 21, 4, 29]
abbrev dktX0_look_7 : List UInt8 := dkwX0_look_7 ++ dktX0_look_8
def dkwX0_look_6 : List UInt8 := [182, 0, 103, 162, 0, 30, 42, 21, 5, 29, 182, 1, 90, 42, 21, 4, 29, 182, 1, 90, 162, 0, 7]
abbrev dktX0_look_6 : List UInt8 := dkwX0_look_6 ++ dktX0_look_7
def dkwX0_look_5 : List UInt8 := [180, 0, 10, 182, 0, 103, 154, 0, 6, 16, 254, 172, 3, 54, 4, 4, 54, 5, 21, 5, 42, 180, 0, 10]
abbrev dktX0_look_5 : List UInt8 := dkwX0_look_5 ++ dktX0_look_6
def dkwX0_look_4 : List UInt8 := [96, 46, 79, 132, 5, 1, 167, 255, 222, 132, 3, 1, 132, 4, 1, 167, 255, 186, 29, 153, 0, 13, 42]
abbrev dktX0_look_4 : List UInt8 := dkwX0_look_4 ++ dktX0_look_5
def dkwX0_look_3 : List UInt8 := [162, 0, 33, 42, 180, 0, 91, 16, 8, 29, 104, 21, 5, 96, 42, 180, 0, 82, 16, 8, 27, 104, 21, 5]
abbrev dktX0_look_3 : List UInt8 := dkwX0_look_3 ++ dktX0_look_4
def dkwX0_look_2 : List UInt8 := [162, 0, 64, 42, 21, 4, 182, 1, 87, 154, 0, 6, 167, 0, 46, 3, 54, 5, 21, 5, 16, 8]
abbrev dktX0_look_2 : List UInt8 := dkwX0_look_2 ++ dktX0_look_3
def dkwX0_look_1 : List UInt8 := [184, 0, 107, 154, 0, 5, 2, 172, 3, 62, 2, 54, 4, 21, 4, 42, 180, 0, 31, 182, 0, 141]
abbrev dktX0_look_1 : List UInt8 := dkwX0_look_1 ++ dktX0_look_2
def dkwX0_look_0 : List UInt8 := [42, 182, 1, 12, 153, 0, 25, 27, 133, 9, 20, 1, 33, 184, 0, 107, 153, 0, 13, 28, 133, 9, 10]
abbrev dktX0_look_0 : List UInt8 := dkwX0_look_0 ++ dktX0_look_1
theorem dksX0_look_0 : cX0_look.data.toList.drop 0 = dktX0_look_0 := by decide +kernel
theorem dksX0_look_1 : cX0_look.data.toList.drop 23 = dktX0_look_1 := dk_seg dksX0_look_0 23 rfl rfl
theorem dksX0_look_2 : cX0_look.data.toList.drop 45 = dktX0_look_2 := dk_seg dksX0_look_1 22 rfl rfl
theorem dksX0_look_3 : cX0_look.data.toList.drop 67 = dktX0_look_3 := dk_seg dksX0_look_2 22 rfl rfl
theorem dksX0_look_4 : cX0_look.data.toList.drop 91 = dktX0_look_4 := dk_seg dksX0_look_3 24 rfl rfl
theorem dksX0_look_5 : cX0_look.data.toList.drop 114 = dktX0_look_5 := dk_seg dksX0_look_4 23 rfl rfl
theorem dksX0_look_6 : cX0_look.data.toList.drop 138 = dktX0_look_6 := dk_seg dksX0_look_5 24 rfl rfl
theorem dksX0_look_7 : cX0_look.data.toList.drop 161 = dktX0_look_7 := dk_seg dksX0_look_6 23 rfl rfl
theorem dksX0_look_8 : cX0_look.data.toList.drop 184 = dktX0_look_8 := dk_seg dksX0_look_7 23 rfl rfl
theorem dX0_look_0 : decode cX0_look 0 = .ok (.aload_n 0, 1) := dk_42 (dk_at dksX0_look_0 0 rfl rfl)
theorem dX0_look_1 : decode cX0_look 1 = .ok (.invokevirtual 268, 3) := dk_182 1 12 (dk_at dksX0_look_0 1 rfl rfl)
theorem dX0_look_4 : decode cX0_look 4 = .ok (.ifCond .eq 25, 3) := dk_153 0 25 (dk_at dksX0_look_0 4 rfl rfl)
theorem dX0_look_7 : decode cX0_look 7 = .ok (.iload_n 1, 1) := dk_27 (dk_at dksX0_look_0 7 rfl rfl)
theorem dX0_look_8 : decode cX0_look 8 = .ok (.i2l, 1) := dk_133 (dk_at dksX0_look_0 8 rfl rfl)
theorem dX0_look_9 : decode cX0_look 9 = .ok (.lconst 0, 1) := dk_9 (dk_at dksX0_look_0 9 rfl rfl)
theorem dX0_look_10 : decode cX0_look 10 = .ok (.ldc2_w 289, 3) := dk_20 1 33 (dk_at dksX0_look_0 10 rfl rfl)
theorem dX0_look_13 : decode cX0_look 13 = .ok (.invokestatic 107, 3) := dk_184 0 107 (dk_at dksX0_look_0 13 rfl rfl)
theorem dX0_look_16 : decode cX0_look 16 = .ok (.ifCond .eq 13, 3) := dk_153 0 13 (dk_at dksX0_look_0 16 rfl rfl)
theorem dX0_look_19 : decode cX0_look 19 = .ok (.iload_n 2, 1) := dk_28 (dk_at dksX0_look_0 19 rfl rfl)
theorem dX0_look_20 : decode cX0_look 20 = .ok (.i2l, 1) := dk_133 (dk_at dksX0_look_0 20 rfl rfl)
theorem dX0_look_21 : decode cX0_look 21 = .ok (.lconst 0, 1) := dk_9 (dk_at dksX0_look_0 21 rfl rfl)
theorem dX0_look_22 : decode cX0_look 22 = .ok (.lconst 1, 1) := dk_10 (dk_at dksX0_look_0 22 rfl rfl)
theorem dX0_look_23 : decode cX0_look 23 = .ok (.invokestatic 107, 3) := dk_184 0 107 (dk_at dksX0_look_1 0 rfl rfl)
theorem dX0_look_26 : decode cX0_look 26 = .ok (.ifCond .ne 5, 3) := dk_154 0 5 (dk_at dksX0_look_1 3 rfl rfl)
theorem dX0_look_29 : decode cX0_look 29 = .ok (.iconst (-1), 1) := dk_2 (dk_at dksX0_look_1 6 rfl rfl)
theorem dX0_look_30 : decode cX0_look 30 = .ok (.ireturn, 1) := dk_172 (dk_at dksX0_look_1 7 rfl rfl)
theorem dX0_look_31 : decode cX0_look 31 = .ok (.iconst 0, 1) := dk_3 (dk_at dksX0_look_1 8 rfl rfl)
theorem dX0_look_32 : decode cX0_look 32 = .ok (.istore_n 3, 1) := dk_62 (dk_at dksX0_look_1 9 rfl rfl)
theorem dX0_look_33 : decode cX0_look 33 = .ok (.iconst (-1), 1) := dk_2 (dk_at dksX0_look_1 10 rfl rfl)
theorem dX0_look_34 : decode cX0_look 34 = .ok (.istore 4, 2) := dk_54 4 (dk_at dksX0_look_1 11 rfl rfl)
theorem dX0_look_36 : decode cX0_look 36 = .ok (.iload 4, 2) := dk_21 4 (dk_at dksX0_look_1 13 rfl rfl)
theorem dX0_look_38 : decode cX0_look 38 = .ok (.aload_n 0, 1) := dk_42 (dk_at dksX0_look_1 15 rfl rfl)
theorem dX0_look_39 : decode cX0_look 39 = .ok (.getfield 31, 3) := dk_180 0 31 (dk_at dksX0_look_1 16 rfl rfl)
theorem dX0_look_42 : decode cX0_look 42 = .ok (.invokevirtual 141, 3) := dk_182 0 141 (dk_at dksX0_look_1 19 rfl rfl)
theorem dX0_look_45 : decode cX0_look 45 = .ok (.if_icmp .ge 64, 3) := dk_162 0 64 (dk_at dksX0_look_2 0 rfl rfl)
theorem dX0_look_48 : decode cX0_look 48 = .ok (.aload_n 0, 1) := dk_42 (dk_at dksX0_look_2 3 rfl rfl)
theorem dX0_look_49 : decode cX0_look 49 = .ok (.iload 4, 2) := dk_21 4 (dk_at dksX0_look_2 4 rfl rfl)
theorem dX0_look_51 : decode cX0_look 51 = .ok (.invokevirtual 343, 3) := dk_182 1 87 (dk_at dksX0_look_2 6 rfl rfl)
theorem dX0_look_54 : decode cX0_look 54 = .ok (.ifCond .ne 6, 3) := dk_154 0 6 (dk_at dksX0_look_2 9 rfl rfl)
theorem dX0_look_57 : decode cX0_look 57 = .ok (.goto 46, 3) := dk_167 0 46 (dk_at dksX0_look_2 12 rfl rfl)
theorem dX0_look_60 : decode cX0_look 60 = .ok (.iconst 0, 1) := dk_3 (dk_at dksX0_look_2 15 rfl rfl)
theorem dX0_look_61 : decode cX0_look 61 = .ok (.istore 5, 2) := dk_54 5 (dk_at dksX0_look_2 16 rfl rfl)
theorem dX0_look_63 : decode cX0_look 63 = .ok (.iload 5, 2) := dk_21 5 (dk_at dksX0_look_2 18 rfl rfl)
theorem dX0_look_65 : decode cX0_look 65 = .ok (.bipush 8, 2) := dk_16 8 (dk_at dksX0_look_2 20 rfl rfl)
theorem dX0_look_67 : decode cX0_look 67 = .ok (.if_icmp .ge 33, 3) := dk_162 0 33 (dk_at dksX0_look_3 0 rfl rfl)
theorem dX0_look_70 : decode cX0_look 70 = .ok (.aload_n 0, 1) := dk_42 (dk_at dksX0_look_3 3 rfl rfl)
theorem dX0_look_71 : decode cX0_look 71 = .ok (.getfield 91, 3) := dk_180 0 91 (dk_at dksX0_look_3 4 rfl rfl)
theorem dX0_look_74 : decode cX0_look 74 = .ok (.bipush 8, 2) := dk_16 8 (dk_at dksX0_look_3 7 rfl rfl)
theorem dX0_look_76 : decode cX0_look 76 = .ok (.iload_n 3, 1) := dk_29 (dk_at dksX0_look_3 9 rfl rfl)
theorem dX0_look_77 : decode cX0_look 77 = .ok (.imul, 1) := dk_104 (dk_at dksX0_look_3 10 rfl rfl)
theorem dX0_look_78 : decode cX0_look 78 = .ok (.iload 5, 2) := dk_21 5 (dk_at dksX0_look_3 11 rfl rfl)
theorem dX0_look_80 : decode cX0_look 80 = .ok (.iadd, 1) := dk_96 (dk_at dksX0_look_3 13 rfl rfl)
theorem dX0_look_81 : decode cX0_look 81 = .ok (.aload_n 0, 1) := dk_42 (dk_at dksX0_look_3 14 rfl rfl)
theorem dX0_look_82 : decode cX0_look 82 = .ok (.getfield 82, 3) := dk_180 0 82 (dk_at dksX0_look_3 15 rfl rfl)
theorem dX0_look_85 : decode cX0_look 85 = .ok (.bipush 8, 2) := dk_16 8 (dk_at dksX0_look_3 18 rfl rfl)
theorem dX0_look_87 : decode cX0_look 87 = .ok (.iload_n 1, 1) := dk_27 (dk_at dksX0_look_3 20 rfl rfl)
theorem dX0_look_88 : decode cX0_look 88 = .ok (.imul, 1) := dk_104 (dk_at dksX0_look_3 21 rfl rfl)
theorem dX0_look_89 : decode cX0_look 89 = .ok (.iload 5, 2) := dk_21 5 (dk_at dksX0_look_3 22 rfl rfl)
theorem dX0_look_91 : decode cX0_look 91 = .ok (.iadd, 1) := dk_96 (dk_at dksX0_look_4 0 rfl rfl)
theorem dX0_look_92 : decode cX0_look 92 = .ok (.iaload, 1) := dk_46 (dk_at dksX0_look_4 1 rfl rfl)
theorem dX0_look_93 : decode cX0_look 93 = .ok (.iastore, 1) := dk_79 (dk_at dksX0_look_4 2 rfl rfl)
theorem dX0_look_94 : decode cX0_look 94 = .ok (.iinc 5 1, 3) := dk_132 5 1 (dk_at dksX0_look_4 3 rfl rfl)
theorem dX0_look_97 : decode cX0_look 97 = .ok (.goto (-34), 3) := dk_167 255 222 (dk_at dksX0_look_4 6 rfl rfl)
theorem dX0_look_100 : decode cX0_look 100 = .ok (.iinc 3 1, 3) := dk_132 3 1 (dk_at dksX0_look_4 9 rfl rfl)
theorem dX0_look_103 : decode cX0_look 103 = .ok (.iinc 4 1, 3) := dk_132 4 1 (dk_at dksX0_look_4 12 rfl rfl)
theorem dX0_look_106 : decode cX0_look 106 = .ok (.goto (-70), 3) := dk_167 255 186 (dk_at dksX0_look_4 15 rfl rfl)
theorem dX0_look_109 : decode cX0_look 109 = .ok (.iload_n 3, 1) := dk_29 (dk_at dksX0_look_4 18 rfl rfl)
theorem dX0_look_110 : decode cX0_look 110 = .ok (.ifCond .eq 13, 3) := dk_153 0 13 (dk_at dksX0_look_4 19 rfl rfl)
theorem dX0_look_113 : decode cX0_look 113 = .ok (.aload_n 0, 1) := dk_42 (dk_at dksX0_look_4 22 rfl rfl)
theorem dX0_look_114 : decode cX0_look 114 = .ok (.getfield 10, 3) := dk_180 0 10 (dk_at dksX0_look_5 0 rfl rfl)
theorem dX0_look_117 : decode cX0_look 117 = .ok (.invokevirtual 103, 3) := dk_182 0 103 (dk_at dksX0_look_5 3 rfl rfl)
theorem dX0_look_120 : decode cX0_look 120 = .ok (.ifCond .ne 6, 3) := dk_154 0 6 (dk_at dksX0_look_5 6 rfl rfl)
theorem dX0_look_123 : decode cX0_look 123 = .ok (.bipush (-2), 2) := dk_16 254 (dk_at dksX0_look_5 9 rfl rfl)
theorem dX0_look_125 : decode cX0_look 125 = .ok (.ireturn, 1) := dk_172 (dk_at dksX0_look_5 11 rfl rfl)
theorem dX0_look_126 : decode cX0_look 126 = .ok (.iconst 0, 1) := dk_3 (dk_at dksX0_look_5 12 rfl rfl)
theorem dX0_look_127 : decode cX0_look 127 = .ok (.istore 4, 2) := dk_54 4 (dk_at dksX0_look_5 13 rfl rfl)
theorem dX0_look_129 : decode cX0_look 129 = .ok (.iconst 1, 1) := dk_4 (dk_at dksX0_look_5 15 rfl rfl)
theorem dX0_look_130 : decode cX0_look 130 = .ok (.istore 5, 2) := dk_54 5 (dk_at dksX0_look_5 16 rfl rfl)
theorem dX0_look_132 : decode cX0_look 132 = .ok (.iload 5, 2) := dk_21 5 (dk_at dksX0_look_5 18 rfl rfl)
theorem dX0_look_134 : decode cX0_look 134 = .ok (.aload_n 0, 1) := dk_42 (dk_at dksX0_look_5 20 rfl rfl)
theorem dX0_look_135 : decode cX0_look 135 = .ok (.getfield 10, 3) := dk_180 0 10 (dk_at dksX0_look_5 21 rfl rfl)
theorem dX0_look_138 : decode cX0_look 138 = .ok (.invokevirtual 103, 3) := dk_182 0 103 (dk_at dksX0_look_6 0 rfl rfl)
theorem dX0_look_141 : decode cX0_look 141 = .ok (.if_icmp .ge 30, 3) := dk_162 0 30 (dk_at dksX0_look_6 3 rfl rfl)
theorem dX0_look_144 : decode cX0_look 144 = .ok (.aload_n 0, 1) := dk_42 (dk_at dksX0_look_6 6 rfl rfl)
theorem dX0_look_145 : decode cX0_look 145 = .ok (.iload 5, 2) := dk_21 5 (dk_at dksX0_look_6 7 rfl rfl)
theorem dX0_look_147 : decode cX0_look 147 = .ok (.iload_n 3, 1) := dk_29 (dk_at dksX0_look_6 9 rfl rfl)
theorem dX0_look_148 : decode cX0_look 148 = .ok (.invokevirtual 346, 3) := dk_182 1 90 (dk_at dksX0_look_6 10 rfl rfl)
theorem dX0_look_151 : decode cX0_look 151 = .ok (.aload_n 0, 1) := dk_42 (dk_at dksX0_look_6 13 rfl rfl)
theorem dX0_look_152 : decode cX0_look 152 = .ok (.iload 4, 2) := dk_21 4 (dk_at dksX0_look_6 14 rfl rfl)
theorem dX0_look_154 : decode cX0_look 154 = .ok (.iload_n 3, 1) := dk_29 (dk_at dksX0_look_6 16 rfl rfl)
theorem dX0_look_155 : decode cX0_look 155 = .ok (.invokevirtual 346, 3) := dk_182 1 90 (dk_at dksX0_look_6 17 rfl rfl)
theorem dX0_look_158 : decode cX0_look 158 = .ok (.if_icmp .ge 7, 3) := dk_162 0 7 (dk_at dksX0_look_6 20 rfl rfl)
theorem dX0_look_161 : decode cX0_look 161 = .ok (.iload 5, 2) := dk_21 5 (dk_at dksX0_look_7 0 rfl rfl)
theorem dX0_look_163 : decode cX0_look 163 = .ok (.istore 4, 2) := dk_54 4 (dk_at dksX0_look_7 2 rfl rfl)
theorem dX0_look_165 : decode cX0_look 165 = .ok (.iinc 5 1, 3) := dk_132 5 1 (dk_at dksX0_look_7 4 rfl rfl)
theorem dX0_look_168 : decode cX0_look 168 = .ok (.goto (-36), 3) := dk_167 255 220 (dk_at dksX0_look_7 7 rfl rfl)
theorem dX0_look_171 : decode cX0_look 171 = .ok (.iload_n 2, 1) := dk_28 (dk_at dksX0_look_7 10 rfl rfl)
theorem dX0_look_172 : decode cX0_look 172 = .ok (.ifCond .ne 8, 3) := dk_154 0 8 (dk_at dksX0_look_7 11 rfl rfl)
theorem dX0_look_175 : decode cX0_look 175 = .ok (.iload 4, 2) := dk_21 4 (dk_at dksX0_look_7 14 rfl rfl)
theorem dX0_look_177 : decode cX0_look 177 = .ok (.goto 10, 3) := dk_167 0 10 (dk_at dksX0_look_7 16 rfl rfl)
theorem dX0_look_180 : decode cX0_look 180 = .ok (.aload_n 0, 1) := dk_42 (dk_at dksX0_look_7 19 rfl rfl)
theorem dX0_look_181 : decode cX0_look 181 = .ok (.iload 4, 2) := dk_21 4 (dk_at dksX0_look_7 20 rfl rfl)
theorem dX0_look_183 : decode cX0_look 183 = .ok (.iload_n 3, 1) := dk_29 (dk_at dksX0_look_7 22 rfl rfl)
theorem dX0_look_184 : decode cX0_look 184 = .ok (.invokevirtual 346, 3) := dk_182 1 90 (dk_at dksX0_look_8 0 rfl rfl)
theorem dX0_look_187 : decode cX0_look 187 = .ok (.ireturn, 1) := dk_172 (dk_at dksX0_look_8 3 rfl rfl)
abbrev cX0_mostAlike : ByteArray := prog_1_method_57_code
def yX0_mostAlike : MethodName := ⟨RX0, "mostAlike", "(II)I"⟩
def dkwX0_mostAlike_3 : List UInt8 := [21, 5, 184, 1, 67, 62, 132, 4, 1, 167, 255, 182, 29, 172]
abbrev dktX0_mostAlike_3 : List UInt8 := dkwX0_mostAlike_3 ++ []
def dkwX0_mostAlike_2 : List UInt8 := [96, 46, 160, 0, 7, 4, 167, 0, 4, 3, 184, 0, 159, 96, 54, 5, 132, 6, 1, 167, 255, 207, 29]
abbrev dktX0_mostAlike_2 : List UInt8 := dkwX0_mostAlike_2 ++ dktX0_mostAlike_3
def dkwX0_mostAlike_1 : List UInt8 := [21, 5, 42, 180, 0, 91, 16, 8, 21, 6, 104, 27, 96, 46, 42, 180, 0, 91, 16, 8, 21, 4, 104, 27]
abbrev dktX0_mostAlike_1 : List UInt8 := dkwX0_mostAlike_1 ++ dktX0_mostAlike_2
def dkwX0_mostAlike_0 : List UInt8 := [3, 62, 3, 54, 4, 21, 4, 28, 162, 0, 74, 3, 54, 5, 3, 54, 6, 21, 6, 28, 162, 0, 49]
abbrev dktX0_mostAlike_0 : List UInt8 := dkwX0_mostAlike_0 ++ dktX0_mostAlike_1
theorem dksX0_mostAlike_0 : cX0_mostAlike.data.toList.drop 0 = dktX0_mostAlike_0 := by decide +kernel
theorem dksX0_mostAlike_1 : cX0_mostAlike.data.toList.drop 23 = dktX0_mostAlike_1 := dk_seg dksX0_mostAlike_0 23 rfl rfl
theorem dksX0_mostAlike_2 : cX0_mostAlike.data.toList.drop 47 = dktX0_mostAlike_2 := dk_seg dksX0_mostAlike_1 24 rfl rfl
theorem dksX0_mostAlike_3 : cX0_mostAlike.data.toList.drop 70 = dktX0_mostAlike_3 := dk_seg dksX0_mostAlike_2 23 rfl rfl
theorem dX0_mostAlike_0 : decode cX0_mostAlike 0 = .ok (.iconst 0, 1) := dk_3 (dk_at dksX0_mostAlike_0 0 rfl rfl)
theorem dX0_mostAlike_1 : decode cX0_mostAlike 1 = .ok (.istore_n 3, 1) := dk_62 (dk_at dksX0_mostAlike_0 1 rfl rfl)
theorem dX0_mostAlike_2 : decode cX0_mostAlike 2 = .ok (.iconst 0, 1) := dk_3 (dk_at dksX0_mostAlike_0 2 rfl rfl)
theorem dX0_mostAlike_3 : decode cX0_mostAlike 3 = .ok (.istore 4, 2) := dk_54 4 (dk_at dksX0_mostAlike_0 3 rfl rfl)
theorem dX0_mostAlike_5 : decode cX0_mostAlike 5 = .ok (.iload 4, 2) := dk_21 4 (dk_at dksX0_mostAlike_0 5 rfl rfl)
theorem dX0_mostAlike_7 : decode cX0_mostAlike 7 = .ok (.iload_n 2, 1) := dk_28 (dk_at dksX0_mostAlike_0 7 rfl rfl)
theorem dX0_mostAlike_8 : decode cX0_mostAlike 8 = .ok (.if_icmp .ge 74, 3) := dk_162 0 74 (dk_at dksX0_mostAlike_0 8 rfl rfl)
theorem dX0_mostAlike_11 : decode cX0_mostAlike 11 = .ok (.iconst 0, 1) := dk_3 (dk_at dksX0_mostAlike_0 11 rfl rfl)
theorem dX0_mostAlike_12 : decode cX0_mostAlike 12 = .ok (.istore 5, 2) := dk_54 5 (dk_at dksX0_mostAlike_0 12 rfl rfl)
theorem dX0_mostAlike_14 : decode cX0_mostAlike 14 = .ok (.iconst 0, 1) := dk_3 (dk_at dksX0_mostAlike_0 14 rfl rfl)
theorem dX0_mostAlike_15 : decode cX0_mostAlike 15 = .ok (.istore 6, 2) := dk_54 6 (dk_at dksX0_mostAlike_0 15 rfl rfl)
theorem dX0_mostAlike_17 : decode cX0_mostAlike 17 = .ok (.iload 6, 2) := dk_21 6 (dk_at dksX0_mostAlike_0 17 rfl rfl)
theorem dX0_mostAlike_19 : decode cX0_mostAlike 19 = .ok (.iload_n 2, 1) := dk_28 (dk_at dksX0_mostAlike_0 19 rfl rfl)
theorem dX0_mostAlike_20 : decode cX0_mostAlike 20 = .ok (.if_icmp .ge 49, 3) := dk_162 0 49 (dk_at dksX0_mostAlike_0 20 rfl rfl)
theorem dX0_mostAlike_23 : decode cX0_mostAlike 23 = .ok (.iload 5, 2) := dk_21 5 (dk_at dksX0_mostAlike_1 0 rfl rfl)
theorem dX0_mostAlike_25 : decode cX0_mostAlike 25 = .ok (.aload_n 0, 1) := dk_42 (dk_at dksX0_mostAlike_1 2 rfl rfl)
theorem dX0_mostAlike_26 : decode cX0_mostAlike 26 = .ok (.getfield 91, 3) := dk_180 0 91 (dk_at dksX0_mostAlike_1 3 rfl rfl)
theorem dX0_mostAlike_29 : decode cX0_mostAlike 29 = .ok (.bipush 8, 2) := dk_16 8 (dk_at dksX0_mostAlike_1 6 rfl rfl)
theorem dX0_mostAlike_31 : decode cX0_mostAlike 31 = .ok (.iload 6, 2) := dk_21 6 (dk_at dksX0_mostAlike_1 8 rfl rfl)
theorem dX0_mostAlike_33 : decode cX0_mostAlike 33 = .ok (.imul, 1) := dk_104 (dk_at dksX0_mostAlike_1 10 rfl rfl)
theorem dX0_mostAlike_34 : decode cX0_mostAlike 34 = .ok (.iload_n 1, 1) := dk_27 (dk_at dksX0_mostAlike_1 11 rfl rfl)
theorem dX0_mostAlike_35 : decode cX0_mostAlike 35 = .ok (.iadd, 1) := dk_96 (dk_at dksX0_mostAlike_1 12 rfl rfl)
theorem dX0_mostAlike_36 : decode cX0_mostAlike 36 = .ok (.iaload, 1) := dk_46 (dk_at dksX0_mostAlike_1 13 rfl rfl)
theorem dX0_mostAlike_37 : decode cX0_mostAlike 37 = .ok (.aload_n 0, 1) := dk_42 (dk_at dksX0_mostAlike_1 14 rfl rfl)
theorem dX0_mostAlike_38 : decode cX0_mostAlike 38 = .ok (.getfield 91, 3) := dk_180 0 91 (dk_at dksX0_mostAlike_1 15 rfl rfl)
theorem dX0_mostAlike_41 : decode cX0_mostAlike 41 = .ok (.bipush 8, 2) := dk_16 8 (dk_at dksX0_mostAlike_1 18 rfl rfl)
theorem dX0_mostAlike_43 : decode cX0_mostAlike 43 = .ok (.iload 4, 2) := dk_21 4 (dk_at dksX0_mostAlike_1 20 rfl rfl)
theorem dX0_mostAlike_45 : decode cX0_mostAlike 45 = .ok (.imul, 1) := dk_104 (dk_at dksX0_mostAlike_1 22 rfl rfl)
theorem dX0_mostAlike_46 : decode cX0_mostAlike 46 = .ok (.iload_n 1, 1) := dk_27 (dk_at dksX0_mostAlike_1 23 rfl rfl)
theorem dX0_mostAlike_47 : decode cX0_mostAlike 47 = .ok (.iadd, 1) := dk_96 (dk_at dksX0_mostAlike_2 0 rfl rfl)
theorem dX0_mostAlike_48 : decode cX0_mostAlike 48 = .ok (.iaload, 1) := dk_46 (dk_at dksX0_mostAlike_2 1 rfl rfl)
theorem dX0_mostAlike_49 : decode cX0_mostAlike 49 = .ok (.if_icmp .ne 7, 3) := dk_160 0 7 (dk_at dksX0_mostAlike_2 2 rfl rfl)
theorem dX0_mostAlike_52 : decode cX0_mostAlike 52 = .ok (.iconst 1, 1) := dk_4 (dk_at dksX0_mostAlike_2 5 rfl rfl)
theorem dX0_mostAlike_53 : decode cX0_mostAlike 53 = .ok (.goto 4, 3) := dk_167 0 4 (dk_at dksX0_mostAlike_2 6 rfl rfl)
theorem dX0_mostAlike_56 : decode cX0_mostAlike 56 = .ok (.iconst 0, 1) := dk_3 (dk_at dksX0_mostAlike_2 9 rfl rfl)
theorem dX0_mostAlike_57 : decode cX0_mostAlike 57 = .ok (.invokestatic 159, 3) := dk_184 0 159 (dk_at dksX0_mostAlike_2 10 rfl rfl)
theorem dX0_mostAlike_60 : decode cX0_mostAlike 60 = .ok (.iadd, 1) := dk_96 (dk_at dksX0_mostAlike_2 13 rfl rfl)
theorem dX0_mostAlike_61 : decode cX0_mostAlike 61 = .ok (.istore 5, 2) := dk_54 5 (dk_at dksX0_mostAlike_2 14 rfl rfl)
theorem dX0_mostAlike_63 : decode cX0_mostAlike 63 = .ok (.iinc 6 1, 3) := dk_132 6 1 (dk_at dksX0_mostAlike_2 16 rfl rfl)
theorem dX0_mostAlike_66 : decode cX0_mostAlike 66 = .ok (.goto (-49), 3) := dk_167 255 207 (dk_at dksX0_mostAlike_2 19 rfl rfl)
theorem dX0_mostAlike_69 : decode cX0_mostAlike 69 = .ok (.iload_n 3, 1) := dk_29 (dk_at dksX0_mostAlike_2 22 rfl rfl)
theorem dX0_mostAlike_70 : decode cX0_mostAlike 70 = .ok (.iload 5, 2) := dk_21 5 (dk_at dksX0_mostAlike_3 0 rfl rfl)
theorem dX0_mostAlike_72 : decode cX0_mostAlike 72 = .ok (.invokestatic 323, 3) := dk_184 1 67 (dk_at dksX0_mostAlike_3 2 rfl rfl)
theorem dX0_mostAlike_75 : decode cX0_mostAlike 75 = .ok (.istore_n 3, 1) := dk_62 (dk_at dksX0_mostAlike_3 5 rfl rfl)
theorem dX0_mostAlike_76 : decode cX0_mostAlike 76 = .ok (.iinc 4 1, 3) := dk_132 4 1 (dk_at dksX0_mostAlike_3 6 rfl rfl)
theorem dX0_mostAlike_79 : decode cX0_mostAlike 79 = .ok (.goto (-74), 3) := dk_167 255 182 (dk_at dksX0_mostAlike_3 9 rfl rfl)
theorem dX0_mostAlike_82 : decode cX0_mostAlike 82 = .ok (.iload_n 3, 1) := dk_29 (dk_at dksX0_mostAlike_3 12 rfl rfl)
theorem dX0_mostAlike_83 : decode cX0_mostAlike 83 = .ok (.ireturn, 1) := dk_172 (dk_at dksX0_mostAlike_3 13 rfl rfl)
abbrev cX0_seed : ByteArray := prog_1_method_59_code
def yX0_seed : MethodName := ⟨RX0, "seed", "(I)I"⟩
def dkwX0_seed_0 : List UInt8 := [27, 156, 0, 5, 2, 172, 42, 180, 1, 93, 61, 42, 27, 181, 1, 93, 28, 172]
abbrev dktX0_seed_0 : List UInt8 := dkwX0_seed_0 ++ []
theorem dksX0_seed_0 : cX0_seed.data.toList.drop 0 = dktX0_seed_0 := by decide +kernel
theorem dX0_seed_0 : decode cX0_seed 0 = .ok (.iload_n 1, 1) := dk_27 (dk_at dksX0_seed_0 0 rfl rfl)
theorem dX0_seed_1 : decode cX0_seed 1 = .ok (.ifCond .ge 5, 3) := dk_156 0 5 (dk_at dksX0_seed_0 1 rfl rfl)
theorem dX0_seed_4 : decode cX0_seed 4 = .ok (.iconst (-1), 1) := dk_2 (dk_at dksX0_seed_0 4 rfl rfl)
theorem dX0_seed_5 : decode cX0_seed 5 = .ok (.ireturn, 1) := dk_172 (dk_at dksX0_seed_0 5 rfl rfl)
theorem dX0_seed_6 : decode cX0_seed 6 = .ok (.aload_n 0, 1) := dk_42 (dk_at dksX0_seed_0 6 rfl rfl)
theorem dX0_seed_7 : decode cX0_seed 7 = .ok (.getfield 349, 3) := dk_180 1 93 (dk_at dksX0_seed_0 7 rfl rfl)
theorem dX0_seed_10 : decode cX0_seed 10 = .ok (.istore_n 2, 1) := dk_61 (dk_at dksX0_seed_0 10 rfl rfl)
theorem dX0_seed_11 : decode cX0_seed 11 = .ok (.aload_n 0, 1) := dk_42 (dk_at dksX0_seed_0 11 rfl rfl)
theorem dX0_seed_12 : decode cX0_seed 12 = .ok (.iload_n 1, 1) := dk_27 (dk_at dksX0_seed_0 12 rfl rfl)
theorem dX0_seed_13 : decode cX0_seed 13 = .ok (.putfield 349, 3) := dk_181 1 93 (dk_at dksX0_seed_0 13 rfl rfl)
theorem dX0_seed_16 : decode cX0_seed 16 = .ok (.iload_n 2, 1) := dk_28 (dk_at dksX0_seed_0 16 rfl rfl)
theorem dX0_seed_17 : decode cX0_seed 17 = .ok (.ireturn, 1) := dk_172 (dk_at dksX0_seed_0 17 rfl rfl)
abbrev cX0_storms : ByteArray := prog_1_method_61_code
def yX0_storms : MethodName := ⟨RX0, "storms", "(IIII)I"⟩
def dkwX0_storms_9 : List UInt8 := [21, 7, 172]
abbrev dktX0_storms_9 : List UInt8 := dkwX0_storms_9 ++ []
def dkwX0_storms_8 : List UInt8 := [54, 7, 132, 8, 1, 167, 255, 136, 42, 21, 5, 181, 1, 93, 21, 4, 154, 0, 8, 21, 6, 167, 0, 5]
abbrev dktX0_storms_8 : List UInt8 := dkwX0_storms_8 ++ dktX0_storms_9
def dkwX0_storms_7 : List UInt8 := [182, 1, 25, 96, 54, 6, 21, 7, 42, 180, 0, 23, 42, 180, 0, 10, 182, 0, 215, 184, 0, 219, 96]
abbrev dktX0_storms_7 : List UInt8 := dkwX0_storms_7 ++ dktX0_storms_8
def dkwX0_storms_6 : List UInt8 := [182, 1, 21, 42, 42, 180, 0, 23, 182, 0, 252, 87, 132, 9, 1, 167, 255, 193, 21, 6, 42, 180, 0, 23]
abbrev dktX0_storms_6 : List UInt8 := dkwX0_storms_6 ++ dktX0_storms_7
def dkwX0_storms_5 : List UInt8 := [42, 180, 0, 23, 42, 42, 180, 0, 10, 182, 0, 103, 182, 1, 103, 42, 180, 0, 10, 180, 0, 100]
abbrev dktX0_storms_5 : List UInt8 := dkwX0_storms_5 ++ dktX0_storms_6
def dkwX0_storms_4 : List UInt8 := [28, 162, 0, 63, 42, 16, 100, 182, 1, 103, 29, 162, 0, 38, 42, 180, 0, 10, 182, 0, 103, 158, 0, 28]
abbrev dktX0_storms_4 : List UInt8 := dkwX0_storms_4 ++ dktX0_storms_5
def dkwX0_storms_3 : List UInt8 := [54, 8, 21, 8, 27, 162, 0, 120, 42, 180, 0, 23, 42, 180, 0, 19, 182, 1, 3, 3, 54, 9, 21, 9]
abbrev dktX0_storms_3 : List UInt8 := dkwX0_storms_3 ++ dktX0_storms_4
def dkwX0_storms_2 : List UInt8 := [9, 10, 184, 0, 107, 154, 0, 5, 2, 172, 42, 180, 1, 93, 54, 5, 3, 54, 6, 3, 54, 7, 3]
abbrev dktX0_storms_2 : List UInt8 := dkwX0_storms_2 ++ dktX0_storms_3
def dkwX0_storms_1 : List UInt8 := [20, 1, 33, 184, 0, 107, 153, 0, 26, 29, 133, 9, 20, 1, 28, 184, 0, 107, 153, 0, 14, 21, 4, 133]
abbrev dktX0_storms_1 : List UInt8 := dkwX0_storms_1 ++ dktX0_storms_2
def dkwX0_storms_0 : List UInt8 := [42, 182, 1, 12, 153, 0, 50, 27, 133, 10, 20, 1, 41, 184, 0, 107, 153, 0, 38, 28, 133, 10]
abbrev dktX0_storms_0 : List UInt8 := dkwX0_storms_0 ++ dktX0_storms_1
theorem dksX0_storms_0 : cX0_storms.data.toList.drop 0 = dktX0_storms_0 := by decide +kernel
theorem dksX0_storms_1 : cX0_storms.data.toList.drop 22 = dktX0_storms_1 := dk_seg dksX0_storms_0 22 rfl rfl
theorem dksX0_storms_2 : cX0_storms.data.toList.drop 46 = dktX0_storms_2 := dk_seg dksX0_storms_1 24 rfl rfl
theorem dksX0_storms_3 : cX0_storms.data.toList.drop 69 = dktX0_storms_3 := dk_seg dksX0_storms_2 23 rfl rfl
theorem dksX0_storms_4 : cX0_storms.data.toList.drop 93 = dktX0_storms_4 := dk_seg dksX0_storms_3 24 rfl rfl
theorem dksX0_storms_5 : cX0_storms.data.toList.drop 117 = dktX0_storms_5 := dk_seg dksX0_storms_4 24 rfl rfl
theorem dksX0_storms_6 : cX0_storms.data.toList.drop 139 = dktX0_storms_6 := dk_seg dksX0_storms_5 22 rfl rfl
theorem dksX0_storms_7 : cX0_storms.data.toList.drop 163 = dktX0_storms_7 := dk_seg dksX0_storms_6 24 rfl rfl
theorem dksX0_storms_8 : cX0_storms.data.toList.drop 186 = dktX0_storms_8 := dk_seg dksX0_storms_7 23 rfl rfl
theorem dksX0_storms_9 : cX0_storms.data.toList.drop 210 = dktX0_storms_9 := dk_seg dksX0_storms_8 24 rfl rfl
theorem dX0_storms_0 : decode cX0_storms 0 = .ok (.aload_n 0, 1) := dk_42 (dk_at dksX0_storms_0 0 rfl rfl)
theorem dX0_storms_1 : decode cX0_storms 1 = .ok (.invokevirtual 268, 3) := dk_182 1 12 (dk_at dksX0_storms_0 1 rfl rfl)
theorem dX0_storms_4 : decode cX0_storms 4 = .ok (.ifCond .eq 50, 3) := dk_153 0 50 (dk_at dksX0_storms_0 4 rfl rfl)
theorem dX0_storms_7 : decode cX0_storms 7 = .ok (.iload_n 1, 1) := dk_27 (dk_at dksX0_storms_0 7 rfl rfl)
theorem dX0_storms_8 : decode cX0_storms 8 = .ok (.i2l, 1) := dk_133 (dk_at dksX0_storms_0 8 rfl rfl)
theorem dX0_storms_9 : decode cX0_storms 9 = .ok (.lconst 1, 1) := dk_10 (dk_at dksX0_storms_0 9 rfl rfl)
theorem dX0_storms_10 : decode cX0_storms 10 = .ok (.ldc2_w 297, 3) := dk_20 1 41 (dk_at dksX0_storms_0 10 rfl rfl)
theorem dX0_storms_13 : decode cX0_storms 13 = .ok (.invokestatic 107, 3) := dk_184 0 107 (dk_at dksX0_storms_0 13 rfl rfl)
theorem dX0_storms_16 : decode cX0_storms 16 = .ok (.ifCond .eq 38, 3) := dk_153 0 38 (dk_at dksX0_storms_0 16 rfl rfl)
theorem dX0_storms_19 : decode cX0_storms 19 = .ok (.iload_n 2, 1) := dk_28 (dk_at dksX0_storms_0 19 rfl rfl)
theorem dX0_storms_20 : decode cX0_storms 20 = .ok (.i2l, 1) := dk_133 (dk_at dksX0_storms_0 20 rfl rfl)
theorem dX0_storms_21 : decode cX0_storms 21 = .ok (.lconst 1, 1) := dk_10 (dk_at dksX0_storms_0 21 rfl rfl)
theorem dX0_storms_22 : decode cX0_storms 22 = .ok (.ldc2_w 289, 3) := dk_20 1 33 (dk_at dksX0_storms_1 0 rfl rfl)
theorem dX0_storms_25 : decode cX0_storms 25 = .ok (.invokestatic 107, 3) := dk_184 0 107 (dk_at dksX0_storms_1 3 rfl rfl)
theorem dX0_storms_28 : decode cX0_storms 28 = .ok (.ifCond .eq 26, 3) := dk_153 0 26 (dk_at dksX0_storms_1 6 rfl rfl)
theorem dX0_storms_31 : decode cX0_storms 31 = .ok (.iload_n 3, 1) := dk_29 (dk_at dksX0_storms_1 9 rfl rfl)
theorem dX0_storms_32 : decode cX0_storms 32 = .ok (.i2l, 1) := dk_133 (dk_at dksX0_storms_1 10 rfl rfl)
theorem dX0_storms_33 : decode cX0_storms 33 = .ok (.lconst 0, 1) := dk_9 (dk_at dksX0_storms_1 11 rfl rfl)
theorem dX0_storms_34 : decode cX0_storms 34 = .ok (.ldc2_w 284, 3) := dk_20 1 28 (dk_at dksX0_storms_1 12 rfl rfl)
theorem dX0_storms_37 : decode cX0_storms 37 = .ok (.invokestatic 107, 3) := dk_184 0 107 (dk_at dksX0_storms_1 15 rfl rfl)
theorem dX0_storms_40 : decode cX0_storms 40 = .ok (.ifCond .eq 14, 3) := dk_153 0 14 (dk_at dksX0_storms_1 18 rfl rfl)
theorem dX0_storms_43 : decode cX0_storms 43 = .ok (.iload 4, 2) := dk_21 4 (dk_at dksX0_storms_1 21 rfl rfl)
theorem dX0_storms_45 : decode cX0_storms 45 = .ok (.i2l, 1) := dk_133 (dk_at dksX0_storms_1 23 rfl rfl)
theorem dX0_storms_46 : decode cX0_storms 46 = .ok (.lconst 0, 1) := dk_9 (dk_at dksX0_storms_2 0 rfl rfl)
theorem dX0_storms_47 : decode cX0_storms 47 = .ok (.lconst 1, 1) := dk_10 (dk_at dksX0_storms_2 1 rfl rfl)
theorem dX0_storms_48 : decode cX0_storms 48 = .ok (.invokestatic 107, 3) := dk_184 0 107 (dk_at dksX0_storms_2 2 rfl rfl)
theorem dX0_storms_51 : decode cX0_storms 51 = .ok (.ifCond .ne 5, 3) := dk_154 0 5 (dk_at dksX0_storms_2 5 rfl rfl)
theorem dX0_storms_54 : decode cX0_storms 54 = .ok (.iconst (-1), 1) := dk_2 (dk_at dksX0_storms_2 8 rfl rfl)
theorem dX0_storms_55 : decode cX0_storms 55 = .ok (.ireturn, 1) := dk_172 (dk_at dksX0_storms_2 9 rfl rfl)
theorem dX0_storms_56 : decode cX0_storms 56 = .ok (.aload_n 0, 1) := dk_42 (dk_at dksX0_storms_2 10 rfl rfl)
theorem dX0_storms_57 : decode cX0_storms 57 = .ok (.getfield 349, 3) := dk_180 1 93 (dk_at dksX0_storms_2 11 rfl rfl)
theorem dX0_storms_60 : decode cX0_storms 60 = .ok (.istore 5, 2) := dk_54 5 (dk_at dksX0_storms_2 14 rfl rfl)
theorem dX0_storms_62 : decode cX0_storms 62 = .ok (.iconst 0, 1) := dk_3 (dk_at dksX0_storms_2 16 rfl rfl)
theorem dX0_storms_63 : decode cX0_storms 63 = .ok (.istore 6, 2) := dk_54 6 (dk_at dksX0_storms_2 17 rfl rfl)
theorem dX0_storms_65 : decode cX0_storms 65 = .ok (.iconst 0, 1) := dk_3 (dk_at dksX0_storms_2 19 rfl rfl)
theorem dX0_storms_66 : decode cX0_storms 66 = .ok (.istore 7, 2) := dk_54 7 (dk_at dksX0_storms_2 20 rfl rfl)
theorem dX0_storms_68 : decode cX0_storms 68 = .ok (.iconst 0, 1) := dk_3 (dk_at dksX0_storms_2 22 rfl rfl)
theorem dX0_storms_69 : decode cX0_storms 69 = .ok (.istore 8, 2) := dk_54 8 (dk_at dksX0_storms_3 0 rfl rfl)
theorem dX0_storms_71 : decode cX0_storms 71 = .ok (.iload 8, 2) := dk_21 8 (dk_at dksX0_storms_3 2 rfl rfl)
theorem dX0_storms_73 : decode cX0_storms 73 = .ok (.iload_n 1, 1) := dk_27 (dk_at dksX0_storms_3 4 rfl rfl)
theorem dX0_storms_74 : decode cX0_storms 74 = .ok (.if_icmp .ge 120, 3) := dk_162 0 120 (dk_at dksX0_storms_3 5 rfl rfl)
theorem dX0_storms_77 : decode cX0_storms 77 = .ok (.aload_n 0, 1) := dk_42 (dk_at dksX0_storms_3 8 rfl rfl)
theorem dX0_storms_78 : decode cX0_storms 78 = .ok (.getfield 23, 3) := dk_180 0 23 (dk_at dksX0_storms_3 9 rfl rfl)
theorem dX0_storms_81 : decode cX0_storms 81 = .ok (.aload_n 0, 1) := dk_42 (dk_at dksX0_storms_3 12 rfl rfl)
theorem dX0_storms_82 : decode cX0_storms 82 = .ok (.getfield 19, 3) := dk_180 0 19 (dk_at dksX0_storms_3 13 rfl rfl)
theorem dX0_storms_85 : decode cX0_storms 85 = .ok (.invokevirtual 259, 3) := dk_182 1 3 (dk_at dksX0_storms_3 16 rfl rfl)
theorem dX0_storms_88 : decode cX0_storms 88 = .ok (.iconst 0, 1) := dk_3 (dk_at dksX0_storms_3 19 rfl rfl)
theorem dX0_storms_89 : decode cX0_storms 89 = .ok (.istore 9, 2) := dk_54 9 (dk_at dksX0_storms_3 20 rfl rfl)
theorem dX0_storms_91 : decode cX0_storms 91 = .ok (.iload 9, 2) := dk_21 9 (dk_at dksX0_storms_3 22 rfl rfl)
theorem dX0_storms_93 : decode cX0_storms 93 = .ok (.iload_n 2, 1) := dk_28 (dk_at dksX0_storms_4 0 rfl rfl)
theorem dX0_storms_94 : decode cX0_storms 94 = .ok (.if_icmp .ge 63, 3) := dk_162 0 63 (dk_at dksX0_storms_4 1 rfl rfl)
theorem dX0_storms_97 : decode cX0_storms 97 = .ok (.aload_n 0, 1) := dk_42 (dk_at dksX0_storms_4 4 rfl rfl)
theorem dX0_storms_98 : decode cX0_storms 98 = .ok (.bipush 100, 2) := dk_16 100 (dk_at dksX0_storms_4 5 rfl rfl)
theorem dX0_storms_100 : decode cX0_storms 100 = .ok (.invokevirtual 359, 3) := dk_182 1 103 (dk_at dksX0_storms_4 7 rfl rfl)
theorem dX0_storms_103 : decode cX0_storms 103 = .ok (.iload_n 3, 1) := dk_29 (dk_at dksX0_storms_4 10 rfl rfl)
theorem dX0_storms_104 : decode cX0_storms 104 = .ok (.if_icmp .ge 38, 3) := dk_162 0 38 (dk_at dksX0_storms_4 11 rfl rfl)
theorem dX0_storms_107 : decode cX0_storms 107 = .ok (.aload_n 0, 1) := dk_42 (dk_at dksX0_storms_4 14 rfl rfl)
theorem dX0_storms_108 : decode cX0_storms 108 = .ok (.getfield 10, 3) := dk_180 0 10 (dk_at dksX0_storms_4 15 rfl rfl)
theorem dX0_storms_111 : decode cX0_storms 111 = .ok (.invokevirtual 103, 3) := dk_182 0 103 (dk_at dksX0_storms_4 18 rfl rfl)
theorem dX0_storms_114 : decode cX0_storms 114 = .ok (.ifCond .le 28, 3) := dk_158 0 28 (dk_at dksX0_storms_4 21 rfl rfl)
theorem dX0_storms_117 : decode cX0_storms 117 = .ok (.aload_n 0, 1) := dk_42 (dk_at dksX0_storms_5 0 rfl rfl)
theorem dX0_storms_118 : decode cX0_storms 118 = .ok (.getfield 23, 3) := dk_180 0 23 (dk_at dksX0_storms_5 1 rfl rfl)
theorem dX0_storms_121 : decode cX0_storms 121 = .ok (.aload_n 0, 1) := dk_42 (dk_at dksX0_storms_5 4 rfl rfl)
theorem dX0_storms_122 : decode cX0_storms 122 = .ok (.aload_n 0, 1) := dk_42 (dk_at dksX0_storms_5 5 rfl rfl)
theorem dX0_storms_123 : decode cX0_storms 123 = .ok (.getfield 10, 3) := dk_180 0 10 (dk_at dksX0_storms_5 6 rfl rfl)
theorem dX0_storms_126 : decode cX0_storms 126 = .ok (.invokevirtual 103, 3) := dk_182 0 103 (dk_at dksX0_storms_5 9 rfl rfl)
theorem dX0_storms_129 : decode cX0_storms 129 = .ok (.invokevirtual 359, 3) := dk_182 1 103 (dk_at dksX0_storms_5 12 rfl rfl)
theorem dX0_storms_132 : decode cX0_storms 132 = .ok (.aload_n 0, 1) := dk_42 (dk_at dksX0_storms_5 15 rfl rfl)
theorem dX0_storms_133 : decode cX0_storms 133 = .ok (.getfield 10, 3) := dk_180 0 10 (dk_at dksX0_storms_5 16 rfl rfl)
theorem dX0_storms_136 : decode cX0_storms 136 = .ok (.getfield 100, 3) := dk_180 0 100 (dk_at dksX0_storms_5 19 rfl rfl)
theorem dX0_storms_139 : decode cX0_storms 139 = .ok (.invokevirtual 277, 3) := dk_182 1 21 (dk_at dksX0_storms_6 0 rfl rfl)
theorem dX0_storms_142 : decode cX0_storms 142 = .ok (.aload_n 0, 1) := dk_42 (dk_at dksX0_storms_6 3 rfl rfl)
theorem dX0_storms_143 : decode cX0_storms 143 = .ok (.aload_n 0, 1) := dk_42 (dk_at dksX0_storms_6 4 rfl rfl)
theorem dX0_storms_144 : decode cX0_storms 144 = .ok (.getfield 23, 3) := dk_180 0 23 (dk_at dksX0_storms_6 5 rfl rfl)
theorem dX0_storms_147 : decode cX0_storms 147 = .ok (.invokevirtual 252, 3) := dk_182 0 252 (dk_at dksX0_storms_6 8 rfl rfl)
theorem dX0_storms_150 : decode cX0_storms 150 = .ok (.pop, 1) := dk_87 (dk_at dksX0_storms_6 11 rfl rfl)
theorem dX0_storms_151 : decode cX0_storms 151 = .ok (.iinc 9 1, 3) := dk_132 9 1 (dk_at dksX0_storms_6 12 rfl rfl)
theorem dX0_storms_154 : decode cX0_storms 154 = .ok (.goto (-63), 3) := dk_167 255 193 (dk_at dksX0_storms_6 15 rfl rfl)
theorem dX0_storms_157 : decode cX0_storms 157 = .ok (.iload 6, 2) := dk_21 6 (dk_at dksX0_storms_6 18 rfl rfl)
theorem dX0_storms_159 : decode cX0_storms 159 = .ok (.aload_n 0, 1) := dk_42 (dk_at dksX0_storms_6 20 rfl rfl)
theorem dX0_storms_160 : decode cX0_storms 160 = .ok (.getfield 23, 3) := dk_180 0 23 (dk_at dksX0_storms_6 21 rfl rfl)
theorem dX0_storms_163 : decode cX0_storms 163 = .ok (.invokevirtual 281, 3) := dk_182 1 25 (dk_at dksX0_storms_7 0 rfl rfl)
theorem dX0_storms_166 : decode cX0_storms 166 = .ok (.iadd, 1) := dk_96 (dk_at dksX0_storms_7 3 rfl rfl)
theorem dX0_storms_167 : decode cX0_storms 167 = .ok (.istore 6, 2) := dk_54 6 (dk_at dksX0_storms_7 4 rfl rfl)
theorem dX0_storms_169 : decode cX0_storms 169 = .ok (.iload 7, 2) := dk_21 7 (dk_at dksX0_storms_7 6 rfl rfl)
theorem dX0_storms_171 : decode cX0_storms 171 = .ok (.aload_n 0, 1) := dk_42 (dk_at dksX0_storms_7 8 rfl rfl)
theorem dX0_storms_172 : decode cX0_storms 172 = .ok (.getfield 23, 3) := dk_180 0 23 (dk_at dksX0_storms_7 9 rfl rfl)
theorem dX0_storms_175 : decode cX0_storms 175 = .ok (.aload_n 0, 1) := dk_42 (dk_at dksX0_storms_7 12 rfl rfl)
theorem dX0_storms_176 : decode cX0_storms 176 = .ok (.getfield 10, 3) := dk_180 0 10 (dk_at dksX0_storms_7 13 rfl rfl)
theorem dX0_storms_179 : decode cX0_storms 179 = .ok (.invokevirtual 215, 3) := dk_182 0 215 (dk_at dksX0_storms_7 16 rfl rfl)
theorem dX0_storms_182 : decode cX0_storms 182 = .ok (.invokestatic 219, 3) := dk_184 0 219 (dk_at dksX0_storms_7 19 rfl rfl)
theorem dX0_storms_185 : decode cX0_storms 185 = .ok (.iadd, 1) := dk_96 (dk_at dksX0_storms_7 22 rfl rfl)
theorem dX0_storms_186 : decode cX0_storms 186 = .ok (.istore 7, 2) := dk_54 7 (dk_at dksX0_storms_8 0 rfl rfl)
theorem dX0_storms_188 : decode cX0_storms 188 = .ok (.iinc 8 1, 3) := dk_132 8 1 (dk_at dksX0_storms_8 2 rfl rfl)
theorem dX0_storms_191 : decode cX0_storms 191 = .ok (.goto (-120), 3) := dk_167 255 136 (dk_at dksX0_storms_8 5 rfl rfl)
theorem dX0_storms_194 : decode cX0_storms 194 = .ok (.aload_n 0, 1) := dk_42 (dk_at dksX0_storms_8 8 rfl rfl)
theorem dX0_storms_195 : decode cX0_storms 195 = .ok (.iload 5, 2) := dk_21 5 (dk_at dksX0_storms_8 9 rfl rfl)
theorem dX0_storms_197 : decode cX0_storms 197 = .ok (.putfield 349, 3) := dk_181 1 93 (dk_at dksX0_storms_8 11 rfl rfl)
theorem dX0_storms_200 : decode cX0_storms 200 = .ok (.iload 4, 2) := dk_21 4 (dk_at dksX0_storms_8 14 rfl rfl)
theorem dX0_storms_202 : decode cX0_storms 202 = .ok (.ifCond .ne 8, 3) := dk_154 0 8 (dk_at dksX0_storms_8 16 rfl rfl)
theorem dX0_storms_205 : decode cX0_storms 205 = .ok (.iload 6, 2) := dk_21 6 (dk_at dksX0_storms_8 19 rfl rfl)
theorem dX0_storms_207 : decode cX0_storms 207 = .ok (.goto 5, 3) := dk_167 0 5 (dk_at dksX0_storms_8 21 rfl rfl)
theorem dX0_storms_210 : decode cX0_storms 210 = .ok (.iload 7, 2) := dk_21 7 (dk_at dksX0_storms_9 0 rfl rfl)
theorem dX0_storms_212 : decode cX0_storms 212 = .ok (.ireturn, 1) := dk_172 (dk_at dksX0_storms_9 2 rfl rfl)
abbrev cX0_draws : ByteArray := prog_1_method_60_code
def yX0_draws : MethodName := ⟨RX0, "draws", "(I)I"⟩
def dkwX0_draws_1 : List UInt8 := [180, 1, 93, 19, 1, 102, 108, 27, 112, 172]
abbrev dktX0_draws_1 : List UInt8 := dkwX0_draws_1 ++ []
def dkwX0_draws_0 : List UInt8 := [42, 42, 180, 1, 93, 133, 20, 1, 96, 105, 20, 1, 98, 97, 20, 1, 100, 113, 136, 181, 1, 93, 42]
abbrev dktX0_draws_0 : List UInt8 := dkwX0_draws_0 ++ dktX0_draws_1
theorem dksX0_draws_0 : cX0_draws.data.toList.drop 0 = dktX0_draws_0 := by decide +kernel
theorem dksX0_draws_1 : cX0_draws.data.toList.drop 23 = dktX0_draws_1 := dk_seg dksX0_draws_0 23 rfl rfl
theorem dX0_draws_0 : decode cX0_draws 0 = .ok (.aload_n 0, 1) := dk_42 (dk_at dksX0_draws_0 0 rfl rfl)
theorem dX0_draws_1 : decode cX0_draws 1 = .ok (.aload_n 0, 1) := dk_42 (dk_at dksX0_draws_0 1 rfl rfl)
theorem dX0_draws_2 : decode cX0_draws 2 = .ok (.getfield 349, 3) := dk_180 1 93 (dk_at dksX0_draws_0 2 rfl rfl)
theorem dX0_draws_5 : decode cX0_draws 5 = .ok (.i2l, 1) := dk_133 (dk_at dksX0_draws_0 5 rfl rfl)
theorem dX0_draws_6 : decode cX0_draws 6 = .ok (.ldc2_w 352, 3) := dk_20 1 96 (dk_at dksX0_draws_0 6 rfl rfl)
theorem dX0_draws_9 : decode cX0_draws 9 = .ok (.lmul, 1) := dk_105 (dk_at dksX0_draws_0 9 rfl rfl)
theorem dX0_draws_10 : decode cX0_draws 10 = .ok (.ldc2_w 354, 3) := dk_20 1 98 (dk_at dksX0_draws_0 10 rfl rfl)
theorem dX0_draws_13 : decode cX0_draws 13 = .ok (.ladd, 1) := dk_97 (dk_at dksX0_draws_0 13 rfl rfl)
theorem dX0_draws_14 : decode cX0_draws 14 = .ok (.ldc2_w 356, 3) := dk_20 1 100 (dk_at dksX0_draws_0 14 rfl rfl)
theorem dX0_draws_17 : decode cX0_draws 17 = .ok (.lrem, 1) := dk_113 (dk_at dksX0_draws_0 17 rfl rfl)
theorem dX0_draws_18 : decode cX0_draws 18 = .ok (.l2i, 1) := dk_136 (dk_at dksX0_draws_0 18 rfl rfl)
theorem dX0_draws_19 : decode cX0_draws 19 = .ok (.putfield 349, 3) := dk_181 1 93 (dk_at dksX0_draws_0 19 rfl rfl)
theorem dX0_draws_22 : decode cX0_draws 22 = .ok (.aload_n 0, 1) := dk_42 (dk_at dksX0_draws_0 22 rfl rfl)
theorem dX0_draws_23 : decode cX0_draws 23 = .ok (.getfield 349, 3) := dk_180 1 93 (dk_at dksX0_draws_1 0 rfl rfl)
theorem dX0_draws_26 : decode cX0_draws 26 = .ok (.ldc_w 358, 3) := dk_19 1 102 (dk_at dksX0_draws_1 3 rfl rfl)
theorem dX0_draws_29 : decode cX0_draws 29 = .ok (.idiv, 1) := dk_108 (dk_at dksX0_draws_1 6 rfl rfl)
theorem dX0_draws_30 : decode cX0_draws 30 = .ok (.iload_n 1, 1) := dk_27 (dk_at dksX0_draws_1 7 rfl rfl)
theorem dX0_draws_31 : decode cX0_draws 31 = .ok (.irem, 1) := dk_112 (dk_at dksX0_draws_1 8 rfl rfl)
theorem dX0_draws_32 : decode cX0_draws 32 = .ok (.ireturn, 1) := dk_172 (dk_at dksX0_draws_1 9 rfl rfl)
abbrev cX0_count : ByteArray := prog_1_method_62_code
def yX0_count : MethodName := ⟨RX0, "count", "(I)I"⟩
def dkwX0_count_7 : List UInt8 := [2, 172]
abbrev dktX0_count_7 : List UInt8 := dkwX0_count_7 ++ []
def dkwX0_count_6 : List UInt8 := [182, 1, 25, 172, 42, 180, 0, 135, 172, 42, 180, 0, 138, 172, 42, 180, 1, 93, 172, 42, 180, 0, 117, 172]
abbrev dktX0_count_6 : List UInt8 := dkwX0_count_6 ++ dktX0_count_7
def dkwX0_count_5 : List UInt8 := [180, 0, 163, 172, 42, 180, 0, 10, 42, 180, 0, 19, 180, 0, 176, 182, 0, 179, 172, 42, 180, 0, 19]
abbrev dktX0_count_5 : List UInt8 := dkwX0_count_5 ++ dktX0_count_6
def dkwX0_count_4 : List UInt8 := [180, 0, 19, 180, 0, 176, 172, 42, 180, 0, 19, 42, 180, 0, 10, 182, 0, 215, 172, 42, 180, 0, 19]
abbrev dktX0_count_4 : List UInt8 := dkwX0_count_4 ++ dktX0_count_5
def dkwX0_count_3 : List UInt8 := [42, 180, 0, 10, 182, 0, 111, 172, 42, 180, 0, 31, 182, 0, 141, 172, 42, 180, 0, 35, 172, 42]
abbrev dktX0_count_3 : List UInt8 := dkwX0_count_3 ++ dktX0_count_4
def dkwX0_count_2 : List UInt8 := [42, 180, 0, 10, 180, 0, 100, 172, 42, 180, 0, 10, 180, 0, 156, 172, 42, 180, 0, 10, 182, 0, 103, 172]
abbrev dktX0_count_2 : List UInt8 := dkwX0_count_2 ++ dktX0_count_3
def dkwX0_count_1 : List UInt8 := [170, 0, 0, 0, 0, 0, 191, 0, 0, 0, 0, 0, 0, 0, 14, 0, 0, 0, 75, 0, 0, 0, 83, 0, 0, 0, 91, 0, 0, 0, 99, 0, 0, 0, 107, 0, 0, 0, 115, 0, 0, 0, 120, 0, 0, 0, 128, 0, 0, 0, 140, 0, 0, 0, 148, 0, 0, 0, 163, 0, 0, 0, 171, 0, 0, 0, 176, 0, 0, 0, 181, 0, 0, 0, 186]
abbrev dktX0_count_1 : List UInt8 := dkwX0_count_1 ++ dktX0_count_2
def dkwX0_count_0 : List UInt8 := [27]
abbrev dktX0_count_0 : List UInt8 := dkwX0_count_0 ++ dktX0_count_1
theorem dksX0_count_0 : cX0_count.data.toList.drop 0 = dktX0_count_0 := by decide +kernel
theorem dksX0_count_1 : cX0_count.data.toList.drop 1 = dktX0_count_1 := dk_seg dksX0_count_0 1 rfl rfl
theorem dksX0_count_2 : cX0_count.data.toList.drop 76 = dktX0_count_2 := dk_seg dksX0_count_1 75 rfl rfl
theorem dksX0_count_3 : cX0_count.data.toList.drop 100 = dktX0_count_3 := dk_seg dksX0_count_2 24 rfl rfl
theorem dksX0_count_4 : cX0_count.data.toList.drop 122 = dktX0_count_4 := dk_seg dksX0_count_3 22 rfl rfl
theorem dksX0_count_5 : cX0_count.data.toList.drop 145 = dktX0_count_5 := dk_seg dksX0_count_4 23 rfl rfl
theorem dksX0_count_6 : cX0_count.data.toList.drop 168 = dktX0_count_6 := dk_seg dksX0_count_5 23 rfl rfl
theorem dksX0_count_7 : cX0_count.data.toList.drop 192 = dktX0_count_7 := dk_seg dksX0_count_6 24 rfl rfl
theorem dX0_count_0 : decode cX0_count 0 = .ok (.iload_n 1, 1) := dk_27 (dk_at dksX0_count_0 0 rfl rfl)
theorem dX0_count_1 : decode cX0_count 1 = .ok (.tableswitch 191 0 14 #[75, 83, 91, 99, 107, 115, 120, 128, 140, 148, 163, 171, 176, 181, 186], 75) := by decide +kernel
theorem dX0_count_76 : decode cX0_count 76 = .ok (.aload_n 0, 1) := dk_42 (dk_at dksX0_count_2 0 rfl rfl)
theorem dX0_count_77 : decode cX0_count 77 = .ok (.getfield 10, 3) := dk_180 0 10 (dk_at dksX0_count_2 1 rfl rfl)
theorem dX0_count_80 : decode cX0_count 80 = .ok (.getfield 100, 3) := dk_180 0 100 (dk_at dksX0_count_2 4 rfl rfl)
theorem dX0_count_83 : decode cX0_count 83 = .ok (.ireturn, 1) := dk_172 (dk_at dksX0_count_2 7 rfl rfl)
theorem dX0_count_84 : decode cX0_count 84 = .ok (.aload_n 0, 1) := dk_42 (dk_at dksX0_count_2 8 rfl rfl)
theorem dX0_count_85 : decode cX0_count 85 = .ok (.getfield 10, 3) := dk_180 0 10 (dk_at dksX0_count_2 9 rfl rfl)
theorem dX0_count_88 : decode cX0_count 88 = .ok (.getfield 156, 3) := dk_180 0 156 (dk_at dksX0_count_2 12 rfl rfl)
theorem dX0_count_91 : decode cX0_count 91 = .ok (.ireturn, 1) := dk_172 (dk_at dksX0_count_2 15 rfl rfl)
theorem dX0_count_92 : decode cX0_count 92 = .ok (.aload_n 0, 1) := dk_42 (dk_at dksX0_count_2 16 rfl rfl)
theorem dX0_count_93 : decode cX0_count 93 = .ok (.getfield 10, 3) := dk_180 0 10 (dk_at dksX0_count_2 17 rfl rfl)
theorem dX0_count_96 : decode cX0_count 96 = .ok (.invokevirtual 103, 3) := dk_182 0 103 (dk_at dksX0_count_2 20 rfl rfl)
theorem dX0_count_99 : decode cX0_count 99 = .ok (.ireturn, 1) := dk_172 (dk_at dksX0_count_2 23 rfl rfl)
theorem dX0_count_100 : decode cX0_count 100 = .ok (.aload_n 0, 1) := dk_42 (dk_at dksX0_count_3 0 rfl rfl)
theorem dX0_count_101 : decode cX0_count 101 = .ok (.getfield 10, 3) := dk_180 0 10 (dk_at dksX0_count_3 1 rfl rfl)
theorem dX0_count_104 : decode cX0_count 104 = .ok (.invokevirtual 111, 3) := dk_182 0 111 (dk_at dksX0_count_3 4 rfl rfl)
theorem dX0_count_107 : decode cX0_count 107 = .ok (.ireturn, 1) := dk_172 (dk_at dksX0_count_3 7 rfl rfl)
theorem dX0_count_108 : decode cX0_count 108 = .ok (.aload_n 0, 1) := dk_42 (dk_at dksX0_count_3 8 rfl rfl)
theorem dX0_count_109 : decode cX0_count 109 = .ok (.getfield 31, 3) := dk_180 0 31 (dk_at dksX0_count_3 9 rfl rfl)
theorem dX0_count_112 : decode cX0_count 112 = .ok (.invokevirtual 141, 3) := dk_182 0 141 (dk_at dksX0_count_3 12 rfl rfl)
theorem dX0_count_115 : decode cX0_count 115 = .ok (.ireturn, 1) := dk_172 (dk_at dksX0_count_3 15 rfl rfl)
theorem dX0_count_116 : decode cX0_count 116 = .ok (.aload_n 0, 1) := dk_42 (dk_at dksX0_count_3 16 rfl rfl)
theorem dX0_count_117 : decode cX0_count 117 = .ok (.getfield 35, 3) := dk_180 0 35 (dk_at dksX0_count_3 17 rfl rfl)
theorem dX0_count_120 : decode cX0_count 120 = .ok (.ireturn, 1) := dk_172 (dk_at dksX0_count_3 20 rfl rfl)
theorem dX0_count_121 : decode cX0_count 121 = .ok (.aload_n 0, 1) := dk_42 (dk_at dksX0_count_3 21 rfl rfl)
theorem dX0_count_122 : decode cX0_count 122 = .ok (.getfield 19, 3) := dk_180 0 19 (dk_at dksX0_count_4 0 rfl rfl)
theorem dX0_count_125 : decode cX0_count 125 = .ok (.getfield 176, 3) := dk_180 0 176 (dk_at dksX0_count_4 3 rfl rfl)
theorem dX0_count_128 : decode cX0_count 128 = .ok (.ireturn, 1) := dk_172 (dk_at dksX0_count_4 6 rfl rfl)
theorem dX0_count_129 : decode cX0_count 129 = .ok (.aload_n 0, 1) := dk_42 (dk_at dksX0_count_4 7 rfl rfl)
theorem dX0_count_130 : decode cX0_count 130 = .ok (.getfield 19, 3) := dk_180 0 19 (dk_at dksX0_count_4 8 rfl rfl)
theorem dX0_count_133 : decode cX0_count 133 = .ok (.aload_n 0, 1) := dk_42 (dk_at dksX0_count_4 11 rfl rfl)
theorem dX0_count_134 : decode cX0_count 134 = .ok (.getfield 10, 3) := dk_180 0 10 (dk_at dksX0_count_4 12 rfl rfl)
theorem dX0_count_137 : decode cX0_count 137 = .ok (.invokevirtual 215, 3) := dk_182 0 215 (dk_at dksX0_count_4 15 rfl rfl)
theorem dX0_count_140 : decode cX0_count 140 = .ok (.ireturn, 1) := dk_172 (dk_at dksX0_count_4 18 rfl rfl)
theorem dX0_count_141 : decode cX0_count 141 = .ok (.aload_n 0, 1) := dk_42 (dk_at dksX0_count_4 19 rfl rfl)
theorem dX0_count_142 : decode cX0_count 142 = .ok (.getfield 19, 3) := dk_180 0 19 (dk_at dksX0_count_4 20 rfl rfl)
theorem dX0_count_145 : decode cX0_count 145 = .ok (.getfield 163, 3) := dk_180 0 163 (dk_at dksX0_count_5 0 rfl rfl)
theorem dX0_count_148 : decode cX0_count 148 = .ok (.ireturn, 1) := dk_172 (dk_at dksX0_count_5 3 rfl rfl)
theorem dX0_count_149 : decode cX0_count 149 = .ok (.aload_n 0, 1) := dk_42 (dk_at dksX0_count_5 4 rfl rfl)
theorem dX0_count_150 : decode cX0_count 150 = .ok (.getfield 10, 3) := dk_180 0 10 (dk_at dksX0_count_5 5 rfl rfl)
theorem dX0_count_153 : decode cX0_count 153 = .ok (.aload_n 0, 1) := dk_42 (dk_at dksX0_count_5 8 rfl rfl)
theorem dX0_count_154 : decode cX0_count 154 = .ok (.getfield 19, 3) := dk_180 0 19 (dk_at dksX0_count_5 9 rfl rfl)
theorem dX0_count_157 : decode cX0_count 157 = .ok (.getfield 176, 3) := dk_180 0 176 (dk_at dksX0_count_5 12 rfl rfl)
theorem dX0_count_160 : decode cX0_count 160 = .ok (.invokevirtual 179, 3) := dk_182 0 179 (dk_at dksX0_count_5 15 rfl rfl)
theorem dX0_count_163 : decode cX0_count 163 = .ok (.ireturn, 1) := dk_172 (dk_at dksX0_count_5 18 rfl rfl)
theorem dX0_count_164 : decode cX0_count 164 = .ok (.aload_n 0, 1) := dk_42 (dk_at dksX0_count_5 19 rfl rfl)
theorem dX0_count_165 : decode cX0_count 165 = .ok (.getfield 19, 3) := dk_180 0 19 (dk_at dksX0_count_5 20 rfl rfl)
theorem dX0_count_168 : decode cX0_count 168 = .ok (.invokevirtual 281, 3) := dk_182 1 25 (dk_at dksX0_count_6 0 rfl rfl)
theorem dX0_count_171 : decode cX0_count 171 = .ok (.ireturn, 1) := dk_172 (dk_at dksX0_count_6 3 rfl rfl)
theorem dX0_count_172 : decode cX0_count 172 = .ok (.aload_n 0, 1) := dk_42 (dk_at dksX0_count_6 4 rfl rfl)
theorem dX0_count_173 : decode cX0_count 173 = .ok (.getfield 135, 3) := dk_180 0 135 (dk_at dksX0_count_6 5 rfl rfl)
theorem dX0_count_176 : decode cX0_count 176 = .ok (.ireturn, 1) := dk_172 (dk_at dksX0_count_6 8 rfl rfl)
theorem dX0_count_177 : decode cX0_count 177 = .ok (.aload_n 0, 1) := dk_42 (dk_at dksX0_count_6 9 rfl rfl)
theorem dX0_count_178 : decode cX0_count 178 = .ok (.getfield 138, 3) := dk_180 0 138 (dk_at dksX0_count_6 10 rfl rfl)
theorem dX0_count_181 : decode cX0_count 181 = .ok (.ireturn, 1) := dk_172 (dk_at dksX0_count_6 13 rfl rfl)
theorem dX0_count_182 : decode cX0_count 182 = .ok (.aload_n 0, 1) := dk_42 (dk_at dksX0_count_6 14 rfl rfl)
theorem dX0_count_183 : decode cX0_count 183 = .ok (.getfield 349, 3) := dk_180 1 93 (dk_at dksX0_count_6 15 rfl rfl)
theorem dX0_count_186 : decode cX0_count 186 = .ok (.ireturn, 1) := dk_172 (dk_at dksX0_count_6 18 rfl rfl)
theorem dX0_count_187 : decode cX0_count 187 = .ok (.aload_n 0, 1) := dk_42 (dk_at dksX0_count_6 19 rfl rfl)
theorem dX0_count_188 : decode cX0_count 188 = .ok (.getfield 117, 3) := dk_180 0 117 (dk_at dksX0_count_6 20 rfl rfl)
theorem dX0_count_191 : decode cX0_count 191 = .ok (.ireturn, 1) := dk_172 (dk_at dksX0_count_6 23 rfl rfl)
theorem dX0_count_192 : decode cX0_count 192 = .ok (.iconst (-1), 1) := dk_2 (dk_at dksX0_count_7 0 rfl rfl)
theorem dX0_count_193 : decode cX0_count 193 = .ok (.ireturn, 1) := dk_172 (dk_at dksX0_count_7 1 rfl rfl)
abbrev cX0_image : ByteArray := prog_1_method_63_code
def yX0_image : MethodName := ⟨RX0, "image", "(I)I"⟩
def dkwX0_image_2 : List UInt8 := [180, 0, 19, 180, 0, 176, 172]
abbrev dktX0_image_2 : List UInt8 := dkwX0_image_2 ++ []
def dkwX0_image_1 : List UInt8 := [180, 0, 96, 27, 187, 0, 94, 89, 42, 183, 1, 108, 83, 42, 180, 0, 96, 27, 50, 182, 1, 111, 42]
abbrev dktX0_image_1 : List UInt8 := dkwX0_image_1 ++ dktX0_image_2
def dkwX0_image_0 : List UInt8 := [27, 133, 9, 20, 1, 106, 184, 0, 107, 154, 0, 5, 2, 172, 42, 180, 0, 96, 27, 50, 199, 0, 17, 42]
abbrev dktX0_image_0 : List UInt8 := dkwX0_image_0 ++ dktX0_image_1
theorem dksX0_image_0 : cX0_image.data.toList.drop 0 = dktX0_image_0 := by decide +kernel
theorem dksX0_image_1 : cX0_image.data.toList.drop 24 = dktX0_image_1 := dk_seg dksX0_image_0 24 rfl rfl
theorem dksX0_image_2 : cX0_image.data.toList.drop 47 = dktX0_image_2 := dk_seg dksX0_image_1 23 rfl rfl
theorem dX0_image_0 : decode cX0_image 0 = .ok (.iload_n 1, 1) := dk_27 (dk_at dksX0_image_0 0 rfl rfl)
theorem dX0_image_1 : decode cX0_image 1 = .ok (.i2l, 1) := dk_133 (dk_at dksX0_image_0 1 rfl rfl)
theorem dX0_image_2 : decode cX0_image 2 = .ok (.lconst 0, 1) := dk_9 (dk_at dksX0_image_0 2 rfl rfl)
theorem dX0_image_3 : decode cX0_image 3 = .ok (.ldc2_w 362, 3) := dk_20 1 106 (dk_at dksX0_image_0 3 rfl rfl)
theorem dX0_image_6 : decode cX0_image 6 = .ok (.invokestatic 107, 3) := dk_184 0 107 (dk_at dksX0_image_0 6 rfl rfl)
theorem dX0_image_9 : decode cX0_image 9 = .ok (.ifCond .ne 5, 3) := dk_154 0 5 (dk_at dksX0_image_0 9 rfl rfl)
theorem dX0_image_12 : decode cX0_image 12 = .ok (.iconst (-1), 1) := dk_2 (dk_at dksX0_image_0 12 rfl rfl)
theorem dX0_image_13 : decode cX0_image 13 = .ok (.ireturn, 1) := dk_172 (dk_at dksX0_image_0 13 rfl rfl)
theorem dX0_image_14 : decode cX0_image 14 = .ok (.aload_n 0, 1) := dk_42 (dk_at dksX0_image_0 14 rfl rfl)
theorem dX0_image_15 : decode cX0_image 15 = .ok (.getfield 96, 3) := dk_180 0 96 (dk_at dksX0_image_0 15 rfl rfl)
theorem dX0_image_18 : decode cX0_image 18 = .ok (.iload_n 1, 1) := dk_27 (dk_at dksX0_image_0 18 rfl rfl)
theorem dX0_image_19 : decode cX0_image 19 = .ok (.aaload, 1) := dk_50 (dk_at dksX0_image_0 19 rfl rfl)
theorem dX0_image_20 : decode cX0_image 20 = .ok (.ifnonnull 17, 3) := dk_199 0 17 (dk_at dksX0_image_0 20 rfl rfl)
theorem dX0_image_23 : decode cX0_image 23 = .ok (.aload_n 0, 1) := dk_42 (dk_at dksX0_image_0 23 rfl rfl)
theorem dX0_image_24 : decode cX0_image 24 = .ok (.getfield 96, 3) := dk_180 0 96 (dk_at dksX0_image_1 0 rfl rfl)
theorem dX0_image_27 : decode cX0_image 27 = .ok (.iload_n 1, 1) := dk_27 (dk_at dksX0_image_1 3 rfl rfl)
theorem dX0_image_28 : decode cX0_image 28 = .ok (.new 94, 3) := dk_187 0 94 (dk_at dksX0_image_1 4 rfl rfl)
theorem dX0_image_31 : decode cX0_image 31 = .ok (.dup, 1) := dk_89 (dk_at dksX0_image_1 7 rfl rfl)
theorem dX0_image_32 : decode cX0_image 32 = .ok (.aload_n 0, 1) := dk_42 (dk_at dksX0_image_1 8 rfl rfl)
theorem dX0_image_33 : decode cX0_image 33 = .ok (.invokespecial 364, 3) := dk_183 1 108 (dk_at dksX0_image_1 9 rfl rfl)
theorem dX0_image_36 : decode cX0_image 36 = .ok (.aastore, 1) := dk_83 (dk_at dksX0_image_1 12 rfl rfl)
theorem dX0_image_37 : decode cX0_image 37 = .ok (.aload_n 0, 1) := dk_42 (dk_at dksX0_image_1 13 rfl rfl)
theorem dX0_image_38 : decode cX0_image 38 = .ok (.getfield 96, 3) := dk_180 0 96 (dk_at dksX0_image_1 14 rfl rfl)
theorem dX0_image_41 : decode cX0_image 41 = .ok (.iload_n 1, 1) := dk_27 (dk_at dksX0_image_1 17 rfl rfl)
theorem dX0_image_42 : decode cX0_image 42 = .ok (.aaload, 1) := dk_50 (dk_at dksX0_image_1 18 rfl rfl)
theorem dX0_image_43 : decode cX0_image 43 = .ok (.invokevirtual 367, 3) := dk_182 1 111 (dk_at dksX0_image_1 19 rfl rfl)
theorem dX0_image_46 : decode cX0_image 46 = .ok (.aload_n 0, 1) := dk_42 (dk_at dksX0_image_1 22 rfl rfl)
theorem dX0_image_47 : decode cX0_image 47 = .ok (.getfield 19, 3) := dk_180 0 19 (dk_at dksX0_image_2 0 rfl rfl)
theorem dX0_image_50 : decode cX0_image 50 = .ok (.getfield 176, 3) := dk_180 0 176 (dk_at dksX0_image_2 3 rfl rfl)
theorem dX0_image_53 : decode cX0_image 53 = .ok (.ireturn, 1) := dk_172 (dk_at dksX0_image_2 6 rfl rfl)
abbrev cX0_back : ByteArray := prog_1_method_64_code
def yX0_back : MethodName := ⟨RX0, "back", "(I)I"⟩
def dkwX0_back_1 : List UInt8 := [180, 0, 96, 27, 50, 182, 1, 114, 42, 180, 0, 19, 180, 0, 176, 172]
abbrev dktX0_back_1 : List UInt8 := dkwX0_back_1 ++ []
def dkwX0_back_0 : List UInt8 := [27, 133, 9, 20, 1, 106, 184, 0, 107, 153, 0, 12, 42, 180, 0, 96, 27, 50, 199, 0, 5, 2, 172, 42]
abbrev dktX0_back_0 : List UInt8 := dkwX0_back_0 ++ dktX0_back_1
theorem dksX0_back_0 : cX0_back.data.toList.drop 0 = dktX0_back_0 := by decide +kernel
theorem dksX0_back_1 : cX0_back.data.toList.drop 24 = dktX0_back_1 := dk_seg dksX0_back_0 24 rfl rfl
theorem dX0_back_0 : decode cX0_back 0 = .ok (.iload_n 1, 1) := dk_27 (dk_at dksX0_back_0 0 rfl rfl)
theorem dX0_back_1 : decode cX0_back 1 = .ok (.i2l, 1) := dk_133 (dk_at dksX0_back_0 1 rfl rfl)
theorem dX0_back_2 : decode cX0_back 2 = .ok (.lconst 0, 1) := dk_9 (dk_at dksX0_back_0 2 rfl rfl)
theorem dX0_back_3 : decode cX0_back 3 = .ok (.ldc2_w 362, 3) := dk_20 1 106 (dk_at dksX0_back_0 3 rfl rfl)
theorem dX0_back_6 : decode cX0_back 6 = .ok (.invokestatic 107, 3) := dk_184 0 107 (dk_at dksX0_back_0 6 rfl rfl)
theorem dX0_back_9 : decode cX0_back 9 = .ok (.ifCond .eq 12, 3) := dk_153 0 12 (dk_at dksX0_back_0 9 rfl rfl)
theorem dX0_back_12 : decode cX0_back 12 = .ok (.aload_n 0, 1) := dk_42 (dk_at dksX0_back_0 12 rfl rfl)
theorem dX0_back_13 : decode cX0_back 13 = .ok (.getfield 96, 3) := dk_180 0 96 (dk_at dksX0_back_0 13 rfl rfl)
theorem dX0_back_16 : decode cX0_back 16 = .ok (.iload_n 1, 1) := dk_27 (dk_at dksX0_back_0 16 rfl rfl)
theorem dX0_back_17 : decode cX0_back 17 = .ok (.aaload, 1) := dk_50 (dk_at dksX0_back_0 17 rfl rfl)
theorem dX0_back_18 : decode cX0_back 18 = .ok (.ifnonnull 5, 3) := dk_199 0 5 (dk_at dksX0_back_0 18 rfl rfl)
theorem dX0_back_21 : decode cX0_back 21 = .ok (.iconst (-1), 1) := dk_2 (dk_at dksX0_back_0 21 rfl rfl)
theorem dX0_back_22 : decode cX0_back 22 = .ok (.ireturn, 1) := dk_172 (dk_at dksX0_back_0 22 rfl rfl)
theorem dX0_back_23 : decode cX0_back 23 = .ok (.aload_n 0, 1) := dk_42 (dk_at dksX0_back_0 23 rfl rfl)
theorem dX0_back_24 : decode cX0_back 24 = .ok (.getfield 96, 3) := dk_180 0 96 (dk_at dksX0_back_1 0 rfl rfl)
theorem dX0_back_27 : decode cX0_back 27 = .ok (.iload_n 1, 1) := dk_27 (dk_at dksX0_back_1 3 rfl rfl)
theorem dX0_back_28 : decode cX0_back 28 = .ok (.aaload, 1) := dk_50 (dk_at dksX0_back_1 4 rfl rfl)
theorem dX0_back_29 : decode cX0_back 29 = .ok (.invokevirtual 370, 3) := dk_182 1 114 (dk_at dksX0_back_1 5 rfl rfl)
theorem dX0_back_32 : decode cX0_back 32 = .ok (.aload_n 0, 1) := dk_42 (dk_at dksX0_back_1 8 rfl rfl)
theorem dX0_back_33 : decode cX0_back 33 = .ok (.getfield 19, 3) := dk_180 0 19 (dk_at dksX0_back_1 9 rfl rfl)
theorem dX0_back_36 : decode cX0_back 36 = .ok (.getfield 176, 3) := dk_180 0 176 (dk_at dksX0_back_1 12 rfl rfl)
theorem dX0_back_39 : decode cX0_back 39 = .ok (.ireturn, 1) := dk_172 (dk_at dksX0_back_1 15 rfl rfl)
theorem q130 : (Jvm.Cond.initialized "SweptSnow") ∈ lw_all := lw_g (lw_at lw_m1 1 rfl) rfl
theorem q167 : (Jvm.Cond.instantiable "SweptSnow" (27 : Nat)) ∈ lw_all := lw_g (lw_at lw_m1 38 rfl) rfl
theorem q169 : (Jvm.Cond.instanceMethod ({ cls := "SweptSnow", name := "<init>", desc := "()V" } : Jvm.MethodName)) ∈ lw_all := lw_g (lw_at lw_m1 40 rfl) rfl
theorem q170 : (Jvm.Cond.code ({ cls := "SweptSnow", name := "<init>", desc := "()V" } : Jvm.MethodName) prog_1_method_4_code (1 : Nat) (Option.none : Option Jvm.ClassFile.FieldType)) ∈ lw_all := lw_g (lw_at lw_m1 41 rfl) rfl
theorem q171 : (Jvm.Cond.methodLink "SweptSnow" (1 : Nat) ({ cls := "java/lang/Object", name := "<init>", desc := "()V" } : Jvm.MethodName)) ∈ lw_all := lw_g (lw_at lw_m1 42 rfl) rfl
theorem q174 : (Jvm.Cond.classLink "SweptSnow" (7 : Nat) "SweptSnow$Valley") ∈ lw_all := lw_g (lw_at lw_m1 45 rfl) rfl
theorem q176 : (Jvm.Cond.methodLink "SweptSnow" (9 : Nat) ({ cls := "SweptSnow$Valley", name := "<init>", desc := "()V" } : Jvm.MethodName)) ∈ lw_all := lw_g (lw_at lw_m1 47 rfl) rfl
theorem q209 : (Jvm.Cond.fieldLinkNest "SweptSnow" (186 : Nat) "SweptSnow$Valley" "houses" "Ljava/util/ArrayList;" "SweptSnow") ∈ lw_tbl := lw_at lw_m1 80 rfl
theorem q215 : (Jvm.Cond.fieldLinkNest "SweptSnow" (173 : Nat) "SweptSnow$Valley" "beside" "[I" "SweptSnow") ∈ lw_tbl := lw_at lw_m1 86 rfl
theorem q221 : (Jvm.Cond.fieldLinkNest "SweptSnow" (206 : Nat) "SweptSnow$Valley" "needed" "[I" "SweptSnow") ∈ lw_tbl := lw_at lw_m1 92 rfl
theorem q223 : (Jvm.Cond.fieldLinkNest "SweptSnow" (100 : Nat) "SweptSnow$Valley" "fall" "I" "SweptSnow") ∈ lw_tbl := lw_at lw_m1 94 rfl
theorem q227 : (Jvm.Cond.fieldLinkNest "SweptSnow" (156 : Nat) "SweptSnow$Valley" "deep" "I" "SweptSnow") ∈ lw_tbl := lw_at lw_m1 98 rfl
theorem q245 : (Jvm.Cond.classLink "SweptSnow" (16 : Nat) "SweptSnow$State") ∈ lw_all := lw_g (lw_at lw_m1 116 rfl) rfl
theorem q247 : (Jvm.Cond.methodLinkNest "SweptSnow" (18 : Nat) ({ cls := "SweptSnow$State", name := "<init>", desc := "()V" } : Jvm.MethodName) "SweptSnow") ∈ lw_tbl := lw_at lw_m1 118 rfl
theorem q252 : (Jvm.Cond.fieldLinkNest "SweptSnow" (153 : Nat) "SweptSnow$State" "snow" "[I" "SweptSnow") ∈ lw_tbl := lw_at lw_m1 123 rfl
theorem q254 : (Jvm.Cond.fieldLinkNest "SweptSnow" (170 : Nat) "SweptSnow$State" "wall" "[I" "SweptSnow") ∈ lw_tbl := lw_at lw_m1 125 rfl
theorem q256 : (Jvm.Cond.fieldLinkNest "SweptSnow" (176 : Nat) "SweptSnow$State" "day" "I" "SweptSnow") ∈ lw_tbl := lw_at lw_m1 127 rfl
theorem q258 : (Jvm.Cond.fieldLinkNest "SweptSnow" (163 : Nat) "SweptSnow$State" "swept" "I" "SweptSnow") ∈ lw_tbl := lw_at lw_m1 129 rfl
theorem q260 : (Jvm.Cond.fieldLinkNest "SweptSnow" (212 : Nat) "SweptSnow$State" "before" "I" "SweptSnow") ∈ lw_tbl := lw_at lw_m1 131 rfl
theorem q262 : (Jvm.Cond.fieldLinkNest "SweptSnow" (200 : Nat) "SweptSnow$State" "have" "I" "SweptSnow") ∈ lw_tbl := lw_at lw_m1 133 rfl
theorem q276 : (Jvm.Cond.classLink "SweptSnow" (26 : Nat) "java/util/ArrayList") ∈ lw_all := lw_g (lw_at lw_m1 147 rfl) rfl
theorem q277 : (Jvm.Cond.methodLink "SweptSnow" (28 : Nat) ({ cls := "java/util/ArrayList", name := "<init>", desc := "(I)V" } : Jvm.MethodName)) ∈ lw_all := lw_g (lw_at lw_m1 148 rfl) rfl
theorem q278 : (Jvm.Cond.classLink "SweptSnow" (39 : Nat) "SweptSnow$Wrong") ∈ lw_all := lw_g (lw_at lw_m1 149 rfl) rfl
theorem q315 : (Jvm.Cond.methodLinkNest "SweptSnow" (41 : Nat) ({ cls := "SweptSnow$Wrong", name := "<init>", desc := "()V" } : Jvm.MethodName) "SweptSnow") ∈ lw_tbl := lw_at lw_m1 186 rfl
theorem q322 : (Jvm.Cond.fieldLinkNest "SweptSnow" (114 : Nat) "SweptSnow$Wrong" "number" "I" "SweptSnow") ∈ lw_tbl := lw_at lw_m1 193 rfl
theorem q337 : (Jvm.Cond.fieldLink "SweptSnow" (60 : Nat) "SweptSnow" "NAMES" "[Ljava/lang/String;") ∈ lw_all := lw_g (lw_at lw_m1 208 rfl) rfl
theorem q338 : (Jvm.Cond.laysStatic "SweptSnow" "NAMES" "[Ljava/lang/String;") ∈ lw_tbl := lw_at lw_m1 209 rfl
theorem q339 : (Jvm.Cond.methodLink "SweptSnow" (74 : Nat) ({ cls := "SweptSnow", name := "newStates", desc := "(I)[LSweptSnow$State;" } : Jvm.MethodName)) ∈ lw_all := lw_g (lw_at lw_m1 210 rfl) rfl
theorem q340 : (Jvm.Cond.static ({ cls := "SweptSnow", name := "newStates", desc := "(I)[LSweptSnow$State;" } : Jvm.MethodName)) ∈ lw_all := lw_g (lw_at lw_m1 211 rfl) rfl
theorem q341 : (Jvm.Cond.code ({ cls := "SweptSnow", name := "newStates", desc := "(I)[LSweptSnow$State;" } : Jvm.MethodName) prog_1_method_24_code (3 : Nat) (Option.some (Jvm.ClassFile.FieldType.array (Jvm.ClassFile.FieldType.object "SweptSnow$State")))) ∈ lw_all := lw_g (lw_at lw_m1 212 rfl) rfl
theorem q343 : (Jvm.Cond.classLink "SweptSnow" (94 : Nat) "SweptSnow$Image") ∈ lw_all := lw_g (lw_at lw_m1 214 rfl) rfl
theorem q346 : (Jvm.Cond.fieldLink "SweptSnow" (10 : Nat) "SweptSnow" "valley" "LSweptSnow$Valley;") ∈ lw_all := lw_g (lw_at lw_m1 217 rfl) rfl
theorem q348 : (Jvm.Cond.fieldLink "SweptSnow" (19 : Nat) "SweptSnow" "state" "LSweptSnow$State;") ∈ lw_all := lw_g (lw_at lw_m1 219 rfl) rfl
theorem q349 : (Jvm.Cond.fieldLink "SweptSnow" (23 : Nat) "SweptSnow" "kept" "LSweptSnow$State;") ∈ lw_all := lw_g (lw_at lw_m1 220 rfl) rfl
theorem q350 : (Jvm.Cond.fieldLink "SweptSnow" (31 : Nat) "SweptSnow" "rules" "Ljava/util/ArrayList;") ∈ lw_all := lw_g (lw_at lw_m1 221 rfl) rfl
theorem q353 : (Jvm.Cond.fieldLink "SweptSnow" (35 : Nat) "SweptSnow" "inForce" "I") ∈ lw_all := lw_g (lw_at lw_m1 224 rfl) rfl
theorem q354 : (Jvm.Cond.fieldLink "SweptSnow" (42 : Nat) "SweptSnow" "wrong" "LSweptSnow$Wrong;") ∈ lw_all := lw_g (lw_at lw_m1 225 rfl) rfl
theorem q356 : (Jvm.Cond.fieldLink "SweptSnow" (46 : Nat) "SweptSnow" "tape" "[B") ∈ lw_all := lw_g (lw_at lw_m1 227 rfl) rfl
theorem q358 : (Jvm.Cond.fieldLink "SweptSnow" (117 : Nat) "SweptSnow" "taped" "I") ∈ lw_all := lw_g (lw_at lw_m1 229 rfl) rfl
theorem q360 : (Jvm.Cond.fieldLink "SweptSnow" (50 : Nat) "SweptSnow" "noteWhen" "[I") ∈ lw_all := lw_g (lw_at lw_m1 231 rfl) rfl
theorem q362 : (Jvm.Cond.fieldLink "SweptSnow" (54 : Nat) "SweptSnow" "noteStep" "[I") ∈ lw_all := lw_g (lw_at lw_m1 233 rfl) rfl
theorem q364 : (Jvm.Cond.fieldLink "SweptSnow" (57 : Nat) "SweptSnow" "noteSnow" "[I") ∈ lw_all := lw_g (lw_at lw_m1 235 rfl) rfl
theorem q366 : (Jvm.Cond.fieldLink "SweptSnow" (135 : Nat) "SweptSnow" "notes" "I") ∈ lw_all := lw_g (lw_at lw_m1 237 rfl) rfl
theorem q368 : (Jvm.Cond.fieldLink "SweptSnow" (349 : Nat) "SweptSnow" "draw" "I") ∈ lw_all := lw_g (lw_at lw_m1 239 rfl) rfl
theorem q369 : (Jvm.Cond.fieldLink "SweptSnow" (64 : Nat) "SweptSnow" "words" "[J") ∈ lw_all := lw_g (lw_at lw_m2 0 rfl) rfl
theorem q370 : (Jvm.Cond.fieldLink "SweptSnow" (68 : Nat) "SweptSnow" "thrown" "[I") ∈ lw_all := lw_g (lw_at lw_m2 1 rfl) rfl
theorem q371 : (Jvm.Cond.fieldLink "SweptSnow" (71 : Nat) "SweptSnow" "strengthHouse" "I") ∈ lw_all := lw_g (lw_at lw_m2 2 rfl) rfl
theorem q372 : (Jvm.Cond.fieldLink "SweptSnow" (203 : Nat) "SweptSnow" "strengthNow" "I") ∈ lw_all := lw_g (lw_at lw_m2 3 rfl) rfl
theorem q373 : (Jvm.Cond.fieldLink "SweptSnow" (78 : Nat) "SweptSnow" "past" "[LSweptSnow$State;") ∈ lw_all := lw_g (lw_at lw_m2 4 rfl) rfl
theorem q375 : (Jvm.Cond.fieldLink "SweptSnow" (138 : Nat) "SweptSnow" "pastMany" "I") ∈ lw_all := lw_g (lw_at lw_m2 6 rfl) rfl
theorem q376 : (Jvm.Cond.fieldLink "SweptSnow" (256 : Nat) "SweptSnow" "pastAt" "I") ∈ lw_all := lw_g (lw_at lw_m2 7 rfl) rfl
theorem q377 : (Jvm.Cond.fieldLink "SweptSnow" (82 : Nat) "SweptSnow" "lay" "[I") ∈ lw_all := lw_g (lw_at lw_m2 8 rfl) rfl
theorem q378 : (Jvm.Cond.fieldLink "SweptSnow" (85 : Nat) "SweptSnow" "far" "[I") ∈ lw_all := lw_g (lw_at lw_m2 9 rfl) rfl
theorem q379 : (Jvm.Cond.fieldLink "SweptSnow" (88 : Nat) "SweptSnow" "gains" "[I") ∈ lw_all := lw_g (lw_at lw_m2 10 rfl) rfl
theorem q380 : (Jvm.Cond.fieldLink "SweptSnow" (332 : Nat) "SweptSnow" "best" "I") ∈ lw_all := lw_g (lw_at lw_m2 11 rfl) rfl
theorem q381 : (Jvm.Cond.fieldLink "SweptSnow" (329 : Nat) "SweptSnow" "fewest" "I") ∈ lw_all := lw_g (lw_at lw_m2 12 rfl) rfl
theorem q382 : (Jvm.Cond.fieldLink "SweptSnow" (91 : Nat) "SweptSnow" "shows" "[I") ∈ lw_all := lw_g (lw_at lw_m2 13 rfl) rfl
theorem q383 : (Jvm.Cond.fieldLink "SweptSnow" (96 : Nat) "SweptSnow" "images" "[LSweptSnow$Image;") ∈ lw_all := lw_g (lw_at lw_m2 14 rfl) rfl
theorem q384 : (Jvm.Cond.lays "SweptSnow" "SweptSnow" "valley" "LSweptSnow$Valley;") ∈ lw_all := lw_g (lw_at lw_m2 15 rfl) rfl
theorem q385 : (Jvm.Cond.soleField "SweptSnow" "valley") ∈ lw_all := lw_g (lw_at lw_m2 16 rfl) rfl
theorem q386 : (Jvm.Cond.laysFinal "SweptSnow" "SweptSnow" "state" "LSweptSnow$State;") ∈ lw_all := lw_g (lw_at lw_m2 17 rfl) rfl
theorem q387 : (Jvm.Cond.soleField "SweptSnow" "state") ∈ lw_all := lw_g (lw_at lw_m2 18 rfl) rfl
theorem q388 : (Jvm.Cond.laysFinal "SweptSnow" "SweptSnow" "kept" "LSweptSnow$State;") ∈ lw_all := lw_g (lw_at lw_m2 19 rfl) rfl
theorem q389 : (Jvm.Cond.soleField "SweptSnow" "kept") ∈ lw_all := lw_g (lw_at lw_m2 20 rfl) rfl
theorem q390 : (Jvm.Cond.laysFinal "SweptSnow" "SweptSnow" "rules" "Ljava/util/ArrayList;") ∈ lw_all := lw_g (lw_at lw_m2 21 rfl) rfl
theorem q391 : (Jvm.Cond.soleField "SweptSnow" "rules") ∈ lw_all := lw_g (lw_at lw_m2 22 rfl) rfl
theorem q392 : (Jvm.Cond.lays "SweptSnow" "SweptSnow" "inForce" "I") ∈ lw_all := lw_g (lw_at lw_m2 23 rfl) rfl
theorem q393 : (Jvm.Cond.soleField "SweptSnow" "inForce") ∈ lw_all := lw_g (lw_at lw_m2 24 rfl) rfl
theorem q394 : (Jvm.Cond.laysFinal "SweptSnow" "SweptSnow" "wrong" "LSweptSnow$Wrong;") ∈ lw_all := lw_g (lw_at lw_m2 25 rfl) rfl
theorem q395 : (Jvm.Cond.soleField "SweptSnow" "wrong") ∈ lw_all := lw_g (lw_at lw_m2 26 rfl) rfl
theorem q396 : (Jvm.Cond.laysFinal "SweptSnow" "SweptSnow" "tape" "[B") ∈ lw_all := lw_g (lw_at lw_m2 27 rfl) rfl
theorem q397 : (Jvm.Cond.soleField "SweptSnow" "tape") ∈ lw_all := lw_g (lw_at lw_m2 28 rfl) rfl
theorem q398 : (Jvm.Cond.lays "SweptSnow" "SweptSnow" "taped" "I") ∈ lw_all := lw_g (lw_at lw_m2 29 rfl) rfl
theorem q399 : (Jvm.Cond.soleField "SweptSnow" "taped") ∈ lw_all := lw_g (lw_at lw_m2 30 rfl) rfl
theorem q400 : (Jvm.Cond.laysFinal "SweptSnow" "SweptSnow" "noteWhen" "[I") ∈ lw_all := lw_g (lw_at lw_m2 31 rfl) rfl
theorem q401 : (Jvm.Cond.soleField "SweptSnow" "noteWhen") ∈ lw_all := lw_g (lw_at lw_m2 32 rfl) rfl
theorem q402 : (Jvm.Cond.laysFinal "SweptSnow" "SweptSnow" "noteStep" "[I") ∈ lw_all := lw_g (lw_at lw_m2 33 rfl) rfl
theorem q403 : (Jvm.Cond.soleField "SweptSnow" "noteStep") ∈ lw_all := lw_g (lw_at lw_m2 34 rfl) rfl
theorem q404 : (Jvm.Cond.laysFinal "SweptSnow" "SweptSnow" "noteSnow" "[I") ∈ lw_all := lw_g (lw_at lw_m2 35 rfl) rfl
theorem q405 : (Jvm.Cond.soleField "SweptSnow" "noteSnow") ∈ lw_all := lw_g (lw_at lw_m2 36 rfl) rfl
theorem q406 : (Jvm.Cond.lays "SweptSnow" "SweptSnow" "notes" "I") ∈ lw_all := lw_g (lw_at lw_m2 37 rfl) rfl
theorem q407 : (Jvm.Cond.soleField "SweptSnow" "notes") ∈ lw_all := lw_g (lw_at lw_m2 38 rfl) rfl
theorem q408 : (Jvm.Cond.lays "SweptSnow" "SweptSnow" "draw" "I") ∈ lw_all := lw_g (lw_at lw_m2 39 rfl) rfl
theorem q409 : (Jvm.Cond.soleField "SweptSnow" "draw") ∈ lw_all := lw_g (lw_at lw_m2 40 rfl) rfl
theorem q410 : (Jvm.Cond.laysFinal "SweptSnow" "SweptSnow" "words" "[J") ∈ lw_all := lw_g (lw_at lw_m2 41 rfl) rfl
theorem q411 : (Jvm.Cond.soleField "SweptSnow" "words") ∈ lw_all := lw_g (lw_at lw_m2 42 rfl) rfl
theorem q412 : (Jvm.Cond.laysFinal "SweptSnow" "SweptSnow" "thrown" "[I") ∈ lw_all := lw_g (lw_at lw_m2 43 rfl) rfl
theorem q413 : (Jvm.Cond.soleField "SweptSnow" "thrown") ∈ lw_all := lw_g (lw_at lw_m2 44 rfl) rfl
theorem q414 : (Jvm.Cond.lays "SweptSnow" "SweptSnow" "strengthHouse" "I") ∈ lw_all := lw_g (lw_at lw_m2 45 rfl) rfl
theorem q415 : (Jvm.Cond.soleField "SweptSnow" "strengthHouse") ∈ lw_all := lw_g (lw_at lw_m2 46 rfl) rfl
theorem q416 : (Jvm.Cond.lays "SweptSnow" "SweptSnow" "strengthNow" "I") ∈ lw_all := lw_g (lw_at lw_m2 47 rfl) rfl
theorem q417 : (Jvm.Cond.soleField "SweptSnow" "strengthNow") ∈ lw_all := lw_g (lw_at lw_m2 48 rfl) rfl
theorem q418 : (Jvm.Cond.laysFinal "SweptSnow" "SweptSnow" "past" "[LSweptSnow$State;") ∈ lw_all := lw_g (lw_at lw_m2 49 rfl) rfl
theorem q419 : (Jvm.Cond.soleField "SweptSnow" "past") ∈ lw_all := lw_g (lw_at lw_m2 50 rfl) rfl
theorem q420 : (Jvm.Cond.lays "SweptSnow" "SweptSnow" "pastMany" "I") ∈ lw_all := lw_g (lw_at lw_m2 51 rfl) rfl
theorem q421 : (Jvm.Cond.soleField "SweptSnow" "pastMany") ∈ lw_all := lw_g (lw_at lw_m2 52 rfl) rfl
theorem q422 : (Jvm.Cond.lays "SweptSnow" "SweptSnow" "pastAt" "I") ∈ lw_all := lw_g (lw_at lw_m2 53 rfl) rfl
theorem q423 : (Jvm.Cond.soleField "SweptSnow" "pastAt") ∈ lw_all := lw_g (lw_at lw_m2 54 rfl) rfl
theorem q424 : (Jvm.Cond.laysFinal "SweptSnow" "SweptSnow" "lay" "[I") ∈ lw_all := lw_g (lw_at lw_m2 55 rfl) rfl
theorem q425 : (Jvm.Cond.soleField "SweptSnow" "lay") ∈ lw_all := lw_g (lw_at lw_m2 56 rfl) rfl
theorem q426 : (Jvm.Cond.laysFinal "SweptSnow" "SweptSnow" "far" "[I") ∈ lw_all := lw_g (lw_at lw_m2 57 rfl) rfl
theorem q427 : (Jvm.Cond.soleField "SweptSnow" "far") ∈ lw_all := lw_g (lw_at lw_m2 58 rfl) rfl
theorem q428 : (Jvm.Cond.laysFinal "SweptSnow" "SweptSnow" "gains" "[I") ∈ lw_all := lw_g (lw_at lw_m2 59 rfl) rfl
theorem q429 : (Jvm.Cond.soleField "SweptSnow" "gains") ∈ lw_all := lw_g (lw_at lw_m2 60 rfl) rfl
theorem q430 : (Jvm.Cond.lays "SweptSnow" "SweptSnow" "best" "I") ∈ lw_all := lw_g (lw_at lw_m2 61 rfl) rfl
theorem q431 : (Jvm.Cond.soleField "SweptSnow" "best") ∈ lw_all := lw_g (lw_at lw_m2 62 rfl) rfl
theorem q432 : (Jvm.Cond.lays "SweptSnow" "SweptSnow" "fewest" "I") ∈ lw_all := lw_g (lw_at lw_m2 63 rfl) rfl
theorem q433 : (Jvm.Cond.soleField "SweptSnow" "fewest") ∈ lw_all := lw_g (lw_at lw_m2 64 rfl) rfl
theorem q434 : (Jvm.Cond.laysFinal "SweptSnow" "SweptSnow" "shows" "[I") ∈ lw_all := lw_g (lw_at lw_m2 65 rfl) rfl
theorem q435 : (Jvm.Cond.soleField "SweptSnow" "shows") ∈ lw_all := lw_g (lw_at lw_m2 66 rfl) rfl
theorem q436 : (Jvm.Cond.laysFinal "SweptSnow" "SweptSnow" "images" "[LSweptSnow$Image;") ∈ lw_all := lw_g (lw_at lw_m2 67 rfl) rfl
theorem q437 : (Jvm.Cond.soleField "SweptSnow" "images") ∈ lw_all := lw_g (lw_at lw_m2 68 rfl) rfl
theorem q438 : (Jvm.Cond.superclass "SweptSnow" "java/lang/Object") ∈ lw_all := lw_g (lw_at lw_m2 69 rfl) rfl
theorem q442 : (Jvm.Cond.instanceMethod ({ cls := "SweptSnow", name := "feed", desc := "(IIIII)I" } : Jvm.MethodName)) ∈ lw_all := lw_g (lw_at lw_m2 73 rfl) rfl
theorem q443 : (Jvm.Cond.selects "SweptSnow" ({ cls := "SweptSnow", name := "feed", desc := "(IIIII)I" } : Jvm.MethodName) ({ cls := "SweptSnow", name := "feed", desc := "(IIIII)I" } : Jvm.MethodName)) ∈ lw_all := lw_g (lw_at lw_m2 74 rfl) rfl
theorem q444 : (Jvm.Cond.code ({ cls := "SweptSnow", name := "feed", desc := "(IIIII)I" } : Jvm.MethodName) prog_1_method_9_code (6 : Nat) (Option.some Jvm.ClassFile.FieldType.int)) ∈ lw_all := lw_g (lw_at lw_m2 75 rfl) rfl
theorem q445 : (Jvm.Cond.methodLink "SweptSnow" (120 : Nat) ({ cls := "SweptSnow", name := "put", desc := "(I)V" } : Jvm.MethodName)) ∈ lw_all := lw_g (lw_at lw_m2 76 rfl) rfl
theorem q446 : (Jvm.Cond.privateMethod ({ cls := "SweptSnow", name := "put", desc := "(I)V" } : Jvm.MethodName)) ∈ lw_tbl := lw_at lw_m2 77 rfl
theorem q447 : (Jvm.Cond.instanceMethod ({ cls := "SweptSnow", name := "put", desc := "(I)V" } : Jvm.MethodName)) ∈ lw_all := lw_g (lw_at lw_m2 78 rfl) rfl
theorem q448 : (Jvm.Cond.code ({ cls := "SweptSnow", name := "put", desc := "(I)V" } : Jvm.MethodName) prog_1_method_10_code (3 : Nat) (Option.none : Option Jvm.ClassFile.FieldType)) ∈ lw_all := lw_g (lw_at lw_m2 79 rfl) rfl
theorem q450 : (Jvm.Cond.instanceMethod ({ cls := "SweptSnow", name := "end", desc := "(I)I" } : Jvm.MethodName)) ∈ lw_all := lw_g (lw_at lw_m2 81 rfl) rfl
theorem q451 : (Jvm.Cond.selects "SweptSnow" ({ cls := "SweptSnow", name := "end", desc := "(I)I" } : Jvm.MethodName) ({ cls := "SweptSnow", name := "end", desc := "(I)I" } : Jvm.MethodName)) ∈ lw_all := lw_g (lw_at lw_m2 82 rfl) rfl
theorem q452 : (Jvm.Cond.code ({ cls := "SweptSnow", name := "end", desc := "(I)I" } : Jvm.MethodName) prog_1_method_11_code (2 : Nat) (Option.some Jvm.ClassFile.FieldType.int)) ∈ lw_all := lw_g (lw_at lw_m2 83 rfl) rfl
theorem q454 : (Jvm.Cond.instanceMethod ({ cls := "SweptSnow", name := "valley", desc := "()I" } : Jvm.MethodName)) ∈ lw_all := lw_g (lw_at lw_m2 85 rfl) rfl
theorem q455 : (Jvm.Cond.selects "SweptSnow" ({ cls := "SweptSnow", name := "valley", desc := "()I" } : Jvm.MethodName) ({ cls := "SweptSnow", name := "valley", desc := "()I" } : Jvm.MethodName)) ∈ lw_all := lw_g (lw_at lw_m2 86 rfl) rfl
theorem q456 : (Jvm.Cond.codeWith ({ cls := "SweptSnow", name := "valley", desc := "()I" } : Jvm.MethodName) prog_1_method_12_code (4 : Nat) (Option.some Jvm.ClassFile.FieldType.int) [((0 : Nat), (49 : Nat), (56 : Nat), (39 : Nat)), ((0 : Nat), (49 : Nat), (72 : Nat), (0 : Nat)), ((56 : Nat), (65 : Nat), (72 : Nat), (0 : Nat))]) ∈ lw_all := lw_g (lw_at lw_m2 87 rfl) rfl
theorem q457 : (Jvm.Cond.classLink "SweptSnow" (123 : Nat) "SweptSnow$Parser") ∈ lw_all := lw_g (lw_at lw_m2 88 rfl) rfl
theorem q459 : (Jvm.Cond.methodLink "SweptSnow" (125 : Nat) ({ cls := "SweptSnow$Parser", name := "<init>", desc := "(LSweptSnow;[Ljava/lang/String;I)V" } : Jvm.MethodName)) ∈ lw_all := lw_g (lw_at lw_m2 90 rfl) rfl
theorem q485 : (Jvm.Cond.methodLink "SweptSnow" (128 : Nat) ({ cls := "SweptSnow$Parser", name := "valley", desc := "()LSweptSnow$Valley;" } : Jvm.MethodName)) ∈ lw_all := lw_g (lw_at lw_m2 116 rfl) rfl
theorem q515 : (Jvm.Cond.static ({ cls := "SweptSnow", name := "in", desc := "(JJJ)Z" } : Jvm.MethodName)) ∈ lw_all := lw_g (lw_at lw_m2 146 rfl) rfl
theorem q516 : (Jvm.Cond.code ({ cls := "SweptSnow", name := "in", desc := "(JJJ)Z" } : Jvm.MethodName) prog_1_method_1_code (6 : Nat) (Option.some Jvm.ClassFile.FieldType.boolean)) ∈ lw_all := lw_g (lw_at lw_m2 147 rfl) rfl
theorem q566 : (Jvm.Cond.privateMethod ({ cls := "SweptSnow", name := "fails", desc := "(II)LSweptSnow$Wrong;" } : Jvm.MethodName)) ∈ lw_tbl := lw_at lw_m2 197 rfl
theorem q567 : (Jvm.Cond.instanceMethod ({ cls := "SweptSnow", name := "fails", desc := "(II)LSweptSnow$Wrong;" } : Jvm.MethodName)) ∈ lw_all := lw_g (lw_at lw_m2 198 rfl) rfl
theorem q568 : (Jvm.Cond.code ({ cls := "SweptSnow", name := "fails", desc := "(II)LSweptSnow$Wrong;" } : Jvm.MethodName) prog_1_method_8_code (3 : Nat) (Option.some (Jvm.ClassFile.FieldType.object "SweptSnow$Wrong"))) ∈ lw_all := lw_g (lw_at lw_m2 199 rfl) rfl
theorem q642 : (Jvm.Cond.selects "SweptSnow" ({ cls := "java/lang/Object", name := "getClass", desc := "()Ljava/lang/Class;" } : Jvm.MethodName) ({ cls := "java/lang/Object", name := "getClass", desc := "()Ljava/lang/Class;" } : Jvm.MethodName)) ∈ lw_all := lw_g (lw_at lw_m3 33 rfl) rfl
theorem q692 : (Jvm.Cond.fieldLinkNest "SweptSnow" (194 : Nat) "SweptSnow$House" "step" "I" "SweptSnow") ∈ lw_tbl := lw_at lw_m3 83 rfl
theorem q694 : (Jvm.Cond.fieldLinkNest "SweptSnow" (197 : Nat) "SweptSnow$House" "strength" "I" "SweptSnow") ∈ lw_tbl := lw_at lw_m3 85 rfl
theorem q723 : (Jvm.Cond.methodLink "SweptSnow" (131 : Nat) ({ cls := "SweptSnow$State", name := "begin", desc := "(LSweptSnow$Valley;)V" } : Jvm.MethodName)) ∈ lw_all := lw_g (lw_at lw_m3 114 rfl) rfl
theorem q745 : (Jvm.Cond.methodLink "SweptSnow" (103 : Nat) ({ cls := "SweptSnow$Valley", name := "steps", desc := "()I" } : Jvm.MethodName)) ∈ lw_all := lw_g (lw_at lw_m3 136 rfl) rfl
theorem q747 : (Jvm.Cond.instanceMethod ({ cls := "SweptSnow", name := "rule", desc := "()I" } : Jvm.MethodName)) ∈ lw_all := lw_g (lw_at lw_m3 138 rfl) rfl
theorem q748 : (Jvm.Cond.selects "SweptSnow" ({ cls := "SweptSnow", name := "rule", desc := "()I" } : Jvm.MethodName) ({ cls := "SweptSnow", name := "rule", desc := "()I" } : Jvm.MethodName)) ∈ lw_all := lw_g (lw_at lw_m3 139 rfl) rfl
theorem q749 : (Jvm.Cond.codeWith ({ cls := "SweptSnow", name := "rule", desc := "()I" } : Jvm.MethodName) prog_1_method_13_code (4 : Nat) (Option.some Jvm.ClassFile.FieldType.int) [((14 : Nat), (31 : Nat), (38 : Nat), (39 : Nat)), ((14 : Nat), (31 : Nat), (54 : Nat), (0 : Nat)), ((38 : Nat), (47 : Nat), (54 : Nat), (0 : Nat))]) ∈ lw_all := lw_g (lw_at lw_m3 140 rfl) rfl
theorem q750 : (Jvm.Cond.methodLink "SweptSnow" (141 : Nat) ({ cls := "java/util/ArrayList", name := "size", desc := "()I" } : Jvm.MethodName)) ∈ lw_all := lw_g (lw_at lw_m3 141 rfl) rfl
theorem q751 : (Jvm.Cond.methodLink "SweptSnow" (144 : Nat) ({ cls := "SweptSnow$Parser", name := "rule", desc := "()I" } : Jvm.MethodName)) ∈ lw_all := lw_g (lw_at lw_m3 142 rfl) rfl
theorem q917 : (Jvm.Cond.instanceMethod ({ cls := "SweptSnow", name := "force", desc := "(I)I" } : Jvm.MethodName)) ∈ lw_all := lw_g (lw_at lw_m4 68 rfl) rfl
theorem q918 : (Jvm.Cond.selects "SweptSnow" ({ cls := "SweptSnow", name := "force", desc := "(I)I" } : Jvm.MethodName) ({ cls := "SweptSnow", name := "force", desc := "(I)I" } : Jvm.MethodName)) ∈ lw_all := lw_g (lw_at lw_m4 69 rfl) rfl
theorem q919 : (Jvm.Cond.code ({ cls := "SweptSnow", name := "force", desc := "(I)I" } : Jvm.MethodName) prog_1_method_14_code (3 : Nat) (Option.some Jvm.ClassFile.FieldType.int)) ∈ lw_all := lw_g (lw_at lw_m4 70 rfl) rfl
theorem q920 : (Jvm.Cond.constantLong "SweptSnow" (147 : Nat) (-1 : Int64)) ∈ lw_all := lw_g (lw_at lw_m4 71 rfl) rfl
theorem q921 : (Jvm.Cond.methodLink "SweptSnow" (107 : Nat) ({ cls := "SweptSnow", name := "in", desc := "(JJJ)Z" } : Jvm.MethodName)) ∈ lw_all := lw_g (lw_at lw_m4 72 rfl) rfl
theorem q923 : (Jvm.Cond.instanceMethod ({ cls := "SweptSnow", name := "step", desc := "(II)I" } : Jvm.MethodName)) ∈ lw_all := lw_g (lw_at lw_m4 74 rfl) rfl
theorem q924 : (Jvm.Cond.selects "SweptSnow" ({ cls := "SweptSnow", name := "step", desc := "(II)I" } : Jvm.MethodName) ({ cls := "SweptSnow", name := "step", desc := "(II)I" } : Jvm.MethodName)) ∈ lw_all := lw_g (lw_at lw_m4 75 rfl) rfl
theorem q925 : (Jvm.Cond.code ({ cls := "SweptSnow", name := "step", desc := "(II)I" } : Jvm.MethodName) prog_1_method_15_code (3 : Nat) (Option.some Jvm.ClassFile.FieldType.int)) ∈ lw_all := lw_g (lw_at lw_m4 76 rfl) rfl
theorem q926 : (Jvm.Cond.methodLink "SweptSnow" (149 : Nat) ({ cls := "SweptSnow", name := "isStep", desc := "(I)Z" } : Jvm.MethodName)) ∈ lw_all := lw_g (lw_at lw_m4 77 rfl) rfl
theorem q927 : (Jvm.Cond.privateMethod ({ cls := "SweptSnow", name := "isStep", desc := "(I)Z" } : Jvm.MethodName)) ∈ lw_tbl := lw_at lw_m4 78 rfl
theorem q928 : (Jvm.Cond.instanceMethod ({ cls := "SweptSnow", name := "isStep", desc := "(I)Z" } : Jvm.MethodName)) ∈ lw_all := lw_g (lw_at lw_m4 79 rfl) rfl
theorem q929 : (Jvm.Cond.code ({ cls := "SweptSnow", name := "isStep", desc := "(I)Z" } : Jvm.MethodName) prog_1_method_6_code (2 : Nat) (Option.some Jvm.ClassFile.FieldType.boolean)) ∈ lw_all := lw_g (lw_at lw_m4 80 rfl) rfl
theorem q930 : (Jvm.Cond.methodLink "SweptSnow" (159 : Nat) ({ cls := "SweptSnow", name := "bit", desc := "(Z)I" } : Jvm.MethodName)) ∈ lw_all := lw_g (lw_at lw_m4 81 rfl) rfl
theorem q931 : (Jvm.Cond.static ({ cls := "SweptSnow", name := "bit", desc := "(Z)I" } : Jvm.MethodName)) ∈ lw_all := lw_g (lw_at lw_m4 82 rfl) rfl
theorem q932 : (Jvm.Cond.code ({ cls := "SweptSnow", name := "bit", desc := "(Z)I" } : Jvm.MethodName) prog_1_method_3_code (1 : Nat) (Option.some Jvm.ClassFile.FieldType.int)) ∈ lw_all := lw_g (lw_at lw_m4 83 rfl) rfl
theorem q933 : (Jvm.Cond.methodLink "SweptSnow" (166 : Nat) ({ cls := "SweptSnow", name := "has", desc := "(II)Z" } : Jvm.MethodName)) ∈ lw_all := lw_g (lw_at lw_m4 84 rfl) rfl
theorem q934 : (Jvm.Cond.static ({ cls := "SweptSnow", name := "has", desc := "(II)Z" } : Jvm.MethodName)) ∈ lw_all := lw_g (lw_at lw_m4 85 rfl) rfl
theorem q935 : (Jvm.Cond.code ({ cls := "SweptSnow", name := "has", desc := "(II)Z" } : Jvm.MethodName) prog_1_method_2_code (2 : Nat) (Option.some Jvm.ClassFile.FieldType.boolean)) ∈ lw_all := lw_g (lw_at lw_m4 86 rfl) rfl
theorem q936 : (Jvm.Cond.methodLink "SweptSnow" (179 : Nat) ({ cls := "SweptSnow$Valley", name := "neededOn", desc := "(I)I" } : Jvm.MethodName)) ∈ lw_all := lw_g (lw_at lw_m4 87 rfl) rfl
theorem q941 : (Jvm.Cond.instanceMethod ({ cls := "SweptSnow", name := "house", desc := "(II)I" } : Jvm.MethodName)) ∈ lw_all := lw_g (lw_at lw_m4 92 rfl) rfl
theorem q942 : (Jvm.Cond.selects "SweptSnow" ({ cls := "SweptSnow", name := "house", desc := "(II)I" } : Jvm.MethodName) ({ cls := "SweptSnow", name := "house", desc := "(II)I" } : Jvm.MethodName)) ∈ lw_all := lw_g (lw_at lw_m4 93 rfl) rfl
theorem q943 : (Jvm.Cond.code ({ cls := "SweptSnow", name := "house", desc := "(II)I" } : Jvm.MethodName) prog_1_method_16_code (3 : Nat) (Option.some Jvm.ClassFile.FieldType.int)) ∈ lw_all := lw_g (lw_at lw_m4 94 rfl) rfl
theorem q944 : (Jvm.Cond.methodLink "SweptSnow" (183 : Nat) ({ cls := "SweptSnow", name := "isHouse", desc := "(I)Z" } : Jvm.MethodName)) ∈ lw_all := lw_g (lw_at lw_m4 95 rfl) rfl
theorem q945 : (Jvm.Cond.privateMethod ({ cls := "SweptSnow", name := "isHouse", desc := "(I)Z" } : Jvm.MethodName)) ∈ lw_tbl := lw_at lw_m4 96 rfl
theorem q946 : (Jvm.Cond.instanceMethod ({ cls := "SweptSnow", name := "isHouse", desc := "(I)Z" } : Jvm.MethodName)) ∈ lw_all := lw_g (lw_at lw_m4 97 rfl) rfl
theorem q947 : (Jvm.Cond.code ({ cls := "SweptSnow", name := "isHouse", desc := "(I)Z" } : Jvm.MethodName) prog_1_method_7_code (2 : Nat) (Option.some Jvm.ClassFile.FieldType.boolean)) ∈ lw_all := lw_g (lw_at lw_m4 98 rfl) rfl
theorem q948 : (Jvm.Cond.methodLink "SweptSnow" (111 : Nat) ({ cls := "SweptSnow$Valley", name := "houses", desc := "()I" } : Jvm.MethodName)) ∈ lw_all := lw_g (lw_at lw_m4 99 rfl) rfl
theorem q949 : (Jvm.Cond.methodLink "SweptSnow" (188 : Nat) ({ cls := "java/util/ArrayList", name := "get", desc := "(I)Ljava/lang/Object;" } : Jvm.MethodName)) ∈ lw_all := lw_g (lw_at lw_m4 100 rfl) rfl
theorem q950 : (Jvm.Cond.classLink "SweptSnow" (192 : Nat) "SweptSnow$House") ∈ lw_all := lw_g (lw_at lw_m4 101 rfl) rfl
theorem q952 : (Jvm.Cond.instanceMethod ({ cls := "SweptSnow", name := "undo", desc := "()I" } : Jvm.MethodName)) ∈ lw_all := lw_g (lw_at lw_m4 103 rfl) rfl
theorem q953 : (Jvm.Cond.selects "SweptSnow" ({ cls := "SweptSnow", name := "undo", desc := "()I" } : Jvm.MethodName) ({ cls := "SweptSnow", name := "undo", desc := "()I" } : Jvm.MethodName)) ∈ lw_all := lw_g (lw_at lw_m4 104 rfl) rfl
theorem q954 : (Jvm.Cond.code ({ cls := "SweptSnow", name := "undo", desc := "()I" } : Jvm.MethodName) prog_1_method_26_code (1 : Nat) (Option.some Jvm.ClassFile.FieldType.int)) ∈ lw_all := lw_g (lw_at lw_m4 105 rfl) rfl
theorem q955 : (Jvm.Cond.methodLink "SweptSnow" (259 : Nat) ({ cls := "SweptSnow$State", name := "copyFrom", desc := "(LSweptSnow$State;)V" } : Jvm.MethodName)) ∈ lw_all := lw_g (lw_at lw_m4 106 rfl) rfl
theorem q960 : (Jvm.Cond.instanceMethod ({ cls := "SweptSnow", name := "day", desc := "()I" } : Jvm.MethodName)) ∈ lw_all := lw_g (lw_at lw_m4 111 rfl) rfl
theorem q961 : (Jvm.Cond.selects "SweptSnow" ({ cls := "SweptSnow", name := "day", desc := "()I" } : Jvm.MethodName) ({ cls := "SweptSnow", name := "day", desc := "()I" } : Jvm.MethodName)) ∈ lw_all := lw_g (lw_at lw_m4 112 rfl) rfl
theorem q962 : (Jvm.Cond.code ({ cls := "SweptSnow", name := "day", desc := "()I" } : Jvm.MethodName) prog_1_method_27_code (1 : Nat) (Option.some Jvm.ClassFile.FieldType.int)) ∈ lw_all := lw_g (lw_at lw_m4 113 rfl) rfl
theorem q963 : (Jvm.Cond.methodLink "SweptSnow" (268 : Nat) ({ cls := "SweptSnow", name := "isValley", desc := "()Z" } : Jvm.MethodName)) ∈ lw_all := lw_g (lw_at lw_m4 114 rfl) rfl
theorem q964 : (Jvm.Cond.privateMethod ({ cls := "SweptSnow", name := "isValley", desc := "()Z" } : Jvm.MethodName)) ∈ lw_tbl := lw_at lw_m4 115 rfl
theorem q965 : (Jvm.Cond.instanceMethod ({ cls := "SweptSnow", name := "isValley", desc := "()Z" } : Jvm.MethodName)) ∈ lw_all := lw_g (lw_at lw_m4 116 rfl) rfl
theorem q966 : (Jvm.Cond.code ({ cls := "SweptSnow", name := "isValley", desc := "()Z" } : Jvm.MethodName) prog_1_method_5_code (1 : Nat) (Option.some Jvm.ClassFile.FieldType.boolean)) ∈ lw_all := lw_g (lw_at lw_m4 117 rfl) rfl
theorem q967 : (Jvm.Cond.methodLink "SweptSnow" (272 : Nat) ({ cls := "SweptSnow", name := "keeps", desc := "()V" } : Jvm.MethodName)) ∈ lw_all := lw_g (lw_at lw_m4 118 rfl) rfl
theorem q968 : (Jvm.Cond.privateMethod ({ cls := "SweptSnow", name := "keeps", desc := "()V" } : Jvm.MethodName)) ∈ lw_tbl := lw_at lw_m4 119 rfl
theorem q969 : (Jvm.Cond.instanceMethod ({ cls := "SweptSnow", name := "keeps", desc := "()V" } : Jvm.MethodName)) ∈ lw_all := lw_g (lw_at lw_m4 120 rfl) rfl
theorem q970 : (Jvm.Cond.code ({ cls := "SweptSnow", name := "keeps", desc := "()V" } : Jvm.MethodName) prog_1_method_25_code (1 : Nat) (Option.none : Option Jvm.ClassFile.FieldType)) ∈ lw_all := lw_g (lw_at lw_m4 121 rfl) rfl
theorem q971 : (Jvm.Cond.methodLink "SweptSnow" (263 : Nat) ({ cls := "java/lang/Math", name := "min", desc := "(II)I" } : Jvm.MethodName)) ∈ lw_all := lw_g (lw_at lw_m4 122 rfl) rfl
theorem q972 : (Jvm.Cond.methodLink "SweptSnow" (252 : Nat) ({ cls := "SweptSnow", name := "goesOn", desc := "(LSweptSnow$State;)I" } : Jvm.MethodName)) ∈ lw_all := lw_g (lw_at lw_m4 123 rfl) rfl
theorem q973 : (Jvm.Cond.privateMethod ({ cls := "SweptSnow", name := "goesOn", desc := "(LSweptSnow$State;)I" } : Jvm.MethodName)) ∈ lw_tbl := lw_at lw_m4 124 rfl
theorem q974 : (Jvm.Cond.instanceMethod ({ cls := "SweptSnow", name := "goesOn", desc := "(LSweptSnow$State;)I" } : Jvm.MethodName)) ∈ lw_all := lw_g (lw_at lw_m4 125 rfl) rfl
theorem q975 : (Jvm.Cond.code ({ cls := "SweptSnow", name := "goesOn", desc := "(LSweptSnow$State;)I" } : Jvm.MethodName) prog_1_method_22_code (4 : Nat) (Option.some Jvm.ClassFile.FieldType.int)) ∈ lw_all := lw_g (lw_at lw_m4 126 rfl) rfl
theorem q976 : (Jvm.Cond.methodLink "SweptSnow" (241 : Nat) ({ cls := "SweptSnow", name := "choiceOf", desc := "(LSweptSnow$State;I)I" } : Jvm.MethodName)) ∈ lw_all := lw_g (lw_at lw_m4 127 rfl) rfl
theorem q977 : (Jvm.Cond.privateMethod ({ cls := "SweptSnow", name := "choiceOf", desc := "(LSweptSnow$State;I)I" } : Jvm.MethodName)) ∈ lw_tbl := lw_at lw_m4 128 rfl
theorem q978 : (Jvm.Cond.instanceMethod ({ cls := "SweptSnow", name := "choiceOf", desc := "(LSweptSnow$State;I)I" } : Jvm.MethodName)) ∈ lw_all := lw_g (lw_at lw_m4 129 rfl) rfl
theorem q979 : (Jvm.Cond.code ({ cls := "SweptSnow", name := "choiceOf", desc := "(LSweptSnow$State;I)I" } : Jvm.MethodName) prog_1_method_20_code (9 : Nat) (Option.some Jvm.ClassFile.FieldType.int)) ∈ lw_all := lw_g (lw_at lw_m4 130 rfl) rfl
theorem q980 : (Jvm.Cond.methodLink "SweptSnow" (228 : Nat) ({ cls := "SweptSnow", name := "asks", desc := "(LSweptSnow$State;II)V" } : Jvm.MethodName)) ∈ lw_all := lw_g (lw_at lw_m4 131 rfl) rfl
theorem q981 : (Jvm.Cond.privateMethod ({ cls := "SweptSnow", name := "asks", desc := "(LSweptSnow$State;II)V" } : Jvm.MethodName)) ∈ lw_tbl := lw_at lw_m4 132 rfl
theorem q982 : (Jvm.Cond.instanceMethod ({ cls := "SweptSnow", name := "asks", desc := "(LSweptSnow$State;II)V" } : Jvm.MethodName)) ∈ lw_all := lw_g (lw_at lw_m4 133 rfl) rfl
theorem q983 : (Jvm.Cond.code ({ cls := "SweptSnow", name := "asks", desc := "(LSweptSnow$State;II)V" } : Jvm.MethodName) prog_1_method_19_code (5 : Nat) (Option.none : Option Jvm.ClassFile.FieldType)) ∈ lw_all := lw_g (lw_at lw_m4 134 rfl) rfl
theorem q984 : (Jvm.Cond.methodLink "SweptSnow" (209 : Nat) ({ cls := "SweptSnow", name := "strengthOf", desc := "(I)I" } : Jvm.MethodName)) ∈ lw_all := lw_g (lw_at lw_m4 135 rfl) rfl
theorem q985 : (Jvm.Cond.privateMethod ({ cls := "SweptSnow", name := "strengthOf", desc := "(I)I" } : Jvm.MethodName)) ∈ lw_tbl := lw_at lw_m4 136 rfl
theorem q986 : (Jvm.Cond.instanceMethod ({ cls := "SweptSnow", name := "strengthOf", desc := "(I)I" } : Jvm.MethodName)) ∈ lw_all := lw_g (lw_at lw_m4 137 rfl) rfl
theorem q987 : (Jvm.Cond.code ({ cls := "SweptSnow", name := "strengthOf", desc := "(I)I" } : Jvm.MethodName) prog_1_method_17_code (2 : Nat) (Option.some Jvm.ClassFile.FieldType.int)) ∈ lw_all := lw_g (lw_at lw_m4 138 rfl) rfl
theorem q988 : (Jvm.Cond.methodLink "SweptSnow" (215 : Nat) ({ cls := "SweptSnow$State", name := "closed", desc := "(LSweptSnow$Valley;)I" } : Jvm.MethodName)) ∈ lw_all := lw_g (lw_at lw_m4 139 rfl) rfl
theorem q992 : (Jvm.Cond.methodLink "SweptSnow" (219 : Nat) ({ cls := "java/lang/Integer", name := "bitCount", desc := "(I)I" } : Jvm.MethodName)) ∈ lw_all := lw_g (lw_at lw_m4 143 rfl) rfl
theorem q998 : (Jvm.Cond.methodLink "SweptSnow" (224 : Nat) ({ cls := "SweptSnow", name := "nextNeed", desc := "(II)I" } : Jvm.MethodName)) ∈ lw_all := lw_g (lw_at lw_m4 149 rfl) rfl
theorem q999 : (Jvm.Cond.privateMethod ({ cls := "SweptSnow", name := "nextNeed", desc := "(II)I" } : Jvm.MethodName)) ∈ lw_tbl := lw_at lw_m4 150 rfl
theorem q1000 : (Jvm.Cond.instanceMethod ({ cls := "SweptSnow", name := "nextNeed", desc := "(II)I" } : Jvm.MethodName)) ∈ lw_all := lw_g (lw_at lw_m4 151 rfl) rfl
theorem q1001 : (Jvm.Cond.code ({ cls := "SweptSnow", name := "nextNeed", desc := "(II)I" } : Jvm.MethodName) prog_1_method_18_code (4 : Nat) (Option.some Jvm.ClassFile.FieldType.int)) ∈ lw_all := lw_g (lw_at lw_m4 152 rfl) rfl
theorem q1002 : (Jvm.Cond.classLink "SweptSnow" (232 : Nat) "SweptSnow$Rule") ∈ lw_all := lw_g (lw_at lw_m4 153 rfl) rfl
theorem q1003 : (Jvm.Cond.methodLink "SweptSnow" (234 : Nat) ({ cls := "SweptSnow$Rule", name := "wants", desc := "([J)J" } : Jvm.MethodName)) ∈ lw_all := lw_g (lw_at lw_m4 154 rfl) rfl
theorem q1042 : (Jvm.Cond.methodLink "SweptSnow" (245 : Nat) ({ cls := "SweptSnow", name := "houseSweeps", desc := "(LSweptSnow$State;II)I" } : Jvm.MethodName)) ∈ lw_all := lw_g (lw_at lw_m4 193 rfl) rfl
theorem q1043 : (Jvm.Cond.privateMethod ({ cls := "SweptSnow", name := "houseSweeps", desc := "(LSweptSnow$State;II)I" } : Jvm.MethodName)) ∈ lw_tbl := lw_at lw_m4 194 rfl
theorem q1044 : (Jvm.Cond.instanceMethod ({ cls := "SweptSnow", name := "houseSweeps", desc := "(LSweptSnow$State;II)I" } : Jvm.MethodName)) ∈ lw_all := lw_g (lw_at lw_m4 195 rfl) rfl
theorem q1045 : (Jvm.Cond.code ({ cls := "SweptSnow", name := "houseSweeps", desc := "(LSweptSnow$State;II)I" } : Jvm.MethodName) prog_1_method_21_code (5 : Nat) (Option.some Jvm.ClassFile.FieldType.int)) ∈ lw_all := lw_g (lw_at lw_m4 196 rfl) rfl
theorem q1046 : (Jvm.Cond.methodLink "SweptSnow" (238 : Nat) ({ cls := "SweptSnow$State", name := "sweeps", desc := "(II)I" } : Jvm.MethodName)) ∈ lw_all := lw_g (lw_at lw_m4 197 rfl) rfl
theorem q1055 : (Jvm.Cond.methodLink "SweptSnow" (249 : Nat) ({ cls := "SweptSnow$State", name := "night", desc := "(LSweptSnow$Valley;)I" } : Jvm.MethodName)) ∈ lw_all := lw_g (lw_at lw_m4 206 rfl) rfl
theorem q1061 : (Jvm.Cond.instanceMethod ({ cls := "SweptSnow", name := "sweep", desc := "(II)I" } : Jvm.MethodName)) ∈ lw_all := lw_g (lw_at lw_m4 212 rfl) rfl
theorem q1062 : (Jvm.Cond.selects "SweptSnow" ({ cls := "SweptSnow", name := "sweep", desc := "(II)I" } : Jvm.MethodName) ({ cls := "SweptSnow", name := "sweep", desc := "(II)I" } : Jvm.MethodName)) ∈ lw_all := lw_g (lw_at lw_m4 213 rfl) rfl
theorem q1063 : (Jvm.Cond.code ({ cls := "SweptSnow", name := "sweep", desc := "(II)I" } : Jvm.MethodName) prog_1_method_28_code (3 : Nat) (Option.some Jvm.ClassFile.FieldType.int)) ∈ lw_all := lw_g (lw_at lw_m4 214 rfl) rfl
theorem q1065 : (Jvm.Cond.instanceMethod ({ cls := "SweptSnow", name := "toss", desc := "(II)I" } : Jvm.MethodName)) ∈ lw_all := lw_g (lw_at lw_m4 216 rfl) rfl
theorem q1066 : (Jvm.Cond.selects "SweptSnow" ({ cls := "SweptSnow", name := "toss", desc := "(II)I" } : Jvm.MethodName) ({ cls := "SweptSnow", name := "toss", desc := "(II)I" } : Jvm.MethodName)) ∈ lw_all := lw_g (lw_at lw_m4 217 rfl) rfl
theorem q1067 : (Jvm.Cond.code ({ cls := "SweptSnow", name := "toss", desc := "(II)I" } : Jvm.MethodName) prog_1_method_29_code (3 : Nat) (Option.some Jvm.ClassFile.FieldType.int)) ∈ lw_all := lw_g (lw_at lw_m4 218 rfl) rfl
theorem q1068 : (Jvm.Cond.constantLong "SweptSnow" (275 : Nat) (99 : Int64)) ∈ lw_all := lw_g (lw_at lw_m4 219 rfl) rfl
theorem q1069 : (Jvm.Cond.methodLink "SweptSnow" (277 : Nat) ({ cls := "SweptSnow$State", name := "comes", desc := "(II)V" } : Jvm.MethodName)) ∈ lw_all := lw_g (lw_at lw_m4 220 rfl) rfl
theorem q1071 : (Jvm.Cond.instanceMethod ({ cls := "SweptSnow", name := "pull", desc := "(I)I" } : Jvm.MethodName)) ∈ lw_all := lw_g (lw_at lw_m4 222 rfl) rfl
theorem q1072 : (Jvm.Cond.selects "SweptSnow" ({ cls := "SweptSnow", name := "pull", desc := "(I)I" } : Jvm.MethodName) ({ cls := "SweptSnow", name := "pull", desc := "(I)I" } : Jvm.MethodName)) ∈ lw_all := lw_g (lw_at lw_m4 223 rfl) rfl
theorem q1073 : (Jvm.Cond.code ({ cls := "SweptSnow", name := "pull", desc := "(I)I" } : Jvm.MethodName) prog_1_method_30_code (3 : Nat) (Option.some Jvm.ClassFile.FieldType.int)) ∈ lw_all := lw_g (lw_at lw_m4 224 rfl) rfl
theorem q1075 : (Jvm.Cond.instanceMethod ({ cls := "SweptSnow", name := "thaw", desc := "()I" } : Jvm.MethodName)) ∈ lw_all := lw_g (lw_at lw_m4 226 rfl) rfl
theorem q1076 : (Jvm.Cond.selects "SweptSnow" ({ cls := "SweptSnow", name := "thaw", desc := "()I" } : Jvm.MethodName) ({ cls := "SweptSnow", name := "thaw", desc := "()I" } : Jvm.MethodName)) ∈ lw_all := lw_g (lw_at lw_m4 227 rfl) rfl
theorem q1077 : (Jvm.Cond.code ({ cls := "SweptSnow", name := "thaw", desc := "()I" } : Jvm.MethodName) prog_1_method_31_code (2 : Nat) (Option.some Jvm.ClassFile.FieldType.int)) ∈ lw_all := lw_g (lw_at lw_m4 228 rfl) rfl
theorem q1078 : (Jvm.Cond.methodLink "SweptSnow" (281 : Nat) ({ cls := "SweptSnow$State", name := "all", desc := "()I" } : Jvm.MethodName)) ∈ lw_all := lw_g (lw_at lw_m4 229 rfl) rfl
theorem q1083 : (Jvm.Cond.instanceMethod ({ cls := "SweptSnow", name := "ahead", desc := "(III)I" } : Jvm.MethodName)) ∈ lw_all := lw_g (lw_at lw_m4 234 rfl) rfl
theorem q1084 : (Jvm.Cond.selects "SweptSnow" ({ cls := "SweptSnow", name := "ahead", desc := "(III)I" } : Jvm.MethodName) ({ cls := "SweptSnow", name := "ahead", desc := "(III)I" } : Jvm.MethodName)) ∈ lw_all := lw_g (lw_at lw_m4 235 rfl) rfl
theorem q1085 : (Jvm.Cond.code ({ cls := "SweptSnow", name := "ahead", desc := "(III)I" } : Jvm.MethodName) prog_1_method_32_code (4 : Nat) (Option.some Jvm.ClassFile.FieldType.int)) ∈ lw_all := lw_g (lw_at lw_m4 236 rfl) rfl
theorem q1086 : (Jvm.Cond.constantLong "SweptSnow" (284 : Nat) (100 : Int64)) ∈ lw_all := lw_g (lw_at lw_m4 237 rfl) rfl
theorem q1087 : (Jvm.Cond.methodLink "SweptSnow" (286 : Nat) ({ cls := "SweptSnow", name := "goesTill", desc := "(I)V" } : Jvm.MethodName)) ∈ lw_all := lw_g (lw_at lw_m4 238 rfl) rfl
theorem q1088 : (Jvm.Cond.privateMethod ({ cls := "SweptSnow", name := "goesTill", desc := "(I)V" } : Jvm.MethodName)) ∈ lw_tbl := lw_at lw_m4 239 rfl
theorem q1089 : (Jvm.Cond.instanceMethod ({ cls := "SweptSnow", name := "goesTill", desc := "(I)V" } : Jvm.MethodName)) ∈ lw_all := lw_g (lw_at lw_m5 0 rfl) rfl
theorem q1090 : (Jvm.Cond.code ({ cls := "SweptSnow", name := "goesTill", desc := "(I)V" } : Jvm.MethodName) prog_1_method_23_code (3 : Nat) (Option.none : Option Jvm.ClassFile.FieldType)) ∈ lw_all := lw_g (lw_at lw_m5 1 rfl) rfl
theorem q1092 : (Jvm.Cond.instanceMethod ({ cls := "SweptSnow", name := "stays", desc := "(I)I" } : Jvm.MethodName)) ∈ lw_all := lw_g (lw_at lw_m5 3 rfl) rfl
theorem q1093 : (Jvm.Cond.selects "SweptSnow" ({ cls := "SweptSnow", name := "stays", desc := "(I)I" } : Jvm.MethodName) ({ cls := "SweptSnow", name := "stays", desc := "(I)I" } : Jvm.MethodName)) ∈ lw_all := lw_g (lw_at lw_m5 4 rfl) rfl
theorem q1094 : (Jvm.Cond.code ({ cls := "SweptSnow", name := "stays", desc := "(I)I" } : Jvm.MethodName) prog_1_method_33_code (4 : Nat) (Option.some Jvm.ClassFile.FieldType.int)) ∈ lw_all := lw_g (lw_at lw_m5 5 rfl) rfl
theorem q1095 : (Jvm.Cond.constantLong "SweptSnow" (289 : Nat) (60 : Int64)) ∈ lw_all := lw_g (lw_at lw_m5 6 rfl) rfl
theorem q1097 : (Jvm.Cond.instanceMethod ({ cls := "SweptSnow", name := "closes", desc := "(I)I" } : Jvm.MethodName)) ∈ lw_all := lw_g (lw_at lw_m5 8 rfl) rfl
theorem q1098 : (Jvm.Cond.selects "SweptSnow" ({ cls := "SweptSnow", name := "closes", desc := "(I)I" } : Jvm.MethodName) ({ cls := "SweptSnow", name := "closes", desc := "(I)I" } : Jvm.MethodName)) ∈ lw_all := lw_g (lw_at lw_m5 9 rfl) rfl
theorem q1099 : (Jvm.Cond.code ({ cls := "SweptSnow", name := "closes", desc := "(I)I" } : Jvm.MethodName) prog_1_method_34_code (3 : Nat) (Option.some Jvm.ClassFile.FieldType.int)) ∈ lw_all := lw_g (lw_at lw_m5 10 rfl) rfl
theorem q1101 : (Jvm.Cond.instanceMethod ({ cls := "SweptSnow", name := "ring", desc := "(I)I" } : Jvm.MethodName)) ∈ lw_all := lw_g (lw_at lw_m5 12 rfl) rfl
theorem q1102 : (Jvm.Cond.selects "SweptSnow" ({ cls := "SweptSnow", name := "ring", desc := "(I)I" } : Jvm.MethodName) ({ cls := "SweptSnow", name := "ring", desc := "(I)I" } : Jvm.MethodName)) ∈ lw_all := lw_g (lw_at lw_m5 13 rfl) rfl
theorem q1103 : (Jvm.Cond.code ({ cls := "SweptSnow", name := "ring", desc := "(I)I" } : Jvm.MethodName) prog_1_method_37_code (4 : Nat) (Option.some Jvm.ClassFile.FieldType.int)) ∈ lw_all := lw_g (lw_at lw_m5 14 rfl) rfl
theorem q1104 : (Jvm.Cond.methodLink "SweptSnow" (291 : Nat) ({ cls := "SweptSnow", name := "laysCourse", desc := "()V" } : Jvm.MethodName)) ∈ lw_all := lw_g (lw_at lw_m5 15 rfl) rfl
theorem q1105 : (Jvm.Cond.privateMethod ({ cls := "SweptSnow", name := "laysCourse", desc := "()V" } : Jvm.MethodName)) ∈ lw_tbl := lw_at lw_m5 16 rfl
theorem q1106 : (Jvm.Cond.instanceMethod ({ cls := "SweptSnow", name := "laysCourse", desc := "()V" } : Jvm.MethodName)) ∈ lw_all := lw_g (lw_at lw_m5 17 rfl) rfl
theorem q1107 : (Jvm.Cond.code ({ cls := "SweptSnow", name := "laysCourse", desc := "()V" } : Jvm.MethodName) prog_1_method_35_code (3 : Nat) (Option.none : Option Jvm.ClassFile.FieldType)) ∈ lw_all := lw_g (lw_at lw_m5 18 rfl) rfl
theorem q1108 : (Jvm.Cond.methodLink "SweptSnow" (294 : Nat) ({ cls := "SweptSnow", name := "liesAlike", desc := "(II)Z" } : Jvm.MethodName)) ∈ lw_all := lw_g (lw_at lw_m5 19 rfl) rfl
theorem q1109 : (Jvm.Cond.privateMethod ({ cls := "SweptSnow", name := "liesAlike", desc := "(II)Z" } : Jvm.MethodName)) ∈ lw_tbl := lw_at lw_m5 20 rfl
theorem q1110 : (Jvm.Cond.instanceMethod ({ cls := "SweptSnow", name := "liesAlike", desc := "(II)Z" } : Jvm.MethodName)) ∈ lw_all := lw_g (lw_at lw_m5 21 rfl) rfl
theorem q1111 : (Jvm.Cond.code ({ cls := "SweptSnow", name := "liesAlike", desc := "(II)Z" } : Jvm.MethodName) prog_1_method_36_code (4 : Nat) (Option.some Jvm.ClassFile.FieldType.boolean)) ∈ lw_all := lw_g (lw_at lw_m5 22 rfl) rfl
theorem q1113 : (Jvm.Cond.instanceMethod ({ cls := "SweptSnow", name := "spare", desc := "(III)I" } : Jvm.MethodName)) ∈ lw_all := lw_g (lw_at lw_m5 24 rfl) rfl
theorem q1114 : (Jvm.Cond.selects "SweptSnow" ({ cls := "SweptSnow", name := "spare", desc := "(III)I" } : Jvm.MethodName) ({ cls := "SweptSnow", name := "spare", desc := "(III)I" } : Jvm.MethodName)) ∈ lw_all := lw_g (lw_at lw_m5 25 rfl) rfl
theorem q1115 : (Jvm.Cond.code ({ cls := "SweptSnow", name := "spare", desc := "(III)I" } : Jvm.MethodName) prog_1_method_39_code (6 : Nat) (Option.some Jvm.ClassFile.FieldType.int)) ∈ lw_all := lw_g (lw_at lw_m5 26 rfl) rfl
theorem q1116 : (Jvm.Cond.constantLong "SweptSnow" (297 : Nat) (10 : Int64)) ∈ lw_all := lw_g (lw_at lw_m5 27 rfl) rfl
theorem q1117 : (Jvm.Cond.methodLink "SweptSnow" (299 : Nat) ({ cls := "SweptSnow", name := "isSpared", desc := "(III)Z" } : Jvm.MethodName)) ∈ lw_all := lw_g (lw_at lw_m5 28 rfl) rfl
theorem q1118 : (Jvm.Cond.privateMethod ({ cls := "SweptSnow", name := "isSpared", desc := "(III)Z" } : Jvm.MethodName)) ∈ lw_tbl := lw_at lw_m5 29 rfl
theorem q1119 : (Jvm.Cond.instanceMethod ({ cls := "SweptSnow", name := "isSpared", desc := "(III)Z" } : Jvm.MethodName)) ∈ lw_all := lw_g (lw_at lw_m5 30 rfl) rfl
theorem q1120 : (Jvm.Cond.code ({ cls := "SweptSnow", name := "isSpared", desc := "(III)Z" } : Jvm.MethodName) prog_1_method_38_code (6 : Nat) (Option.some Jvm.ClassFile.FieldType.boolean)) ∈ lw_all := lw_g (lw_at lw_m5 31 rfl) rfl
theorem q1122 : (Jvm.Cond.instanceMethod ({ cls := "SweptSnow", name := "figure", desc := "(II)I" } : Jvm.MethodName)) ∈ lw_all := lw_g (lw_at lw_m5 33 rfl) rfl
theorem q1123 : (Jvm.Cond.selects "SweptSnow" ({ cls := "SweptSnow", name := "figure", desc := "(II)I" } : Jvm.MethodName) ({ cls := "SweptSnow", name := "figure", desc := "(II)I" } : Jvm.MethodName)) ∈ lw_all := lw_g (lw_at lw_m5 34 rfl) rfl
theorem q1124 : (Jvm.Cond.code ({ cls := "SweptSnow", name := "figure", desc := "(II)I" } : Jvm.MethodName) prog_1_method_41_code (6 : Nat) (Option.some Jvm.ClassFile.FieldType.int)) ∈ lw_all := lw_g (lw_at lw_m5 35 rfl) rfl
theorem q1125 : (Jvm.Cond.methodLink "SweptSnow" (303 : Nat) ({ cls := "SweptSnow", name := "closedBehind", desc := "(I)I" } : Jvm.MethodName)) ∈ lw_all := lw_g (lw_at lw_m5 36 rfl) rfl
theorem q1126 : (Jvm.Cond.privateMethod ({ cls := "SweptSnow", name := "closedBehind", desc := "(I)I" } : Jvm.MethodName)) ∈ lw_tbl := lw_at lw_m5 37 rfl
theorem q1127 : (Jvm.Cond.instanceMethod ({ cls := "SweptSnow", name := "closedBehind", desc := "(I)I" } : Jvm.MethodName)) ∈ lw_all := lw_g (lw_at lw_m5 38 rfl) rfl
theorem q1128 : (Jvm.Cond.code ({ cls := "SweptSnow", name := "closedBehind", desc := "(I)I" } : Jvm.MethodName) prog_1_method_40_code (3 : Nat) (Option.some Jvm.ClassFile.FieldType.int)) ∈ lw_all := lw_g (lw_at lw_m5 39 rfl) rfl
theorem q1130 : (Jvm.Cond.instanceMethod ({ cls := "SweptSnow", name := "way", desc := "(III)I" } : Jvm.MethodName)) ∈ lw_all := lw_g (lw_at lw_m5 41 rfl) rfl
theorem q1131 : (Jvm.Cond.selects "SweptSnow" ({ cls := "SweptSnow", name := "way", desc := "(III)I" } : Jvm.MethodName) ({ cls := "SweptSnow", name := "way", desc := "(III)I" } : Jvm.MethodName)) ∈ lw_all := lw_g (lw_at lw_m5 42 rfl) rfl
theorem q1132 : (Jvm.Cond.code ({ cls := "SweptSnow", name := "way", desc := "(III)I" } : Jvm.MethodName) prog_1_method_44_code (5 : Nat) (Option.some Jvm.ClassFile.FieldType.int)) ∈ lw_all := lw_g (lw_at lw_m5 43 rfl) rfl
theorem q1133 : (Jvm.Cond.constantLong "SweptSnow" (310 : Nat) (2 : Int64)) ∈ lw_all := lw_g (lw_at lw_m5 44 rfl) rfl
theorem q1134 : (Jvm.Cond.methodLink "SweptSnow" (312 : Nat) ({ cls := "SweptSnow", name := "laysFar", desc := "(I)V" } : Jvm.MethodName)) ∈ lw_all := lw_g (lw_at lw_m5 45 rfl) rfl
theorem q1135 : (Jvm.Cond.privateMethod ({ cls := "SweptSnow", name := "laysFar", desc := "(I)V" } : Jvm.MethodName)) ∈ lw_tbl := lw_at lw_m5 46 rfl
theorem q1136 : (Jvm.Cond.instanceMethod ({ cls := "SweptSnow", name := "laysFar", desc := "(I)V" } : Jvm.MethodName)) ∈ lw_all := lw_g (lw_at lw_m5 47 rfl) rfl
theorem q1137 : (Jvm.Cond.code ({ cls := "SweptSnow", name := "laysFar", desc := "(I)V" } : Jvm.MethodName) prog_1_method_43_code (5 : Nat) (Option.none : Option Jvm.ClassFile.FieldType)) ∈ lw_all := lw_g (lw_at lw_m5 48 rfl) rfl
theorem q1138 : (Jvm.Cond.methodLink "SweptSnow" (306 : Nat) ({ cls := "SweptSnow", name := "costOf", desc := "(I)I" } : Jvm.MethodName)) ∈ lw_all := lw_g (lw_at lw_m5 49 rfl) rfl
theorem q1139 : (Jvm.Cond.privateMethod ({ cls := "SweptSnow", name := "costOf", desc := "(I)I" } : Jvm.MethodName)) ∈ lw_tbl := lw_at lw_m5 50 rfl
theorem q1140 : (Jvm.Cond.instanceMethod ({ cls := "SweptSnow", name := "costOf", desc := "(I)I" } : Jvm.MethodName)) ∈ lw_all := lw_g (lw_at lw_m5 51 rfl) rfl
theorem q1141 : (Jvm.Cond.code ({ cls := "SweptSnow", name := "costOf", desc := "(I)I" } : Jvm.MethodName) prog_1_method_42_code (2 : Nat) (Option.some Jvm.ClassFile.FieldType.int)) ∈ lw_all := lw_g (lw_at lw_m5 52 rfl) rfl
theorem q1142 : (Jvm.Cond.constant "SweptSnow" (309 : Nat) (100000 : Int32)) ∈ lw_all := lw_g (lw_at lw_m5 53 rfl) rfl
theorem q1144 : (Jvm.Cond.instanceMethod ({ cls := "SweptSnow", name := "pacts", desc := "(II)I" } : Jvm.MethodName)) ∈ lw_all := lw_g (lw_at lw_m5 55 rfl) rfl
theorem q1145 : (Jvm.Cond.selects "SweptSnow" ({ cls := "SweptSnow", name := "pacts", desc := "(II)I" } : Jvm.MethodName) ({ cls := "SweptSnow", name := "pacts", desc := "(II)I" } : Jvm.MethodName)) ∈ lw_all := lw_g (lw_at lw_m5 56 rfl) rfl
theorem q1146 : (Jvm.Cond.code ({ cls := "SweptSnow", name := "pacts", desc := "(II)I" } : Jvm.MethodName) prog_1_method_48_code (9 : Nat) (Option.some Jvm.ClassFile.FieldType.int)) ∈ lw_all := lw_g (lw_at lw_m5 57 rfl) rfl
theorem q1147 : (Jvm.Cond.constantLong "SweptSnow" (315 : Nat) (30 : Int64)) ∈ lw_all := lw_g (lw_at lw_m5 58 rfl) rfl
theorem q1148 : (Jvm.Cond.methodLink "SweptSnow" (317 : Nat) ({ cls := "SweptSnow", name := "laysGains", desc := "(II)V" } : Jvm.MethodName)) ∈ lw_all := lw_g (lw_at lw_m5 59 rfl) rfl
theorem q1149 : (Jvm.Cond.privateMethod ({ cls := "SweptSnow", name := "laysGains", desc := "(II)V" } : Jvm.MethodName)) ∈ lw_tbl := lw_at lw_m5 60 rfl
theorem q1150 : (Jvm.Cond.instanceMethod ({ cls := "SweptSnow", name := "laysGains", desc := "(II)V" } : Jvm.MethodName)) ∈ lw_all := lw_g (lw_at lw_m5 61 rfl) rfl
theorem q1151 : (Jvm.Cond.code ({ cls := "SweptSnow", name := "laysGains", desc := "(II)V" } : Jvm.MethodName) prog_1_method_45_code (7 : Nat) (Option.none : Option Jvm.ClassFile.FieldType)) ∈ lw_all := lw_g (lw_at lw_m5 62 rfl) rfl
theorem q1152 : (Jvm.Cond.methodLink "SweptSnow" (320 : Nat) ({ cls := "SweptSnow", name := "gainsOf", desc := "(I)I" } : Jvm.MethodName)) ∈ lw_all := lw_g (lw_at lw_m5 63 rfl) rfl
theorem q1153 : (Jvm.Cond.privateMethod ({ cls := "SweptSnow", name := "gainsOf", desc := "(I)I" } : Jvm.MethodName)) ∈ lw_tbl := lw_at lw_m5 64 rfl
theorem q1154 : (Jvm.Cond.instanceMethod ({ cls := "SweptSnow", name := "gainsOf", desc := "(I)I" } : Jvm.MethodName)) ∈ lw_all := lw_g (lw_at lw_m5 65 rfl) rfl
theorem q1155 : (Jvm.Cond.code ({ cls := "SweptSnow", name := "gainsOf", desc := "(I)I" } : Jvm.MethodName) prog_1_method_46_code (4 : Nat) (Option.some Jvm.ClassFile.FieldType.int)) ∈ lw_all := lw_g (lw_at lw_m5 66 rfl) rfl
theorem q1156 : (Jvm.Cond.methodLink "SweptSnow" (323 : Nat) ({ cls := "java/lang/Math", name := "max", desc := "(II)I" } : Jvm.MethodName)) ∈ lw_all := lw_g (lw_at lw_m5 67 rfl) rfl
theorem q1157 : (Jvm.Cond.methodLink "SweptSnow" (326 : Nat) ({ cls := "SweptSnow", name := "isPact", desc := "(I)Z" } : Jvm.MethodName)) ∈ lw_all := lw_g (lw_at lw_m5 68 rfl) rfl
theorem q1158 : (Jvm.Cond.privateMethod ({ cls := "SweptSnow", name := "isPact", desc := "(I)Z" } : Jvm.MethodName)) ∈ lw_tbl := lw_at lw_m5 69 rfl
theorem q1159 : (Jvm.Cond.instanceMethod ({ cls := "SweptSnow", name := "isPact", desc := "(I)Z" } : Jvm.MethodName)) ∈ lw_all := lw_g (lw_at lw_m5 70 rfl) rfl
theorem q1160 : (Jvm.Cond.code ({ cls := "SweptSnow", name := "isPact", desc := "(I)Z" } : Jvm.MethodName) prog_1_method_47_code (3 : Nat) (Option.some Jvm.ClassFile.FieldType.boolean)) ∈ lw_all := lw_g (lw_at lw_m5 71 rfl) rfl
theorem q1162 : (Jvm.Cond.instanceMethod ({ cls := "SweptSnow", name := "thrownOn", desc := "(III)I" } : Jvm.MethodName)) ∈ lw_all := lw_g (lw_at lw_m5 73 rfl) rfl
theorem q1163 : (Jvm.Cond.selects "SweptSnow" ({ cls := "SweptSnow", name := "thrownOn", desc := "(III)I" } : Jvm.MethodName) ({ cls := "SweptSnow", name := "thrownOn", desc := "(III)I" } : Jvm.MethodName)) ∈ lw_all := lw_g (lw_at lw_m5 74 rfl) rfl
theorem q1164 : (Jvm.Cond.code ({ cls := "SweptSnow", name := "thrownOn", desc := "(III)I" } : Jvm.MethodName) prog_1_method_49_code (6 : Nat) (Option.some Jvm.ClassFile.FieldType.int)) ∈ lw_all := lw_g (lw_at lw_m5 75 rfl) rfl
theorem q1166 : (Jvm.Cond.instanceMethod ({ cls := "SweptSnow", name := "best", desc := "(III)I" } : Jvm.MethodName)) ∈ lw_all := lw_g (lw_at lw_m5 77 rfl) rfl
theorem q1167 : (Jvm.Cond.selects "SweptSnow" ({ cls := "SweptSnow", name := "best", desc := "(III)I" } : Jvm.MethodName) ({ cls := "SweptSnow", name := "best", desc := "(III)I" } : Jvm.MethodName)) ∈ lw_all := lw_g (lw_at lw_m5 78 rfl) rfl
theorem q1168 : (Jvm.Cond.code ({ cls := "SweptSnow", name := "best", desc := "(III)I" } : Jvm.MethodName) prog_1_method_51_code (5 : Nat) (Option.some Jvm.ClassFile.FieldType.int)) ∈ lw_all := lw_g (lw_at lw_m5 79 rfl) rfl
theorem q1169 : (Jvm.Cond.methodLink "SweptSnow" (335 : Nat) ({ cls := "SweptSnow", name := "tries", desc := "(II)V" } : Jvm.MethodName)) ∈ lw_all := lw_g (lw_at lw_m5 80 rfl) rfl
theorem q1170 : (Jvm.Cond.privateMethod ({ cls := "SweptSnow", name := "tries", desc := "(II)V" } : Jvm.MethodName)) ∈ lw_tbl := lw_at lw_m5 81 rfl
theorem q1171 : (Jvm.Cond.instanceMethod ({ cls := "SweptSnow", name := "tries", desc := "(II)V" } : Jvm.MethodName)) ∈ lw_all := lw_g (lw_at lw_m5 82 rfl) rfl
theorem q1172 : (Jvm.Cond.code ({ cls := "SweptSnow", name := "tries", desc := "(II)V" } : Jvm.MethodName) prog_1_method_50_code (4 : Nat) (Option.none : Option Jvm.ClassFile.FieldType)) ∈ lw_all := lw_g (lw_at lw_m5 83 rfl) rfl
theorem q1174 : (Jvm.Cond.instanceMethod ({ cls := "SweptSnow", name := "might", desc := "(II)I" } : Jvm.MethodName)) ∈ lw_all := lw_g (lw_at lw_m5 85 rfl) rfl
theorem q1175 : (Jvm.Cond.selects "SweptSnow" ({ cls := "SweptSnow", name := "might", desc := "(II)I" } : Jvm.MethodName) ({ cls := "SweptSnow", name := "might", desc := "(II)I" } : Jvm.MethodName)) ∈ lw_all := lw_g (lw_at lw_m5 86 rfl) rfl
theorem q1176 : (Jvm.Cond.code ({ cls := "SweptSnow", name := "might", desc := "(II)I" } : Jvm.MethodName) prog_1_method_53_code (6 : Nat) (Option.some Jvm.ClassFile.FieldType.int)) ∈ lw_all := lw_g (lw_at lw_m5 87 rfl) rfl
theorem q1177 : (Jvm.Cond.methodLink "SweptSnow" (338 : Nat) ({ cls := "SweptSnow", name := "isOpenFor", desc := "(II)Z" } : Jvm.MethodName)) ∈ lw_all := lw_g (lw_at lw_m5 88 rfl) rfl
theorem q1178 : (Jvm.Cond.privateMethod ({ cls := "SweptSnow", name := "isOpenFor", desc := "(II)Z" } : Jvm.MethodName)) ∈ lw_tbl := lw_at lw_m5 89 rfl
theorem q1179 : (Jvm.Cond.instanceMethod ({ cls := "SweptSnow", name := "isOpenFor", desc := "(II)Z" } : Jvm.MethodName)) ∈ lw_all := lw_g (lw_at lw_m5 90 rfl) rfl
theorem q1180 : (Jvm.Cond.code ({ cls := "SweptSnow", name := "isOpenFor", desc := "(II)Z" } : Jvm.MethodName) prog_1_method_52_code (5 : Nat) (Option.some Jvm.ClassFile.FieldType.boolean)) ∈ lw_all := lw_g (lw_at lw_m5 91 rfl) rfl
theorem q1182 : (Jvm.Cond.instanceMethod ({ cls := "SweptSnow", name := "note", desc := "(III)I" } : Jvm.MethodName)) ∈ lw_all := lw_g (lw_at lw_m5 93 rfl) rfl
theorem q1183 : (Jvm.Cond.selects "SweptSnow" ({ cls := "SweptSnow", name := "note", desc := "(III)I" } : Jvm.MethodName) ({ cls := "SweptSnow", name := "note", desc := "(III)I" } : Jvm.MethodName)) ∈ lw_all := lw_g (lw_at lw_m5 94 rfl) rfl
theorem q1184 : (Jvm.Cond.code ({ cls := "SweptSnow", name := "note", desc := "(III)I" } : Jvm.MethodName) prog_1_method_54_code (4 : Nat) (Option.some Jvm.ClassFile.FieldType.int)) ∈ lw_all := lw_g (lw_at lw_m5 95 rfl) rfl
theorem q1185 : (Jvm.Cond.constantLong "SweptSnow" (341 : Nat) (999 : Int64)) ∈ lw_all := lw_g (lw_at lw_m5 96 rfl) rfl
theorem q1187 : (Jvm.Cond.instanceMethod ({ cls := "SweptSnow", name := "ruled", desc := "(I)I" } : Jvm.MethodName)) ∈ lw_all := lw_g (lw_at lw_m5 98 rfl) rfl
theorem q1188 : (Jvm.Cond.selects "SweptSnow" ({ cls := "SweptSnow", name := "ruled", desc := "(I)I" } : Jvm.MethodName) ({ cls := "SweptSnow", name := "ruled", desc := "(I)I" } : Jvm.MethodName)) ∈ lw_all := lw_g (lw_at lw_m5 99 rfl) rfl
theorem q1189 : (Jvm.Cond.code ({ cls := "SweptSnow", name := "ruled", desc := "(I)I" } : Jvm.MethodName) prog_1_method_56_code (5 : Nat) (Option.some Jvm.ClassFile.FieldType.int)) ∈ lw_all := lw_g (lw_at lw_m5 100 rfl) rfl
theorem q1190 : (Jvm.Cond.methodLink "SweptSnow" (343 : Nat) ({ cls := "SweptSnow", name := "couldRule", desc := "(I)Z" } : Jvm.MethodName)) ∈ lw_all := lw_g (lw_at lw_m5 101 rfl) rfl
theorem q1191 : (Jvm.Cond.privateMethod ({ cls := "SweptSnow", name := "couldRule", desc := "(I)Z" } : Jvm.MethodName)) ∈ lw_tbl := lw_at lw_m5 102 rfl
theorem q1192 : (Jvm.Cond.instanceMethod ({ cls := "SweptSnow", name := "couldRule", desc := "(I)Z" } : Jvm.MethodName)) ∈ lw_all := lw_g (lw_at lw_m5 103 rfl) rfl
theorem q1193 : (Jvm.Cond.code ({ cls := "SweptSnow", name := "couldRule", desc := "(I)Z" } : Jvm.MethodName) prog_1_method_55_code (4 : Nat) (Option.some Jvm.ClassFile.FieldType.boolean)) ∈ lw_all := lw_g (lw_at lw_m5 104 rfl) rfl
theorem q1195 : (Jvm.Cond.instanceMethod ({ cls := "SweptSnow", name := "look", desc := "(II)I" } : Jvm.MethodName)) ∈ lw_all := lw_g (lw_at lw_m5 106 rfl) rfl
theorem q1196 : (Jvm.Cond.selects "SweptSnow" ({ cls := "SweptSnow", name := "look", desc := "(II)I" } : Jvm.MethodName) ({ cls := "SweptSnow", name := "look", desc := "(II)I" } : Jvm.MethodName)) ∈ lw_all := lw_g (lw_at lw_m5 107 rfl) rfl
theorem q1197 : (Jvm.Cond.code ({ cls := "SweptSnow", name := "look", desc := "(II)I" } : Jvm.MethodName) prog_1_method_58_code (6 : Nat) (Option.some Jvm.ClassFile.FieldType.int)) ∈ lw_all := lw_g (lw_at lw_m5 108 rfl) rfl
theorem q1198 : (Jvm.Cond.methodLink "SweptSnow" (346 : Nat) ({ cls := "SweptSnow", name := "mostAlike", desc := "(II)I" } : Jvm.MethodName)) ∈ lw_all := lw_g (lw_at lw_m5 109 rfl) rfl
theorem q1199 : (Jvm.Cond.privateMethod ({ cls := "SweptSnow", name := "mostAlike", desc := "(II)I" } : Jvm.MethodName)) ∈ lw_tbl := lw_at lw_m5 110 rfl
theorem q1200 : (Jvm.Cond.instanceMethod ({ cls := "SweptSnow", name := "mostAlike", desc := "(II)I" } : Jvm.MethodName)) ∈ lw_all := lw_g (lw_at lw_m5 111 rfl) rfl
theorem q1201 : (Jvm.Cond.code ({ cls := "SweptSnow", name := "mostAlike", desc := "(II)I" } : Jvm.MethodName) prog_1_method_57_code (7 : Nat) (Option.some Jvm.ClassFile.FieldType.int)) ∈ lw_all := lw_g (lw_at lw_m5 112 rfl) rfl
theorem q1203 : (Jvm.Cond.instanceMethod ({ cls := "SweptSnow", name := "seed", desc := "(I)I" } : Jvm.MethodName)) ∈ lw_all := lw_g (lw_at lw_m5 114 rfl) rfl
theorem q1204 : (Jvm.Cond.selects "SweptSnow" ({ cls := "SweptSnow", name := "seed", desc := "(I)I" } : Jvm.MethodName) ({ cls := "SweptSnow", name := "seed", desc := "(I)I" } : Jvm.MethodName)) ∈ lw_all := lw_g (lw_at lw_m5 115 rfl) rfl
theorem q1205 : (Jvm.Cond.code ({ cls := "SweptSnow", name := "seed", desc := "(I)I" } : Jvm.MethodName) prog_1_method_59_code (3 : Nat) (Option.some Jvm.ClassFile.FieldType.int)) ∈ lw_all := lw_g (lw_at lw_m5 116 rfl) rfl
theorem q1207 : (Jvm.Cond.instanceMethod ({ cls := "SweptSnow", name := "storms", desc := "(IIII)I" } : Jvm.MethodName)) ∈ lw_all := lw_g (lw_at lw_m5 118 rfl) rfl
theorem q1208 : (Jvm.Cond.selects "SweptSnow" ({ cls := "SweptSnow", name := "storms", desc := "(IIII)I" } : Jvm.MethodName) ({ cls := "SweptSnow", name := "storms", desc := "(IIII)I" } : Jvm.MethodName)) ∈ lw_all := lw_g (lw_at lw_m5 119 rfl) rfl
theorem q1209 : (Jvm.Cond.code ({ cls := "SweptSnow", name := "storms", desc := "(IIII)I" } : Jvm.MethodName) prog_1_method_61_code (10 : Nat) (Option.some Jvm.ClassFile.FieldType.int)) ∈ lw_all := lw_g (lw_at lw_m5 120 rfl) rfl
theorem q1210 : (Jvm.Cond.methodLink "SweptSnow" (359 : Nat) ({ cls := "SweptSnow", name := "draws", desc := "(I)I" } : Jvm.MethodName)) ∈ lw_all := lw_g (lw_at lw_m5 121 rfl) rfl
theorem q1211 : (Jvm.Cond.privateMethod ({ cls := "SweptSnow", name := "draws", desc := "(I)I" } : Jvm.MethodName)) ∈ lw_tbl := lw_at lw_m5 122 rfl
theorem q1212 : (Jvm.Cond.instanceMethod ({ cls := "SweptSnow", name := "draws", desc := "(I)I" } : Jvm.MethodName)) ∈ lw_all := lw_g (lw_at lw_m5 123 rfl) rfl
theorem q1213 : (Jvm.Cond.code ({ cls := "SweptSnow", name := "draws", desc := "(I)I" } : Jvm.MethodName) prog_1_method_60_code (2 : Nat) (Option.some Jvm.ClassFile.FieldType.int)) ∈ lw_all := lw_g (lw_at lw_m5 124 rfl) rfl
theorem q1214 : (Jvm.Cond.constantLong "SweptSnow" (352 : Nat) (1103515245 : Int64)) ∈ lw_all := lw_g (lw_at lw_m5 125 rfl) rfl
theorem q1215 : (Jvm.Cond.constantLong "SweptSnow" (354 : Nat) (12345 : Int64)) ∈ lw_all := lw_g (lw_at lw_m5 126 rfl) rfl
theorem q1216 : (Jvm.Cond.constantLong "SweptSnow" (356 : Nat) (2147483648 : Int64)) ∈ lw_all := lw_g (lw_at lw_m5 127 rfl) rfl
theorem q1217 : (Jvm.Cond.constant "SweptSnow" (358 : Nat) (65536 : Int32)) ∈ lw_all := lw_g (lw_at lw_m5 128 rfl) rfl
theorem q1219 : (Jvm.Cond.instanceMethod ({ cls := "SweptSnow", name := "count", desc := "(I)I" } : Jvm.MethodName)) ∈ lw_all := lw_g (lw_at lw_m5 130 rfl) rfl
theorem q1220 : (Jvm.Cond.selects "SweptSnow" ({ cls := "SweptSnow", name := "count", desc := "(I)I" } : Jvm.MethodName) ({ cls := "SweptSnow", name := "count", desc := "(I)I" } : Jvm.MethodName)) ∈ lw_all := lw_g (lw_at lw_m5 131 rfl) rfl
theorem q1221 : (Jvm.Cond.code ({ cls := "SweptSnow", name := "count", desc := "(I)I" } : Jvm.MethodName) prog_1_method_62_code (2 : Nat) (Option.some Jvm.ClassFile.FieldType.int)) ∈ lw_all := lw_g (lw_at lw_m5 132 rfl) rfl
theorem q1223 : (Jvm.Cond.instanceMethod ({ cls := "SweptSnow", name := "image", desc := "(I)I" } : Jvm.MethodName)) ∈ lw_all := lw_g (lw_at lw_m5 134 rfl) rfl
theorem q1224 : (Jvm.Cond.selects "SweptSnow" ({ cls := "SweptSnow", name := "image", desc := "(I)I" } : Jvm.MethodName) ({ cls := "SweptSnow", name := "image", desc := "(I)I" } : Jvm.MethodName)) ∈ lw_all := lw_g (lw_at lw_m5 135 rfl) rfl
theorem q1225 : (Jvm.Cond.code ({ cls := "SweptSnow", name := "image", desc := "(I)I" } : Jvm.MethodName) prog_1_method_63_code (2 : Nat) (Option.some Jvm.ClassFile.FieldType.int)) ∈ lw_all := lw_g (lw_at lw_m5 136 rfl) rfl
theorem q1226 : (Jvm.Cond.constantLong "SweptSnow" (362 : Nat) (3 : Int64)) ∈ lw_all := lw_g (lw_at lw_m5 137 rfl) rfl
theorem q1228 : (Jvm.Cond.methodLinkNest "SweptSnow" (364 : Nat) ({ cls := "SweptSnow$Image", name := "<init>", desc := "(LSweptSnow;)V" } : Jvm.MethodName) "SweptSnow") ∈ lw_tbl := lw_at lw_m5 139 rfl
theorem q1262 : (Jvm.Cond.methodLink "SweptSnow" (367 : Nat) ({ cls := "SweptSnow$Image", name := "keep", desc := "()V" } : Jvm.MethodName)) ∈ lw_all := lw_g (lw_at lw_m5 173 rfl) rfl
theorem q1268 : (Jvm.Cond.instanceMethod ({ cls := "SweptSnow", name := "back", desc := "(I)I" } : Jvm.MethodName)) ∈ lw_all := lw_g (lw_at lw_m5 179 rfl) rfl
theorem q1269 : (Jvm.Cond.selects "SweptSnow" ({ cls := "SweptSnow", name := "back", desc := "(I)I" } : Jvm.MethodName) ({ cls := "SweptSnow", name := "back", desc := "(I)I" } : Jvm.MethodName)) ∈ lw_all := lw_g (lw_at lw_m5 180 rfl) rfl
theorem q1270 : (Jvm.Cond.code ({ cls := "SweptSnow", name := "back", desc := "(I)I" } : Jvm.MethodName) prog_1_method_64_code (2 : Nat) (Option.some Jvm.ClassFile.FieldType.int)) ∈ lw_all := lw_g (lw_at lw_m5 181 rfl) rfl
theorem q1271 : (Jvm.Cond.methodLink "SweptSnow" (370 : Nat) ({ cls := "SweptSnow$Image", name := "back", desc := "()V" } : Jvm.MethodName)) ∈ lw_all := lw_g (lw_at lw_m5 182 rfl) rfl
theorem q1888 : (Jvm.Cond.castable "SweptSnow" "java/lang/Object") ∈ lw_tbl := lw_at lw_m8 79 rfl
theorem q1918 : (Jvm.Cond.stringRef "SweptSnow" (375 : Nat) "house") ∈ lw_tbl := lw_at lw_m8 109 rfl
theorem q1919 : (Jvm.Cond.stringRef "SweptSnow" (377 : Nat) "step") ∈ lw_tbl := lw_at lw_m8 110 rfl
theorem q1920 : (Jvm.Cond.stringRef "SweptSnow" (378 : Nat) "own") ∈ lw_tbl := lw_at lw_m8 111 rfl
theorem q1921 : (Jvm.Cond.stringRef "SweptSnow" (380 : Nat) "snow") ∈ lw_tbl := lw_at lw_m8 112 rfl
theorem q1922 : (Jvm.Cond.stringRef "SweptSnow" (381 : Nat) "strength") ∈ lw_tbl := lw_at lw_m8 113 rfl
theorem q1923 : (Jvm.Cond.stringRef "SweptSnow" (382 : Nat) "swept") ∈ lw_tbl := lw_at lw_m8 114 rfl
theorem q1924 : (Jvm.Cond.stringRef "SweptSnow" (383 : Nat) "before") ∈ lw_tbl := lw_at lw_m8 115 rfl
theorem q1925 : (Jvm.Cond.stringRef "SweptSnow" (384 : Nat) "closed") ∈ lw_tbl := lw_at lw_m8 116 rfl
theorem q1926 : (Jvm.Cond.stringRef "SweptSnow" (385 : Nat) "needed") ∈ lw_tbl := lw_at lw_m8 117 rfl
theorem q1927 : (Jvm.Cond.stringRef "SweptSnow" (386 : Nat) "next") ∈ lw_tbl := lw_at lw_m8 118 rfl
theorem q1928 : (Jvm.Cond.stringRef "SweptSnow" (388 : Nat) "beside") ∈ lw_tbl := lw_at lw_m8 119 rfl
theorem q1929 : (Jvm.Cond.stringRef "SweptSnow" (389 : Nat) "day") ∈ lw_tbl := lw_at lw_m8 120 rfl
theorem in_X0 : ∀ w ∈ wsX00, w ∈ lw_all := lw_in wsX00 [384, 386, 388, 390, 392, 394, 396, 398, 400, 402, 404, 406, 408, 410, 412, 414, 416, 418, 420, 422, 424, 426, 428, 430, 432, 434, 436] (by decide +kernel) (by decide +kernel)
/-! SweptSnow$Parser -/
set_option maxRecDepth 100000
def RX5 : String := "SweptSnow$Parser"
def TX5 : u_T := fun k => match k with
  | 0 => ("SweptSnow$Parser", "names", "[Ljava/lang/String;", true)
  | 1 => ("SweptSnow$Parser", "at", "I", false)
  | 2 => ("SweptSnow$Parser", "deep", "I", false)
  | 3 => ("SweptSnow$Parser", "counted", "I", false)
  | 4 => ("SweptSnow$Parser", "clauses", "I", false)
  | 5 => ("SweptSnow$Parser", "most", "I", true)
  | _ => ("SweptSnow$Parser", "this$0", "LSweptSnow;", true)
def tyX5 : Nat → FieldType := fun k => match k with
  | 0 => .array (.object "java/lang/String")
  | 1 => .int
  | 2 => .int
  | 3 => .int
  | 4 => .int
  | 5 => .int
  | _ => .object "SweptSnow"
abbrev wsX50 : List Cond := u_ws RX5 TX5 7
theorem nmX5 : ∀ a, a < 7 → ∀ b, b < 7 → a ≠ b → (TX5 a).2.1 ≠ (TX5 b).2.1 := by decide +kernel
theorem tyX5_ok : ∀ k, k < 7 → parseFieldDescriptor (TX5 k).2.2.1 = some (tyX5 k) := by decide +kernel
abbrev cX5_init : ByteArray := prog_10_method_1_code
def yX5_init : MethodName := ⟨RX5, "<init>", "(LSweptSnow;[Ljava/lang/String;I)V"⟩
def dkwX5_init_0 : List UInt8 := [42, 43, 181, 0, 3, 42, 183, 0, 9, 42, 44, 181, 0, 15, 42, 29, 181, 0, 19, 177]
abbrev dktX5_init_0 : List UInt8 := dkwX5_init_0 ++ []
theorem dksX5_init_0 : cX5_init.data.toList.drop 0 = dktX5_init_0 := by decide +kernel
theorem dX5_init_0 : decode cX5_init 0 = .ok (.aload_n 0, 1) := dk_42 (dk_at dksX5_init_0 0 rfl rfl)
theorem dX5_init_1 : decode cX5_init 1 = .ok (.aload_n 1, 1) := dk_43 (dk_at dksX5_init_0 1 rfl rfl)
theorem dX5_init_2 : decode cX5_init 2 = .ok (.putfield 3, 3) := dk_181 0 3 (dk_at dksX5_init_0 2 rfl rfl)
theorem dX5_init_5 : decode cX5_init 5 = .ok (.aload_n 0, 1) := dk_42 (dk_at dksX5_init_0 5 rfl rfl)
theorem dX5_init_6 : decode cX5_init 6 = .ok (.invokespecial 9, 3) := dk_183 0 9 (dk_at dksX5_init_0 6 rfl rfl)
theorem dX5_init_9 : decode cX5_init 9 = .ok (.aload_n 0, 1) := dk_42 (dk_at dksX5_init_0 9 rfl rfl)
theorem dX5_init_10 : decode cX5_init 10 = .ok (.aload_n 2, 1) := dk_44 (dk_at dksX5_init_0 10 rfl rfl)
theorem dX5_init_11 : decode cX5_init 11 = .ok (.putfield 15, 3) := dk_181 0 15 (dk_at dksX5_init_0 11 rfl rfl)
theorem dX5_init_14 : decode cX5_init 14 = .ok (.aload_n 0, 1) := dk_42 (dk_at dksX5_init_0 14 rfl rfl)
theorem dX5_init_15 : decode cX5_init 15 = .ok (.iload_n 3, 1) := dk_29 (dk_at dksX5_init_0 15 rfl rfl)
theorem dX5_init_16 : decode cX5_init 16 = .ok (.putfield 19, 3) := dk_181 0 19 (dk_at dksX5_init_0 16 rfl rfl)
theorem dX5_init_19 : decode cX5_init 19 = .ok (.return_, 1) := dk_177 (dk_at dksX5_init_0 19 rfl rfl)
abbrev cX5_valley : ByteArray := prog_10_method_25_code
def yX5_valley : MethodName := ⟨RX5, "valley", "()LSweptSnow$Valley;"⟩
def dkwX5_valley_1 : List UInt8 := [182, 0, 238, 167, 255, 244, 43, 176]
abbrev dktX5_valley_1 : List UInt8 := dkwX5_valley_1 ++ []
def dkwX5_valley_0 : List UInt8 := [187, 0, 151, 89, 183, 0, 237, 76, 42, 43, 182, 0, 238, 42, 182, 0, 241, 153, 0, 11, 42, 43]
abbrev dktX5_valley_0 : List UInt8 := dkwX5_valley_0 ++ dktX5_valley_1
theorem dksX5_valley_0 : cX5_valley.data.toList.drop 0 = dktX5_valley_0 := by decide +kernel
theorem dksX5_valley_1 : cX5_valley.data.toList.drop 22 = dktX5_valley_1 := dk_seg dksX5_valley_0 22 rfl rfl
theorem dX5_valley_0 : decode cX5_valley 0 = .ok (.new 151, 3) := dk_187 0 151 (dk_at dksX5_valley_0 0 rfl rfl)
theorem dX5_valley_3 : decode cX5_valley 3 = .ok (.dup, 1) := dk_89 (dk_at dksX5_valley_0 3 rfl rfl)
theorem dX5_valley_4 : decode cX5_valley 4 = .ok (.invokespecial 237, 3) := dk_183 0 237 (dk_at dksX5_valley_0 4 rfl rfl)
theorem dX5_valley_7 : decode cX5_valley 7 = .ok (.astore_n 1, 1) := dk_76 (dk_at dksX5_valley_0 7 rfl rfl)
theorem dX5_valley_8 : decode cX5_valley 8 = .ok (.aload_n 0, 1) := dk_42 (dk_at dksX5_valley_0 8 rfl rfl)
theorem dX5_valley_9 : decode cX5_valley 9 = .ok (.aload_n 1, 1) := dk_43 (dk_at dksX5_valley_0 9 rfl rfl)
theorem dX5_valley_10 : decode cX5_valley 10 = .ok (.invokevirtual 238, 3) := dk_182 0 238 (dk_at dksX5_valley_0 10 rfl rfl)
theorem dX5_valley_13 : decode cX5_valley 13 = .ok (.aload_n 0, 1) := dk_42 (dk_at dksX5_valley_0 13 rfl rfl)
theorem dX5_valley_14 : decode cX5_valley 14 = .ok (.invokevirtual 241, 3) := dk_182 0 241 (dk_at dksX5_valley_0 14 rfl rfl)
theorem dX5_valley_17 : decode cX5_valley 17 = .ok (.ifCond .eq 11, 3) := dk_153 0 11 (dk_at dksX5_valley_0 17 rfl rfl)
theorem dX5_valley_20 : decode cX5_valley 20 = .ok (.aload_n 0, 1) := dk_42 (dk_at dksX5_valley_0 20 rfl rfl)
theorem dX5_valley_21 : decode cX5_valley 21 = .ok (.aload_n 1, 1) := dk_43 (dk_at dksX5_valley_0 21 rfl rfl)
theorem dX5_valley_22 : decode cX5_valley 22 = .ok (.invokevirtual 238, 3) := dk_182 0 238 (dk_at dksX5_valley_1 0 rfl rfl)
theorem dX5_valley_25 : decode cX5_valley 25 = .ok (.goto (-12), 3) := dk_167 255 244 (dk_at dksX5_valley_1 3 rfl rfl)
theorem dX5_valley_28 : decode cX5_valley 28 = .ok (.aload_n 1, 1) := dk_43 (dk_at dksX5_valley_1 6 rfl rfl)
theorem dX5_valley_29 : decode cX5_valley 29 = .ok (.areturn, 1) := dk_176 (dk_at dksX5_valley_1 7 rfl rfl)
abbrev cX5_clause : ByteArray := prog_10_method_22_code
def yX5_clause : MethodName := ⟨RX5, "clause", "(LSweptSnow$Valley;)V"⟩
def dkwX5_clause_8 : List UInt8 := [182, 0, 221, 167, 0, 16, 42, 180, 0, 3, 3, 42, 180, 0, 23, 182, 0, 69, 191, 177]
abbrev dktX5_clause_8 : List UInt8 := dkwX5_clause_8 ++ []
def dkwX5_clause_7 : List UInt8 := [153, 0, 11, 42, 43, 182, 0, 217, 167, 0, 34, 42, 18, 219, 28, 182, 0, 189, 153, 0, 11, 42, 43]
abbrev dktX5_clause_7 : List UInt8 := dkwX5_clause_7 ++ dktX5_clause_8
def dkwX5_clause_6 : List UInt8 := [18, 211, 28, 182, 0, 189, 153, 0, 11, 42, 43, 182, 0, 213, 167, 0, 52, 42, 18, 215, 28, 182, 0, 189]
abbrev dktX5_clause_6 : List UInt8 := dkwX5_clause_6 ++ dktX5_clause_7
def dkwX5_clause_5 : List UInt8 := [7, 162, 0, 7, 4, 167, 0, 4, 3, 182, 0, 189, 153, 0, 11, 42, 43, 182, 0, 208, 167, 0, 70, 42]
abbrev dktX5_clause_5 : List UInt8 := dkwX5_clause_5 ++ dktX5_clause_6
def dkwX5_clause_4 : List UInt8 := [182, 0, 82, 184, 0, 198, 182, 0, 164, 87, 167, 0, 104, 42, 18, 204, 28, 153, 0, 15, 43, 182, 0, 206]
abbrev dktX5_clause_4 : List UInt8 := dkwX5_clause_4 ++ dktX5_clause_5
def dkwX5_clause_3 : List UInt8 := [162, 0, 7, 4, 167, 0, 4, 3, 182, 0, 189, 153, 0, 24, 43, 180, 0, 196, 42, 3, 16, 99]
abbrev dktX5_clause_3 : List UInt8 := dkwX5_clause_3 ++ dktX5_clause_4
def dkwX5_clause_2 : List UInt8 := [181, 0, 193, 43, 29, 181, 0, 184, 167, 0, 152, 42, 18, 194, 28, 153, 0, 16, 43, 182, 0, 150, 16, 8]
abbrev dktX5_clause_2 : List UInt8 := dkwX5_clause_2 ++ dktX5_clause_3
def dkwX5_clause_1 : List UInt8 := [3, 182, 0, 189, 153, 0, 30, 42, 4, 16, 9, 182, 0, 82, 62, 43, 42, 4, 16, 30, 182, 0, 82]
abbrev dktX5_clause_1 : List UInt8 := dkwX5_clause_1 ++ dktX5_clause_2
def dkwX5_clause_0 : List UInt8 := [43, 180, 0, 184, 158, 0, 7, 4, 167, 0, 4, 3, 61, 42, 18, 187, 28, 154, 0, 7, 4, 167, 0, 4]
abbrev dktX5_clause_0 : List UInt8 := dkwX5_clause_0 ++ dktX5_clause_1
theorem dksX5_clause_0 : cX5_clause.data.toList.drop 0 = dktX5_clause_0 := by decide +kernel
theorem dksX5_clause_1 : cX5_clause.data.toList.drop 24 = dktX5_clause_1 := dk_seg dksX5_clause_0 24 rfl rfl
theorem dksX5_clause_2 : cX5_clause.data.toList.drop 47 = dktX5_clause_2 := dk_seg dksX5_clause_1 23 rfl rfl
theorem dksX5_clause_3 : cX5_clause.data.toList.drop 71 = dktX5_clause_3 := dk_seg dksX5_clause_2 24 rfl rfl
theorem dksX5_clause_4 : cX5_clause.data.toList.drop 93 = dktX5_clause_4 := dk_seg dksX5_clause_3 22 rfl rfl
theorem dksX5_clause_5 : cX5_clause.data.toList.drop 117 = dktX5_clause_5 := dk_seg dksX5_clause_4 24 rfl rfl
theorem dksX5_clause_6 : cX5_clause.data.toList.drop 141 = dktX5_clause_6 := dk_seg dksX5_clause_5 24 rfl rfl
theorem dksX5_clause_7 : cX5_clause.data.toList.drop 165 = dktX5_clause_7 := dk_seg dksX5_clause_6 24 rfl rfl
theorem dksX5_clause_8 : cX5_clause.data.toList.drop 188 = dktX5_clause_8 := dk_seg dksX5_clause_7 23 rfl rfl
theorem dX5_clause_0 : decode cX5_clause 0 = .ok (.aload_n 1, 1) := dk_43 (dk_at dksX5_clause_0 0 rfl rfl)
theorem dX5_clause_1 : decode cX5_clause 1 = .ok (.getfield 184, 3) := dk_180 0 184 (dk_at dksX5_clause_0 1 rfl rfl)
theorem dX5_clause_4 : decode cX5_clause 4 = .ok (.ifCond .le 7, 3) := dk_158 0 7 (dk_at dksX5_clause_0 4 rfl rfl)
theorem dX5_clause_7 : decode cX5_clause 7 = .ok (.iconst 1, 1) := dk_4 (dk_at dksX5_clause_0 7 rfl rfl)
theorem dX5_clause_8 : decode cX5_clause 8 = .ok (.goto 4, 3) := dk_167 0 4 (dk_at dksX5_clause_0 8 rfl rfl)
theorem dX5_clause_11 : decode cX5_clause 11 = .ok (.iconst 0, 1) := dk_3 (dk_at dksX5_clause_0 11 rfl rfl)
theorem dX5_clause_12 : decode cX5_clause 12 = .ok (.istore_n 2, 1) := dk_61 (dk_at dksX5_clause_0 12 rfl rfl)
theorem dX5_clause_13 : decode cX5_clause 13 = .ok (.aload_n 0, 1) := dk_42 (dk_at dksX5_clause_0 13 rfl rfl)
theorem dX5_clause_14 : decode cX5_clause 14 = .ok (.ldc 187, 2) := dk_18 187 (dk_at dksX5_clause_0 14 rfl rfl)
theorem dX5_clause_16 : decode cX5_clause 16 = .ok (.iload_n 2, 1) := dk_28 (dk_at dksX5_clause_0 16 rfl rfl)
theorem dX5_clause_17 : decode cX5_clause 17 = .ok (.ifCond .ne 7, 3) := dk_154 0 7 (dk_at dksX5_clause_0 17 rfl rfl)
theorem dX5_clause_20 : decode cX5_clause 20 = .ok (.iconst 1, 1) := dk_4 (dk_at dksX5_clause_0 20 rfl rfl)
theorem dX5_clause_21 : decode cX5_clause 21 = .ok (.goto 4, 3) := dk_167 0 4 (dk_at dksX5_clause_0 21 rfl rfl)
theorem dX5_clause_24 : decode cX5_clause 24 = .ok (.iconst 0, 1) := dk_3 (dk_at dksX5_clause_1 0 rfl rfl)
theorem dX5_clause_25 : decode cX5_clause 25 = .ok (.invokevirtual 189, 3) := dk_182 0 189 (dk_at dksX5_clause_1 1 rfl rfl)
theorem dX5_clause_28 : decode cX5_clause 28 = .ok (.ifCond .eq 30, 3) := dk_153 0 30 (dk_at dksX5_clause_1 4 rfl rfl)
theorem dX5_clause_31 : decode cX5_clause 31 = .ok (.aload_n 0, 1) := dk_42 (dk_at dksX5_clause_1 7 rfl rfl)
theorem dX5_clause_32 : decode cX5_clause 32 = .ok (.iconst 1, 1) := dk_4 (dk_at dksX5_clause_1 8 rfl rfl)
theorem dX5_clause_33 : decode cX5_clause 33 = .ok (.bipush 9, 2) := dk_16 9 (dk_at dksX5_clause_1 9 rfl rfl)
theorem dX5_clause_35 : decode cX5_clause 35 = .ok (.invokevirtual 82, 3) := dk_182 0 82 (dk_at dksX5_clause_1 11 rfl rfl)
theorem dX5_clause_38 : decode cX5_clause 38 = .ok (.istore_n 3, 1) := dk_62 (dk_at dksX5_clause_1 14 rfl rfl)
theorem dX5_clause_39 : decode cX5_clause 39 = .ok (.aload_n 1, 1) := dk_43 (dk_at dksX5_clause_1 15 rfl rfl)
theorem dX5_clause_40 : decode cX5_clause 40 = .ok (.aload_n 0, 1) := dk_42 (dk_at dksX5_clause_1 16 rfl rfl)
theorem dX5_clause_41 : decode cX5_clause 41 = .ok (.iconst 1, 1) := dk_4 (dk_at dksX5_clause_1 17 rfl rfl)
theorem dX5_clause_42 : decode cX5_clause 42 = .ok (.bipush 30, 2) := dk_16 30 (dk_at dksX5_clause_1 18 rfl rfl)
theorem dX5_clause_44 : decode cX5_clause 44 = .ok (.invokevirtual 82, 3) := dk_182 0 82 (dk_at dksX5_clause_1 20 rfl rfl)
theorem dX5_clause_47 : decode cX5_clause 47 = .ok (.putfield 193, 3) := dk_181 0 193 (dk_at dksX5_clause_2 0 rfl rfl)
theorem dX5_clause_50 : decode cX5_clause 50 = .ok (.aload_n 1, 1) := dk_43 (dk_at dksX5_clause_2 3 rfl rfl)
theorem dX5_clause_51 : decode cX5_clause 51 = .ok (.iload_n 3, 1) := dk_29 (dk_at dksX5_clause_2 4 rfl rfl)
theorem dX5_clause_52 : decode cX5_clause 52 = .ok (.putfield 184, 3) := dk_181 0 184 (dk_at dksX5_clause_2 5 rfl rfl)
theorem dX5_clause_55 : decode cX5_clause 55 = .ok (.goto 152, 3) := dk_167 0 152 (dk_at dksX5_clause_2 8 rfl rfl)
theorem dX5_clause_58 : decode cX5_clause 58 = .ok (.aload_n 0, 1) := dk_42 (dk_at dksX5_clause_2 11 rfl rfl)
theorem dX5_clause_59 : decode cX5_clause 59 = .ok (.ldc 194, 2) := dk_18 194 (dk_at dksX5_clause_2 12 rfl rfl)
theorem dX5_clause_61 : decode cX5_clause 61 = .ok (.iload_n 2, 1) := dk_28 (dk_at dksX5_clause_2 14 rfl rfl)
theorem dX5_clause_62 : decode cX5_clause 62 = .ok (.ifCond .eq 16, 3) := dk_153 0 16 (dk_at dksX5_clause_2 15 rfl rfl)
theorem dX5_clause_65 : decode cX5_clause 65 = .ok (.aload_n 1, 1) := dk_43 (dk_at dksX5_clause_2 18 rfl rfl)
theorem dX5_clause_66 : decode cX5_clause 66 = .ok (.invokevirtual 150, 3) := dk_182 0 150 (dk_at dksX5_clause_2 19 rfl rfl)
theorem dX5_clause_69 : decode cX5_clause 69 = .ok (.bipush 8, 2) := dk_16 8 (dk_at dksX5_clause_2 22 rfl rfl)
theorem dX5_clause_71 : decode cX5_clause 71 = .ok (.if_icmp .ge 7, 3) := dk_162 0 7 (dk_at dksX5_clause_3 0 rfl rfl)
theorem dX5_clause_74 : decode cX5_clause 74 = .ok (.iconst 1, 1) := dk_4 (dk_at dksX5_clause_3 3 rfl rfl)
theorem dX5_clause_75 : decode cX5_clause 75 = .ok (.goto 4, 3) := dk_167 0 4 (dk_at dksX5_clause_3 4 rfl rfl)
theorem dX5_clause_78 : decode cX5_clause 78 = .ok (.iconst 0, 1) := dk_3 (dk_at dksX5_clause_3 7 rfl rfl)
theorem dX5_clause_79 : decode cX5_clause 79 = .ok (.invokevirtual 189, 3) := dk_182 0 189 (dk_at dksX5_clause_3 8 rfl rfl)
theorem dX5_clause_82 : decode cX5_clause 82 = .ok (.ifCond .eq 24, 3) := dk_153 0 24 (dk_at dksX5_clause_3 11 rfl rfl)
theorem dX5_clause_85 : decode cX5_clause 85 = .ok (.aload_n 1, 1) := dk_43 (dk_at dksX5_clause_3 14 rfl rfl)
theorem dX5_clause_86 : decode cX5_clause 86 = .ok (.getfield 196, 3) := dk_180 0 196 (dk_at dksX5_clause_3 15 rfl rfl)
theorem dX5_clause_89 : decode cX5_clause 89 = .ok (.aload_n 0, 1) := dk_42 (dk_at dksX5_clause_3 18 rfl rfl)
theorem dX5_clause_90 : decode cX5_clause 90 = .ok (.iconst 0, 1) := dk_3 (dk_at dksX5_clause_3 19 rfl rfl)
theorem dX5_clause_91 : decode cX5_clause 91 = .ok (.bipush 99, 2) := dk_16 99 (dk_at dksX5_clause_3 20 rfl rfl)
theorem dX5_clause_93 : decode cX5_clause 93 = .ok (.invokevirtual 82, 3) := dk_182 0 82 (dk_at dksX5_clause_4 0 rfl rfl)
theorem dX5_clause_96 : decode cX5_clause 96 = .ok (.invokestatic 198, 3) := dk_184 0 198 (dk_at dksX5_clause_4 3 rfl rfl)
theorem dX5_clause_99 : decode cX5_clause 99 = .ok (.invokevirtual 164, 3) := dk_182 0 164 (dk_at dksX5_clause_4 6 rfl rfl)
theorem dX5_clause_102 : decode cX5_clause 102 = .ok (.pop, 1) := dk_87 (dk_at dksX5_clause_4 9 rfl rfl)
theorem dX5_clause_103 : decode cX5_clause 103 = .ok (.goto 104, 3) := dk_167 0 104 (dk_at dksX5_clause_4 10 rfl rfl)
theorem dX5_clause_106 : decode cX5_clause 106 = .ok (.aload_n 0, 1) := dk_42 (dk_at dksX5_clause_4 13 rfl rfl)
theorem dX5_clause_107 : decode cX5_clause 107 = .ok (.ldc 204, 2) := dk_18 204 (dk_at dksX5_clause_4 14 rfl rfl)
theorem dX5_clause_109 : decode cX5_clause 109 = .ok (.iload_n 2, 1) := dk_28 (dk_at dksX5_clause_4 16 rfl rfl)
theorem dX5_clause_110 : decode cX5_clause 110 = .ok (.ifCond .eq 15, 3) := dk_153 0 15 (dk_at dksX5_clause_4 17 rfl rfl)
theorem dX5_clause_113 : decode cX5_clause 113 = .ok (.aload_n 1, 1) := dk_43 (dk_at dksX5_clause_4 20 rfl rfl)
theorem dX5_clause_114 : decode cX5_clause 114 = .ok (.invokevirtual 206, 3) := dk_182 0 206 (dk_at dksX5_clause_4 21 rfl rfl)
theorem dX5_clause_117 : decode cX5_clause 117 = .ok (.iconst 4, 1) := dk_7 (dk_at dksX5_clause_5 0 rfl rfl)
theorem dX5_clause_118 : decode cX5_clause 118 = .ok (.if_icmp .ge 7, 3) := dk_162 0 7 (dk_at dksX5_clause_5 1 rfl rfl)
theorem dX5_clause_121 : decode cX5_clause 121 = .ok (.iconst 1, 1) := dk_4 (dk_at dksX5_clause_5 4 rfl rfl)
theorem dX5_clause_122 : decode cX5_clause 122 = .ok (.goto 4, 3) := dk_167 0 4 (dk_at dksX5_clause_5 5 rfl rfl)
theorem dX5_clause_125 : decode cX5_clause 125 = .ok (.iconst 0, 1) := dk_3 (dk_at dksX5_clause_5 8 rfl rfl)
theorem dX5_clause_126 : decode cX5_clause 126 = .ok (.invokevirtual 189, 3) := dk_182 0 189 (dk_at dksX5_clause_5 9 rfl rfl)
theorem dX5_clause_129 : decode cX5_clause 129 = .ok (.ifCond .eq 11, 3) := dk_153 0 11 (dk_at dksX5_clause_5 12 rfl rfl)
theorem dX5_clause_132 : decode cX5_clause 132 = .ok (.aload_n 0, 1) := dk_42 (dk_at dksX5_clause_5 15 rfl rfl)
theorem dX5_clause_133 : decode cX5_clause 133 = .ok (.aload_n 1, 1) := dk_43 (dk_at dksX5_clause_5 16 rfl rfl)
theorem dX5_clause_134 : decode cX5_clause 134 = .ok (.invokevirtual 208, 3) := dk_182 0 208 (dk_at dksX5_clause_5 17 rfl rfl)
theorem dX5_clause_137 : decode cX5_clause 137 = .ok (.goto 70, 3) := dk_167 0 70 (dk_at dksX5_clause_5 20 rfl rfl)
theorem dX5_clause_140 : decode cX5_clause 140 = .ok (.aload_n 0, 1) := dk_42 (dk_at dksX5_clause_5 23 rfl rfl)
theorem dX5_clause_141 : decode cX5_clause 141 = .ok (.ldc 211, 2) := dk_18 211 (dk_at dksX5_clause_6 0 rfl rfl)
theorem dX5_clause_143 : decode cX5_clause 143 = .ok (.iload_n 2, 1) := dk_28 (dk_at dksX5_clause_6 2 rfl rfl)
theorem dX5_clause_144 : decode cX5_clause 144 = .ok (.invokevirtual 189, 3) := dk_182 0 189 (dk_at dksX5_clause_6 3 rfl rfl)
theorem dX5_clause_147 : decode cX5_clause 147 = .ok (.ifCond .eq 11, 3) := dk_153 0 11 (dk_at dksX5_clause_6 6 rfl rfl)
theorem dX5_clause_150 : decode cX5_clause 150 = .ok (.aload_n 0, 1) := dk_42 (dk_at dksX5_clause_6 9 rfl rfl)
theorem dX5_clause_151 : decode cX5_clause 151 = .ok (.aload_n 1, 1) := dk_43 (dk_at dksX5_clause_6 10 rfl rfl)
theorem dX5_clause_152 : decode cX5_clause 152 = .ok (.invokevirtual 213, 3) := dk_182 0 213 (dk_at dksX5_clause_6 11 rfl rfl)
theorem dX5_clause_155 : decode cX5_clause 155 = .ok (.goto 52, 3) := dk_167 0 52 (dk_at dksX5_clause_6 14 rfl rfl)
theorem dX5_clause_158 : decode cX5_clause 158 = .ok (.aload_n 0, 1) := dk_42 (dk_at dksX5_clause_6 17 rfl rfl)
theorem dX5_clause_159 : decode cX5_clause 159 = .ok (.ldc 215, 2) := dk_18 215 (dk_at dksX5_clause_6 18 rfl rfl)
theorem dX5_clause_161 : decode cX5_clause 161 = .ok (.iload_n 2, 1) := dk_28 (dk_at dksX5_clause_6 20 rfl rfl)
theorem dX5_clause_162 : decode cX5_clause 162 = .ok (.invokevirtual 189, 3) := dk_182 0 189 (dk_at dksX5_clause_6 21 rfl rfl)
theorem dX5_clause_165 : decode cX5_clause 165 = .ok (.ifCond .eq 11, 3) := dk_153 0 11 (dk_at dksX5_clause_7 0 rfl rfl)
theorem dX5_clause_168 : decode cX5_clause 168 = .ok (.aload_n 0, 1) := dk_42 (dk_at dksX5_clause_7 3 rfl rfl)
theorem dX5_clause_169 : decode cX5_clause 169 = .ok (.aload_n 1, 1) := dk_43 (dk_at dksX5_clause_7 4 rfl rfl)
theorem dX5_clause_170 : decode cX5_clause 170 = .ok (.invokevirtual 217, 3) := dk_182 0 217 (dk_at dksX5_clause_7 5 rfl rfl)
theorem dX5_clause_173 : decode cX5_clause 173 = .ok (.goto 34, 3) := dk_167 0 34 (dk_at dksX5_clause_7 8 rfl rfl)
theorem dX5_clause_176 : decode cX5_clause 176 = .ok (.aload_n 0, 1) := dk_42 (dk_at dksX5_clause_7 11 rfl rfl)
theorem dX5_clause_177 : decode cX5_clause 177 = .ok (.ldc 219, 2) := dk_18 219 (dk_at dksX5_clause_7 12 rfl rfl)
theorem dX5_clause_179 : decode cX5_clause 179 = .ok (.iload_n 2, 1) := dk_28 (dk_at dksX5_clause_7 14 rfl rfl)
theorem dX5_clause_180 : decode cX5_clause 180 = .ok (.invokevirtual 189, 3) := dk_182 0 189 (dk_at dksX5_clause_7 15 rfl rfl)
theorem dX5_clause_183 : decode cX5_clause 183 = .ok (.ifCond .eq 11, 3) := dk_153 0 11 (dk_at dksX5_clause_7 18 rfl rfl)
theorem dX5_clause_186 : decode cX5_clause 186 = .ok (.aload_n 0, 1) := dk_42 (dk_at dksX5_clause_7 21 rfl rfl)
theorem dX5_clause_187 : decode cX5_clause 187 = .ok (.aload_n 1, 1) := dk_43 (dk_at dksX5_clause_7 22 rfl rfl)
theorem dX5_clause_188 : decode cX5_clause 188 = .ok (.invokevirtual 221, 3) := dk_182 0 221 (dk_at dksX5_clause_8 0 rfl rfl)
theorem dX5_clause_191 : decode cX5_clause 191 = .ok (.goto 16, 3) := dk_167 0 16 (dk_at dksX5_clause_8 3 rfl rfl)
theorem dX5_clause_194 : decode cX5_clause 194 = .ok (.aload_n 0, 1) := dk_42 (dk_at dksX5_clause_8 6 rfl rfl)
theorem dX5_clause_195 : decode cX5_clause 195 = .ok (.getfield 3, 3) := dk_180 0 3 (dk_at dksX5_clause_8 7 rfl rfl)
theorem dX5_clause_198 : decode cX5_clause 198 = .ok (.iconst 0, 1) := dk_3 (dk_at dksX5_clause_8 10 rfl rfl)
theorem dX5_clause_199 : decode cX5_clause 199 = .ok (.aload_n 0, 1) := dk_42 (dk_at dksX5_clause_8 11 rfl rfl)
theorem dX5_clause_200 : decode cX5_clause 200 = .ok (.getfield 23, 3) := dk_180 0 23 (dk_at dksX5_clause_8 12 rfl rfl)
theorem dX5_clause_203 : decode cX5_clause 203 = .ok (.invokevirtual 69, 3) := dk_182 0 69 (dk_at dksX5_clause_8 15 rfl rfl)
theorem dX5_clause_206 : decode cX5_clause 206 = .ok (.athrow, 1) := dk_191 (dk_at dksX5_clause_8 18 rfl rfl)
theorem dX5_clause_207 : decode cX5_clause 207 = .ok (.return_, 1) := dk_177 (dk_at dksX5_clause_8 19 rfl rfl)
abbrev cX5_begins : ByteArray := prog_10_method_16_code
def yX5_begins : MethodName := ⟨RX5, "begins", "(Ljava/lang/String;Z)Z"⟩
def dkwX5_begins_2 : List UInt8 := [181, 0, 147, 42, 89, 180, 0, 23, 43, 182, 0, 52, 96, 181, 0, 23, 4, 172]
abbrev dktX5_begins_2 : List UInt8 := dkwX5_begins_2 ++ []
def dkwX5_begins_1 : List UInt8 := [154, 0, 16, 42, 180, 0, 3, 7, 42, 180, 0, 23, 182, 0, 69, 191, 42, 89, 180, 0, 147, 4, 96]
abbrev dktX5_begins_1 : List UInt8 := dkwX5_begins_1 ++ dktX5_begins_2
def dkwX5_begins_0 : List UInt8 := [42, 43, 182, 0, 61, 154, 0, 5, 3, 172, 42, 180, 0, 147, 42, 180, 0, 19, 159, 0, 7, 28]
abbrev dktX5_begins_0 : List UInt8 := dkwX5_begins_0 ++ dktX5_begins_1
theorem dksX5_begins_0 : cX5_begins.data.toList.drop 0 = dktX5_begins_0 := by decide +kernel
theorem dksX5_begins_1 : cX5_begins.data.toList.drop 22 = dktX5_begins_1 := dk_seg dksX5_begins_0 22 rfl rfl
theorem dksX5_begins_2 : cX5_begins.data.toList.drop 45 = dktX5_begins_2 := dk_seg dksX5_begins_1 23 rfl rfl
theorem dX5_begins_0 : decode cX5_begins 0 = .ok (.aload_n 0, 1) := dk_42 (dk_at dksX5_begins_0 0 rfl rfl)
theorem dX5_begins_1 : decode cX5_begins 1 = .ok (.aload_n 1, 1) := dk_43 (dk_at dksX5_begins_0 1 rfl rfl)
theorem dX5_begins_2 : decode cX5_begins 2 = .ok (.invokevirtual 61, 3) := dk_182 0 61 (dk_at dksX5_begins_0 2 rfl rfl)
theorem dX5_begins_5 : decode cX5_begins 5 = .ok (.ifCond .ne 5, 3) := dk_154 0 5 (dk_at dksX5_begins_0 5 rfl rfl)
theorem dX5_begins_8 : decode cX5_begins 8 = .ok (.iconst 0, 1) := dk_3 (dk_at dksX5_begins_0 8 rfl rfl)
theorem dX5_begins_9 : decode cX5_begins 9 = .ok (.ireturn, 1) := dk_172 (dk_at dksX5_begins_0 9 rfl rfl)
theorem dX5_begins_10 : decode cX5_begins 10 = .ok (.aload_n 0, 1) := dk_42 (dk_at dksX5_begins_0 10 rfl rfl)
theorem dX5_begins_11 : decode cX5_begins 11 = .ok (.getfield 147, 3) := dk_180 0 147 (dk_at dksX5_begins_0 11 rfl rfl)
theorem dX5_begins_14 : decode cX5_begins 14 = .ok (.aload_n 0, 1) := dk_42 (dk_at dksX5_begins_0 14 rfl rfl)
theorem dX5_begins_15 : decode cX5_begins 15 = .ok (.getfield 19, 3) := dk_180 0 19 (dk_at dksX5_begins_0 15 rfl rfl)
theorem dX5_begins_18 : decode cX5_begins 18 = .ok (.if_icmp .eq 7, 3) := dk_159 0 7 (dk_at dksX5_begins_0 18 rfl rfl)
theorem dX5_begins_21 : decode cX5_begins 21 = .ok (.iload_n 2, 1) := dk_28 (dk_at dksX5_begins_0 21 rfl rfl)
theorem dX5_begins_22 : decode cX5_begins 22 = .ok (.ifCond .ne 16, 3) := dk_154 0 16 (dk_at dksX5_begins_1 0 rfl rfl)
theorem dX5_begins_25 : decode cX5_begins 25 = .ok (.aload_n 0, 1) := dk_42 (dk_at dksX5_begins_1 3 rfl rfl)
theorem dX5_begins_26 : decode cX5_begins 26 = .ok (.getfield 3, 3) := dk_180 0 3 (dk_at dksX5_begins_1 4 rfl rfl)
theorem dX5_begins_29 : decode cX5_begins 29 = .ok (.iconst 4, 1) := dk_7 (dk_at dksX5_begins_1 7 rfl rfl)
theorem dX5_begins_30 : decode cX5_begins 30 = .ok (.aload_n 0, 1) := dk_42 (dk_at dksX5_begins_1 8 rfl rfl)
theorem dX5_begins_31 : decode cX5_begins 31 = .ok (.getfield 23, 3) := dk_180 0 23 (dk_at dksX5_begins_1 9 rfl rfl)
theorem dX5_begins_34 : decode cX5_begins 34 = .ok (.invokevirtual 69, 3) := dk_182 0 69 (dk_at dksX5_begins_1 12 rfl rfl)
theorem dX5_begins_37 : decode cX5_begins 37 = .ok (.athrow, 1) := dk_191 (dk_at dksX5_begins_1 15 rfl rfl)
theorem dX5_begins_38 : decode cX5_begins 38 = .ok (.aload_n 0, 1) := dk_42 (dk_at dksX5_begins_1 16 rfl rfl)
theorem dX5_begins_39 : decode cX5_begins 39 = .ok (.dup, 1) := dk_89 (dk_at dksX5_begins_1 17 rfl rfl)
theorem dX5_begins_40 : decode cX5_begins 40 = .ok (.getfield 147, 3) := dk_180 0 147 (dk_at dksX5_begins_1 18 rfl rfl)
theorem dX5_begins_43 : decode cX5_begins 43 = .ok (.iconst 1, 1) := dk_4 (dk_at dksX5_begins_1 21 rfl rfl)
theorem dX5_begins_44 : decode cX5_begins 44 = .ok (.iadd, 1) := dk_96 (dk_at dksX5_begins_1 22 rfl rfl)
theorem dX5_begins_45 : decode cX5_begins 45 = .ok (.putfield 147, 3) := dk_181 0 147 (dk_at dksX5_begins_2 0 rfl rfl)
theorem dX5_begins_48 : decode cX5_begins 48 = .ok (.aload_n 0, 1) := dk_42 (dk_at dksX5_begins_2 3 rfl rfl)
theorem dX5_begins_49 : decode cX5_begins 49 = .ok (.dup, 1) := dk_89 (dk_at dksX5_begins_2 4 rfl rfl)
theorem dX5_begins_50 : decode cX5_begins 50 = .ok (.getfield 23, 3) := dk_180 0 23 (dk_at dksX5_begins_2 5 rfl rfl)
theorem dX5_begins_53 : decode cX5_begins 53 = .ok (.aload_n 1, 1) := dk_43 (dk_at dksX5_begins_2 8 rfl rfl)
theorem dX5_begins_54 : decode cX5_begins 54 = .ok (.invokevirtual 52, 3) := dk_182 0 52 (dk_at dksX5_begins_2 9 rfl rfl)
theorem dX5_begins_57 : decode cX5_begins 57 = .ok (.iadd, 1) := dk_96 (dk_at dksX5_begins_2 12 rfl rfl)
theorem dX5_begins_58 : decode cX5_begins 58 = .ok (.putfield 23, 3) := dk_181 0 23 (dk_at dksX5_begins_2 13 rfl rfl)
theorem dX5_begins_61 : decode cX5_begins 61 = .ok (.iconst 1, 1) := dk_4 (dk_at dksX5_begins_2 16 rfl rfl)
theorem dX5_begins_62 : decode cX5_begins 62 = .ok (.ireturn, 1) := dk_172 (dk_at dksX5_begins_2 17 rfl rfl)
abbrev cX5_isWord : ByteArray := prog_10_method_5_code
def yX5_isWord : MethodName := ⟨RX5, "isWord", "(Ljava/lang/String;)Z"⟩
def dkwX5_isWord_5 : List UInt8 := [132, 4, 1, 167, 255, 210, 29, 172]
abbrev dktX5_isWord_5 : List UInt8 := dkwX5_isWord_5 ++ []
def dkwX5_isWord_4 : List UInt8 := [180, 0, 23, 21, 4, 96, 51, 43, 21, 4, 182, 0, 57, 160, 0, 7, 4, 167, 0, 4, 3, 62]
abbrev dktX5_isWord_4 : List UInt8 := dkwX5_isWord_4 ++ dktX5_isWord_5
def dkwX5_isWord_3 : List UInt8 := [54, 4, 21, 4, 43, 182, 0, 52, 162, 0, 43, 29, 153, 0, 39, 42, 180, 0, 3, 180, 0, 29, 42]
abbrev dktX5_isWord_3 : List UInt8 := dkwX5_isWord_3 ++ dktX5_isWord_4
def dkwX5_isWord_2 : List UInt8 := [167, 255, 220, 28, 42, 180, 0, 23, 100, 43, 182, 0, 52, 160, 0, 7, 4, 167, 0, 4, 3, 62, 3]
abbrev dktX5_isWord_2 : List UInt8 := dkwX5_isWord_2 ++ dktX5_isWord_3
def dkwX5_isWord_1 : List UInt8 := [180, 0, 3, 180, 0, 29, 28, 51, 133, 20, 0, 48, 20, 0, 50, 184, 0, 41, 153, 0, 9, 132, 2, 1]
abbrev dktX5_isWord_1 : List UInt8 := dkwX5_isWord_1 ++ dktX5_isWord_2
def dkwX5_isWord_0 : List UInt8 := [42, 182, 0, 45, 87, 42, 180, 0, 23, 61, 28, 42, 180, 0, 3, 180, 0, 26, 162, 0, 31, 42]
abbrev dktX5_isWord_0 : List UInt8 := dkwX5_isWord_0 ++ dktX5_isWord_1
theorem dksX5_isWord_0 : cX5_isWord.data.toList.drop 0 = dktX5_isWord_0 := by decide +kernel
theorem dksX5_isWord_1 : cX5_isWord.data.toList.drop 22 = dktX5_isWord_1 := dk_seg dksX5_isWord_0 22 rfl rfl
theorem dksX5_isWord_2 : cX5_isWord.data.toList.drop 46 = dktX5_isWord_2 := dk_seg dksX5_isWord_1 24 rfl rfl
theorem dksX5_isWord_3 : cX5_isWord.data.toList.drop 69 = dktX5_isWord_3 := dk_seg dksX5_isWord_2 23 rfl rfl
theorem dksX5_isWord_4 : cX5_isWord.data.toList.drop 92 = dktX5_isWord_4 := dk_seg dksX5_isWord_3 23 rfl rfl
theorem dksX5_isWord_5 : cX5_isWord.data.toList.drop 114 = dktX5_isWord_5 := dk_seg dksX5_isWord_4 22 rfl rfl
theorem dX5_isWord_0 : decode cX5_isWord 0 = .ok (.aload_n 0, 1) := dk_42 (dk_at dksX5_isWord_0 0 rfl rfl)
theorem dX5_isWord_1 : decode cX5_isWord 1 = .ok (.invokevirtual 45, 3) := dk_182 0 45 (dk_at dksX5_isWord_0 1 rfl rfl)
theorem dX5_isWord_4 : decode cX5_isWord 4 = .ok (.pop, 1) := dk_87 (dk_at dksX5_isWord_0 4 rfl rfl)
theorem dX5_isWord_5 : decode cX5_isWord 5 = .ok (.aload_n 0, 1) := dk_42 (dk_at dksX5_isWord_0 5 rfl rfl)
theorem dX5_isWord_6 : decode cX5_isWord 6 = .ok (.getfield 23, 3) := dk_180 0 23 (dk_at dksX5_isWord_0 6 rfl rfl)
theorem dX5_isWord_9 : decode cX5_isWord 9 = .ok (.istore_n 2, 1) := dk_61 (dk_at dksX5_isWord_0 9 rfl rfl)
theorem dX5_isWord_10 : decode cX5_isWord 10 = .ok (.iload_n 2, 1) := dk_28 (dk_at dksX5_isWord_0 10 rfl rfl)
theorem dX5_isWord_11 : decode cX5_isWord 11 = .ok (.aload_n 0, 1) := dk_42 (dk_at dksX5_isWord_0 11 rfl rfl)
theorem dX5_isWord_12 : decode cX5_isWord 12 = .ok (.getfield 3, 3) := dk_180 0 3 (dk_at dksX5_isWord_0 12 rfl rfl)
theorem dX5_isWord_15 : decode cX5_isWord 15 = .ok (.getfield 26, 3) := dk_180 0 26 (dk_at dksX5_isWord_0 15 rfl rfl)
theorem dX5_isWord_18 : decode cX5_isWord 18 = .ok (.if_icmp .ge 31, 3) := dk_162 0 31 (dk_at dksX5_isWord_0 18 rfl rfl)
theorem dX5_isWord_21 : decode cX5_isWord 21 = .ok (.aload_n 0, 1) := dk_42 (dk_at dksX5_isWord_0 21 rfl rfl)
theorem dX5_isWord_22 : decode cX5_isWord 22 = .ok (.getfield 3, 3) := dk_180 0 3 (dk_at dksX5_isWord_1 0 rfl rfl)
theorem dX5_isWord_25 : decode cX5_isWord 25 = .ok (.getfield 29, 3) := dk_180 0 29 (dk_at dksX5_isWord_1 3 rfl rfl)
theorem dX5_isWord_28 : decode cX5_isWord 28 = .ok (.iload_n 2, 1) := dk_28 (dk_at dksX5_isWord_1 6 rfl rfl)
theorem dX5_isWord_29 : decode cX5_isWord 29 = .ok (.baload, 1) := dk_51 (dk_at dksX5_isWord_1 7 rfl rfl)
theorem dX5_isWord_30 : decode cX5_isWord 30 = .ok (.i2l, 1) := dk_133 (dk_at dksX5_isWord_1 8 rfl rfl)
theorem dX5_isWord_31 : decode cX5_isWord 31 = .ok (.ldc2_w 48, 3) := dk_20 0 48 (dk_at dksX5_isWord_1 9 rfl rfl)
theorem dX5_isWord_34 : decode cX5_isWord 34 = .ok (.ldc2_w 50, 3) := dk_20 0 50 (dk_at dksX5_isWord_1 12 rfl rfl)
theorem dX5_isWord_37 : decode cX5_isWord 37 = .ok (.invokestatic 41, 3) := dk_184 0 41 (dk_at dksX5_isWord_1 15 rfl rfl)
theorem dX5_isWord_40 : decode cX5_isWord 40 = .ok (.ifCond .eq 9, 3) := dk_153 0 9 (dk_at dksX5_isWord_1 18 rfl rfl)
theorem dX5_isWord_43 : decode cX5_isWord 43 = .ok (.iinc 2 1, 3) := dk_132 2 1 (dk_at dksX5_isWord_1 21 rfl rfl)
theorem dX5_isWord_46 : decode cX5_isWord 46 = .ok (.goto (-36), 3) := dk_167 255 220 (dk_at dksX5_isWord_2 0 rfl rfl)
theorem dX5_isWord_49 : decode cX5_isWord 49 = .ok (.iload_n 2, 1) := dk_28 (dk_at dksX5_isWord_2 3 rfl rfl)
theorem dX5_isWord_50 : decode cX5_isWord 50 = .ok (.aload_n 0, 1) := dk_42 (dk_at dksX5_isWord_2 4 rfl rfl)
theorem dX5_isWord_51 : decode cX5_isWord 51 = .ok (.getfield 23, 3) := dk_180 0 23 (dk_at dksX5_isWord_2 5 rfl rfl)
theorem dX5_isWord_54 : decode cX5_isWord 54 = .ok (.isub, 1) := dk_100 (dk_at dksX5_isWord_2 8 rfl rfl)
theorem dX5_isWord_55 : decode cX5_isWord 55 = .ok (.aload_n 1, 1) := dk_43 (dk_at dksX5_isWord_2 9 rfl rfl)
theorem dX5_isWord_56 : decode cX5_isWord 56 = .ok (.invokevirtual 52, 3) := dk_182 0 52 (dk_at dksX5_isWord_2 10 rfl rfl)
theorem dX5_isWord_59 : decode cX5_isWord 59 = .ok (.if_icmp .ne 7, 3) := dk_160 0 7 (dk_at dksX5_isWord_2 13 rfl rfl)
theorem dX5_isWord_62 : decode cX5_isWord 62 = .ok (.iconst 1, 1) := dk_4 (dk_at dksX5_isWord_2 16 rfl rfl)
theorem dX5_isWord_63 : decode cX5_isWord 63 = .ok (.goto 4, 3) := dk_167 0 4 (dk_at dksX5_isWord_2 17 rfl rfl)
theorem dX5_isWord_66 : decode cX5_isWord 66 = .ok (.iconst 0, 1) := dk_3 (dk_at dksX5_isWord_2 20 rfl rfl)
theorem dX5_isWord_67 : decode cX5_isWord 67 = .ok (.istore_n 3, 1) := dk_62 (dk_at dksX5_isWord_2 21 rfl rfl)
theorem dX5_isWord_68 : decode cX5_isWord 68 = .ok (.iconst 0, 1) := dk_3 (dk_at dksX5_isWord_2 22 rfl rfl)
theorem dX5_isWord_69 : decode cX5_isWord 69 = .ok (.istore 4, 2) := dk_54 4 (dk_at dksX5_isWord_3 0 rfl rfl)
theorem dX5_isWord_71 : decode cX5_isWord 71 = .ok (.iload 4, 2) := dk_21 4 (dk_at dksX5_isWord_3 2 rfl rfl)
theorem dX5_isWord_73 : decode cX5_isWord 73 = .ok (.aload_n 1, 1) := dk_43 (dk_at dksX5_isWord_3 4 rfl rfl)
theorem dX5_isWord_74 : decode cX5_isWord 74 = .ok (.invokevirtual 52, 3) := dk_182 0 52 (dk_at dksX5_isWord_3 5 rfl rfl)
theorem dX5_isWord_77 : decode cX5_isWord 77 = .ok (.if_icmp .ge 43, 3) := dk_162 0 43 (dk_at dksX5_isWord_3 8 rfl rfl)
theorem dX5_isWord_80 : decode cX5_isWord 80 = .ok (.iload_n 3, 1) := dk_29 (dk_at dksX5_isWord_3 11 rfl rfl)
theorem dX5_isWord_81 : decode cX5_isWord 81 = .ok (.ifCond .eq 39, 3) := dk_153 0 39 (dk_at dksX5_isWord_3 12 rfl rfl)
theorem dX5_isWord_84 : decode cX5_isWord 84 = .ok (.aload_n 0, 1) := dk_42 (dk_at dksX5_isWord_3 15 rfl rfl)
theorem dX5_isWord_85 : decode cX5_isWord 85 = .ok (.getfield 3, 3) := dk_180 0 3 (dk_at dksX5_isWord_3 16 rfl rfl)
theorem dX5_isWord_88 : decode cX5_isWord 88 = .ok (.getfield 29, 3) := dk_180 0 29 (dk_at dksX5_isWord_3 19 rfl rfl)
theorem dX5_isWord_91 : decode cX5_isWord 91 = .ok (.aload_n 0, 1) := dk_42 (dk_at dksX5_isWord_3 22 rfl rfl)
theorem dX5_isWord_92 : decode cX5_isWord 92 = .ok (.getfield 23, 3) := dk_180 0 23 (dk_at dksX5_isWord_4 0 rfl rfl)
theorem dX5_isWord_95 : decode cX5_isWord 95 = .ok (.iload 4, 2) := dk_21 4 (dk_at dksX5_isWord_4 3 rfl rfl)
theorem dX5_isWord_97 : decode cX5_isWord 97 = .ok (.iadd, 1) := dk_96 (dk_at dksX5_isWord_4 5 rfl rfl)
theorem dX5_isWord_98 : decode cX5_isWord 98 = .ok (.baload, 1) := dk_51 (dk_at dksX5_isWord_4 6 rfl rfl)
theorem dX5_isWord_99 : decode cX5_isWord 99 = .ok (.aload_n 1, 1) := dk_43 (dk_at dksX5_isWord_4 7 rfl rfl)
theorem dX5_isWord_100 : decode cX5_isWord 100 = .ok (.iload 4, 2) := dk_21 4 (dk_at dksX5_isWord_4 8 rfl rfl)
theorem dX5_isWord_102 : decode cX5_isWord 102 = .ok (.invokevirtual 57, 3) := dk_182 0 57 (dk_at dksX5_isWord_4 10 rfl rfl)
theorem dX5_isWord_105 : decode cX5_isWord 105 = .ok (.if_icmp .ne 7, 3) := dk_160 0 7 (dk_at dksX5_isWord_4 13 rfl rfl)
theorem dX5_isWord_108 : decode cX5_isWord 108 = .ok (.iconst 1, 1) := dk_4 (dk_at dksX5_isWord_4 16 rfl rfl)
theorem dX5_isWord_109 : decode cX5_isWord 109 = .ok (.goto 4, 3) := dk_167 0 4 (dk_at dksX5_isWord_4 17 rfl rfl)
theorem dX5_isWord_112 : decode cX5_isWord 112 = .ok (.iconst 0, 1) := dk_3 (dk_at dksX5_isWord_4 20 rfl rfl)
theorem dX5_isWord_113 : decode cX5_isWord 113 = .ok (.istore_n 3, 1) := dk_62 (dk_at dksX5_isWord_4 21 rfl rfl)
theorem dX5_isWord_114 : decode cX5_isWord 114 = .ok (.iinc 4 1, 3) := dk_132 4 1 (dk_at dksX5_isWord_5 0 rfl rfl)
theorem dX5_isWord_117 : decode cX5_isWord 117 = .ok (.goto (-46), 3) := dk_167 255 210 (dk_at dksX5_isWord_5 3 rfl rfl)
theorem dX5_isWord_120 : decode cX5_isWord 120 = .ok (.iload_n 3, 1) := dk_29 (dk_at dksX5_isWord_5 6 rfl rfl)
theorem dX5_isWord_121 : decode cX5_isWord 121 = .ok (.ireturn, 1) := dk_172 (dk_at dksX5_isWord_5 7 rfl rfl)
abbrev cX5_next : ByteArray := prog_10_method_3_code
def yX5_next : MethodName := ⟨RX5, "next", "()I"⟩
def dkwX5_next_1 : List UInt8 := [182, 0, 33, 172]
abbrev dktX5_next_1 : List UInt8 := dkwX5_next_1 ++ []
def dkwX5_next_0 : List UInt8 := [42, 182, 0, 33, 16, 32, 160, 0, 16, 42, 89, 180, 0, 23, 4, 96, 181, 0, 23, 167, 255, 237, 42]
abbrev dktX5_next_0 : List UInt8 := dkwX5_next_0 ++ dktX5_next_1
theorem dksX5_next_0 : cX5_next.data.toList.drop 0 = dktX5_next_0 := by decide +kernel
theorem dksX5_next_1 : cX5_next.data.toList.drop 23 = dktX5_next_1 := dk_seg dksX5_next_0 23 rfl rfl
theorem dX5_next_0 : decode cX5_next 0 = .ok (.aload_n 0, 1) := dk_42 (dk_at dksX5_next_0 0 rfl rfl)
theorem dX5_next_1 : decode cX5_next 1 = .ok (.invokevirtual 33, 3) := dk_182 0 33 (dk_at dksX5_next_0 1 rfl rfl)
theorem dX5_next_4 : decode cX5_next 4 = .ok (.bipush 32, 2) := dk_16 32 (dk_at dksX5_next_0 4 rfl rfl)
theorem dX5_next_6 : decode cX5_next 6 = .ok (.if_icmp .ne 16, 3) := dk_160 0 16 (dk_at dksX5_next_0 6 rfl rfl)
theorem dX5_next_9 : decode cX5_next 9 = .ok (.aload_n 0, 1) := dk_42 (dk_at dksX5_next_0 9 rfl rfl)
theorem dX5_next_10 : decode cX5_next 10 = .ok (.dup, 1) := dk_89 (dk_at dksX5_next_0 10 rfl rfl)
theorem dX5_next_11 : decode cX5_next 11 = .ok (.getfield 23, 3) := dk_180 0 23 (dk_at dksX5_next_0 11 rfl rfl)
theorem dX5_next_14 : decode cX5_next 14 = .ok (.iconst 1, 1) := dk_4 (dk_at dksX5_next_0 14 rfl rfl)
theorem dX5_next_15 : decode cX5_next 15 = .ok (.iadd, 1) := dk_96 (dk_at dksX5_next_0 15 rfl rfl)
theorem dX5_next_16 : decode cX5_next 16 = .ok (.putfield 23, 3) := dk_181 0 23 (dk_at dksX5_next_0 16 rfl rfl)
theorem dX5_next_19 : decode cX5_next 19 = .ok (.goto (-19), 3) := dk_167 255 237 (dk_at dksX5_next_0 19 rfl rfl)
theorem dX5_next_22 : decode cX5_next 22 = .ok (.aload_n 0, 1) := dk_42 (dk_at dksX5_next_0 22 rfl rfl)
theorem dX5_next_23 : decode cX5_next 23 = .ok (.invokevirtual 33, 3) := dk_182 0 33 (dk_at dksX5_next_1 0 rfl rfl)
theorem dX5_next_26 : decode cX5_next 26 = .ok (.ireturn, 1) := dk_172 (dk_at dksX5_next_1 3 rfl rfl)
abbrev cX5_sign : ByteArray := prog_10_method_2_code
def yX5_sign : MethodName := ⟨RX5, "sign", "()I"⟩
def dkwX5_sign_1 : List UInt8 := [180, 0, 23, 51, 17, 0, 255, 126, 167, 0, 4, 2, 172]
abbrev dktX5_sign_1 : List UInt8 := dkwX5_sign_1 ++ []
def dkwX5_sign_0 : List UInt8 := [42, 180, 0, 23, 42, 180, 0, 3, 180, 0, 26, 162, 0, 22, 42, 180, 0, 3, 180, 0, 29, 42]
abbrev dktX5_sign_0 : List UInt8 := dkwX5_sign_0 ++ dktX5_sign_1
theorem dksX5_sign_0 : cX5_sign.data.toList.drop 0 = dktX5_sign_0 := by decide +kernel
theorem dksX5_sign_1 : cX5_sign.data.toList.drop 22 = dktX5_sign_1 := dk_seg dksX5_sign_0 22 rfl rfl
theorem dX5_sign_0 : decode cX5_sign 0 = .ok (.aload_n 0, 1) := dk_42 (dk_at dksX5_sign_0 0 rfl rfl)
theorem dX5_sign_1 : decode cX5_sign 1 = .ok (.getfield 23, 3) := dk_180 0 23 (dk_at dksX5_sign_0 1 rfl rfl)
theorem dX5_sign_4 : decode cX5_sign 4 = .ok (.aload_n 0, 1) := dk_42 (dk_at dksX5_sign_0 4 rfl rfl)
theorem dX5_sign_5 : decode cX5_sign 5 = .ok (.getfield 3, 3) := dk_180 0 3 (dk_at dksX5_sign_0 5 rfl rfl)
theorem dX5_sign_8 : decode cX5_sign 8 = .ok (.getfield 26, 3) := dk_180 0 26 (dk_at dksX5_sign_0 8 rfl rfl)
theorem dX5_sign_11 : decode cX5_sign 11 = .ok (.if_icmp .ge 22, 3) := dk_162 0 22 (dk_at dksX5_sign_0 11 rfl rfl)
theorem dX5_sign_14 : decode cX5_sign 14 = .ok (.aload_n 0, 1) := dk_42 (dk_at dksX5_sign_0 14 rfl rfl)
theorem dX5_sign_15 : decode cX5_sign 15 = .ok (.getfield 3, 3) := dk_180 0 3 (dk_at dksX5_sign_0 15 rfl rfl)
theorem dX5_sign_18 : decode cX5_sign 18 = .ok (.getfield 29, 3) := dk_180 0 29 (dk_at dksX5_sign_0 18 rfl rfl)
theorem dX5_sign_21 : decode cX5_sign 21 = .ok (.aload_n 0, 1) := dk_42 (dk_at dksX5_sign_0 21 rfl rfl)
theorem dX5_sign_22 : decode cX5_sign 22 = .ok (.getfield 23, 3) := dk_180 0 23 (dk_at dksX5_sign_1 0 rfl rfl)
theorem dX5_sign_25 : decode cX5_sign 25 = .ok (.baload, 1) := dk_51 (dk_at dksX5_sign_1 3 rfl rfl)
theorem dX5_sign_26 : decode cX5_sign 26 = .ok (.sipush 255, 3) := dk_17 0 255 (dk_at dksX5_sign_1 4 rfl rfl)
theorem dX5_sign_29 : decode cX5_sign 29 = .ok (.iand, 1) := dk_126 (dk_at dksX5_sign_1 7 rfl rfl)
theorem dX5_sign_30 : decode cX5_sign 30 = .ok (.goto 4, 3) := dk_167 0 4 (dk_at dksX5_sign_1 8 rfl rfl)
theorem dX5_sign_33 : decode cX5_sign 33 = .ok (.iconst (-1), 1) := dk_2 (dk_at dksX5_sign_1 11 rfl rfl)
theorem dX5_sign_34 : decode cX5_sign 34 = .ok (.ireturn, 1) := dk_172 (dk_at dksX5_sign_1 12 rfl rfl)
abbrev cX5_number : ByteArray := prog_10_method_7_code
def yX5_number : MethodName := ⟨RX5, "number", "(II)I"⟩
def dkwX5_number_4 : List UInt8 := [133, 27, 133, 28, 133, 184, 0, 41, 154, 0, 13, 42, 180, 0, 3, 4, 29, 182, 0, 69, 191, 21, 4, 172]
abbrev dktX5_number_4 : List UInt8 := dkwX5_number_4 ++ []
def dkwX5_number_3 : List UInt8 := [89, 180, 0, 23, 4, 96, 181, 0, 23, 167, 255, 209, 42, 180, 0, 23, 29, 100, 8, 163, 0, 16, 21, 4]
abbrev dktX5_number_3 : List UInt8 := dkwX5_number_3 ++ dktX5_number_4
def dkwX5_number_2 : List UInt8 := [162, 0, 19, 16, 10, 21, 4, 104, 42, 182, 0, 33, 96, 16, 48, 100, 167, 0, 5, 21, 4, 54, 4, 42]
abbrev dktX5_number_2 : List UInt8 := dkwX5_number_2 ++ dktX5_number_3
def dkwX5_number_1 : List UInt8 := [191, 42, 180, 0, 23, 62, 3, 54, 4, 42, 182, 0, 65, 153, 0, 46, 42, 180, 0, 23, 29, 100, 8]
abbrev dktX5_number_1 : List UInt8 := dkwX5_number_1 ++ dktX5_number_2
def dkwX5_number_0 : List UInt8 := [42, 182, 0, 45, 87, 42, 182, 0, 65, 154, 0, 16, 42, 180, 0, 3, 3, 42, 180, 0, 23, 182, 0, 69]
abbrev dktX5_number_0 : List UInt8 := dkwX5_number_0 ++ dktX5_number_1
theorem dksX5_number_0 : cX5_number.data.toList.drop 0 = dktX5_number_0 := by decide +kernel
theorem dksX5_number_1 : cX5_number.data.toList.drop 24 = dktX5_number_1 := dk_seg dksX5_number_0 24 rfl rfl
theorem dksX5_number_2 : cX5_number.data.toList.drop 47 = dktX5_number_2 := dk_seg dksX5_number_1 23 rfl rfl
theorem dksX5_number_3 : cX5_number.data.toList.drop 71 = dktX5_number_3 := dk_seg dksX5_number_2 24 rfl rfl
theorem dksX5_number_4 : cX5_number.data.toList.drop 95 = dktX5_number_4 := dk_seg dksX5_number_3 24 rfl rfl
theorem dX5_number_0 : decode cX5_number 0 = .ok (.aload_n 0, 1) := dk_42 (dk_at dksX5_number_0 0 rfl rfl)
theorem dX5_number_1 : decode cX5_number 1 = .ok (.invokevirtual 45, 3) := dk_182 0 45 (dk_at dksX5_number_0 1 rfl rfl)
theorem dX5_number_4 : decode cX5_number 4 = .ok (.pop, 1) := dk_87 (dk_at dksX5_number_0 4 rfl rfl)
theorem dX5_number_5 : decode cX5_number 5 = .ok (.aload_n 0, 1) := dk_42 (dk_at dksX5_number_0 5 rfl rfl)
theorem dX5_number_6 : decode cX5_number 6 = .ok (.invokevirtual 65, 3) := dk_182 0 65 (dk_at dksX5_number_0 6 rfl rfl)
theorem dX5_number_9 : decode cX5_number 9 = .ok (.ifCond .ne 16, 3) := dk_154 0 16 (dk_at dksX5_number_0 9 rfl rfl)
theorem dX5_number_12 : decode cX5_number 12 = .ok (.aload_n 0, 1) := dk_42 (dk_at dksX5_number_0 12 rfl rfl)
theorem dX5_number_13 : decode cX5_number 13 = .ok (.getfield 3, 3) := dk_180 0 3 (dk_at dksX5_number_0 13 rfl rfl)
theorem dX5_number_16 : decode cX5_number 16 = .ok (.iconst 0, 1) := dk_3 (dk_at dksX5_number_0 16 rfl rfl)
theorem dX5_number_17 : decode cX5_number 17 = .ok (.aload_n 0, 1) := dk_42 (dk_at dksX5_number_0 17 rfl rfl)
theorem dX5_number_18 : decode cX5_number 18 = .ok (.getfield 23, 3) := dk_180 0 23 (dk_at dksX5_number_0 18 rfl rfl)
theorem dX5_number_21 : decode cX5_number 21 = .ok (.invokevirtual 69, 3) := dk_182 0 69 (dk_at dksX5_number_0 21 rfl rfl)
theorem dX5_number_24 : decode cX5_number 24 = .ok (.athrow, 1) := dk_191 (dk_at dksX5_number_1 0 rfl rfl)
theorem dX5_number_25 : decode cX5_number 25 = .ok (.aload_n 0, 1) := dk_42 (dk_at dksX5_number_1 1 rfl rfl)
theorem dX5_number_26 : decode cX5_number 26 = .ok (.getfield 23, 3) := dk_180 0 23 (dk_at dksX5_number_1 2 rfl rfl)
theorem dX5_number_29 : decode cX5_number 29 = .ok (.istore_n 3, 1) := dk_62 (dk_at dksX5_number_1 5 rfl rfl)
theorem dX5_number_30 : decode cX5_number 30 = .ok (.iconst 0, 1) := dk_3 (dk_at dksX5_number_1 6 rfl rfl)
theorem dX5_number_31 : decode cX5_number 31 = .ok (.istore 4, 2) := dk_54 4 (dk_at dksX5_number_1 7 rfl rfl)
theorem dX5_number_33 : decode cX5_number 33 = .ok (.aload_n 0, 1) := dk_42 (dk_at dksX5_number_1 9 rfl rfl)
theorem dX5_number_34 : decode cX5_number 34 = .ok (.invokevirtual 65, 3) := dk_182 0 65 (dk_at dksX5_number_1 10 rfl rfl)
theorem dX5_number_37 : decode cX5_number 37 = .ok (.ifCond .eq 46, 3) := dk_153 0 46 (dk_at dksX5_number_1 13 rfl rfl)
theorem dX5_number_40 : decode cX5_number 40 = .ok (.aload_n 0, 1) := dk_42 (dk_at dksX5_number_1 16 rfl rfl)
theorem dX5_number_41 : decode cX5_number 41 = .ok (.getfield 23, 3) := dk_180 0 23 (dk_at dksX5_number_1 17 rfl rfl)
theorem dX5_number_44 : decode cX5_number 44 = .ok (.iload_n 3, 1) := dk_29 (dk_at dksX5_number_1 20 rfl rfl)
theorem dX5_number_45 : decode cX5_number 45 = .ok (.isub, 1) := dk_100 (dk_at dksX5_number_1 21 rfl rfl)
theorem dX5_number_46 : decode cX5_number 46 = .ok (.iconst 5, 1) := dk_8 (dk_at dksX5_number_1 22 rfl rfl)
theorem dX5_number_47 : decode cX5_number 47 = .ok (.if_icmp .ge 19, 3) := dk_162 0 19 (dk_at dksX5_number_2 0 rfl rfl)
theorem dX5_number_50 : decode cX5_number 50 = .ok (.bipush 10, 2) := dk_16 10 (dk_at dksX5_number_2 3 rfl rfl)
theorem dX5_number_52 : decode cX5_number 52 = .ok (.iload 4, 2) := dk_21 4 (dk_at dksX5_number_2 5 rfl rfl)
theorem dX5_number_54 : decode cX5_number 54 = .ok (.imul, 1) := dk_104 (dk_at dksX5_number_2 7 rfl rfl)
theorem dX5_number_55 : decode cX5_number 55 = .ok (.aload_n 0, 1) := dk_42 (dk_at dksX5_number_2 8 rfl rfl)
theorem dX5_number_56 : decode cX5_number 56 = .ok (.invokevirtual 33, 3) := dk_182 0 33 (dk_at dksX5_number_2 9 rfl rfl)
theorem dX5_number_59 : decode cX5_number 59 = .ok (.iadd, 1) := dk_96 (dk_at dksX5_number_2 12 rfl rfl)
theorem dX5_number_60 : decode cX5_number 60 = .ok (.bipush 48, 2) := dk_16 48 (dk_at dksX5_number_2 13 rfl rfl)
theorem dX5_number_62 : decode cX5_number 62 = .ok (.isub, 1) := dk_100 (dk_at dksX5_number_2 15 rfl rfl)
theorem dX5_number_63 : decode cX5_number 63 = .ok (.goto 5, 3) := dk_167 0 5 (dk_at dksX5_number_2 16 rfl rfl)
theorem dX5_number_66 : decode cX5_number 66 = .ok (.iload 4, 2) := dk_21 4 (dk_at dksX5_number_2 19 rfl rfl)
theorem dX5_number_68 : decode cX5_number 68 = .ok (.istore 4, 2) := dk_54 4 (dk_at dksX5_number_2 21 rfl rfl)
theorem dX5_number_70 : decode cX5_number 70 = .ok (.aload_n 0, 1) := dk_42 (dk_at dksX5_number_2 23 rfl rfl)
theorem dX5_number_71 : decode cX5_number 71 = .ok (.dup, 1) := dk_89 (dk_at dksX5_number_3 0 rfl rfl)
theorem dX5_number_72 : decode cX5_number 72 = .ok (.getfield 23, 3) := dk_180 0 23 (dk_at dksX5_number_3 1 rfl rfl)
theorem dX5_number_75 : decode cX5_number 75 = .ok (.iconst 1, 1) := dk_4 (dk_at dksX5_number_3 4 rfl rfl)
theorem dX5_number_76 : decode cX5_number 76 = .ok (.iadd, 1) := dk_96 (dk_at dksX5_number_3 5 rfl rfl)
theorem dX5_number_77 : decode cX5_number 77 = .ok (.putfield 23, 3) := dk_181 0 23 (dk_at dksX5_number_3 6 rfl rfl)
theorem dX5_number_80 : decode cX5_number 80 = .ok (.goto (-47), 3) := dk_167 255 209 (dk_at dksX5_number_3 9 rfl rfl)
theorem dX5_number_83 : decode cX5_number 83 = .ok (.aload_n 0, 1) := dk_42 (dk_at dksX5_number_3 12 rfl rfl)
theorem dX5_number_84 : decode cX5_number 84 = .ok (.getfield 23, 3) := dk_180 0 23 (dk_at dksX5_number_3 13 rfl rfl)
theorem dX5_number_87 : decode cX5_number 87 = .ok (.iload_n 3, 1) := dk_29 (dk_at dksX5_number_3 16 rfl rfl)
theorem dX5_number_88 : decode cX5_number 88 = .ok (.isub, 1) := dk_100 (dk_at dksX5_number_3 17 rfl rfl)
theorem dX5_number_89 : decode cX5_number 89 = .ok (.iconst 5, 1) := dk_8 (dk_at dksX5_number_3 18 rfl rfl)
theorem dX5_number_90 : decode cX5_number 90 = .ok (.if_icmp .gt 16, 3) := dk_163 0 16 (dk_at dksX5_number_3 19 rfl rfl)
theorem dX5_number_93 : decode cX5_number 93 = .ok (.iload 4, 2) := dk_21 4 (dk_at dksX5_number_3 22 rfl rfl)
theorem dX5_number_95 : decode cX5_number 95 = .ok (.i2l, 1) := dk_133 (dk_at dksX5_number_4 0 rfl rfl)
theorem dX5_number_96 : decode cX5_number 96 = .ok (.iload_n 1, 1) := dk_27 (dk_at dksX5_number_4 1 rfl rfl)
theorem dX5_number_97 : decode cX5_number 97 = .ok (.i2l, 1) := dk_133 (dk_at dksX5_number_4 2 rfl rfl)
theorem dX5_number_98 : decode cX5_number 98 = .ok (.iload_n 2, 1) := dk_28 (dk_at dksX5_number_4 3 rfl rfl)
theorem dX5_number_99 : decode cX5_number 99 = .ok (.i2l, 1) := dk_133 (dk_at dksX5_number_4 4 rfl rfl)
theorem dX5_number_100 : decode cX5_number 100 = .ok (.invokestatic 41, 3) := dk_184 0 41 (dk_at dksX5_number_4 5 rfl rfl)
theorem dX5_number_103 : decode cX5_number 103 = .ok (.ifCond .ne 13, 3) := dk_154 0 13 (dk_at dksX5_number_4 8 rfl rfl)
theorem dX5_number_106 : decode cX5_number 106 = .ok (.aload_n 0, 1) := dk_42 (dk_at dksX5_number_4 11 rfl rfl)
theorem dX5_number_107 : decode cX5_number 107 = .ok (.getfield 3, 3) := dk_180 0 3 (dk_at dksX5_number_4 12 rfl rfl)
theorem dX5_number_110 : decode cX5_number 110 = .ok (.iconst 1, 1) := dk_4 (dk_at dksX5_number_4 15 rfl rfl)
theorem dX5_number_111 : decode cX5_number 111 = .ok (.iload_n 3, 1) := dk_29 (dk_at dksX5_number_4 16 rfl rfl)
theorem dX5_number_112 : decode cX5_number 112 = .ok (.invokevirtual 69, 3) := dk_182 0 69 (dk_at dksX5_number_4 17 rfl rfl)
theorem dX5_number_115 : decode cX5_number 115 = .ok (.athrow, 1) := dk_191 (dk_at dksX5_number_4 20 rfl rfl)
theorem dX5_number_116 : decode cX5_number 116 = .ok (.iload 4, 2) := dk_21 4 (dk_at dksX5_number_4 21 rfl rfl)
theorem dX5_number_118 : decode cX5_number 118 = .ok (.ireturn, 1) := dk_172 (dk_at dksX5_number_4 23 rfl rfl)
abbrev cX5_isDigit : ByteArray := prog_10_method_4_code
def yX5_isDigit : MethodName := ⟨RX5, "isDigit", "()Z"⟩
def dkwX5_isDigit_0 : List UInt8 := [42, 182, 0, 33, 133, 20, 0, 37, 20, 0, 39, 184, 0, 41, 172]
abbrev dktX5_isDigit_0 : List UInt8 := dkwX5_isDigit_0 ++ []
theorem dksX5_isDigit_0 : cX5_isDigit.data.toList.drop 0 = dktX5_isDigit_0 := by decide +kernel
theorem dX5_isDigit_0 : decode cX5_isDigit 0 = .ok (.aload_n 0, 1) := dk_42 (dk_at dksX5_isDigit_0 0 rfl rfl)
theorem dX5_isDigit_1 : decode cX5_isDigit 1 = .ok (.invokevirtual 33, 3) := dk_182 0 33 (dk_at dksX5_isDigit_0 1 rfl rfl)
theorem dX5_isDigit_4 : decode cX5_isDigit 4 = .ok (.i2l, 1) := dk_133 (dk_at dksX5_isDigit_0 4 rfl rfl)
theorem dX5_isDigit_5 : decode cX5_isDigit 5 = .ok (.ldc2_w 37, 3) := dk_20 0 37 (dk_at dksX5_isDigit_0 5 rfl rfl)
theorem dX5_isDigit_8 : decode cX5_isDigit 8 = .ok (.ldc2_w 39, 3) := dk_20 0 39 (dk_at dksX5_isDigit_0 8 rfl rfl)
theorem dX5_isDigit_11 : decode cX5_isDigit 11 = .ok (.invokestatic 41, 3) := dk_184 0 41 (dk_at dksX5_isDigit_0 11 rfl rfl)
theorem dX5_isDigit_14 : decode cX5_isDigit 14 = .ok (.ireturn, 1) := dk_172 (dk_at dksX5_isDigit_0 14 rfl rfl)
abbrev cX5_house : ByteArray := prog_10_method_18_code
def yX5_house : MethodName := ⟨RX5, "house", "(LSweptSnow$Valley;)V"⟩
def dkwX5_house_1 : List UInt8 := [16, 99, 182, 0, 82, 183, 0, 161, 182, 0, 164, 87, 177]
abbrev dktX5_house_1 : List UInt8 := dkwX5_house_1 ++ []
def dkwX5_house_0 : List UInt8 := [42, 3, 43, 182, 0, 150, 4, 100, 182, 0, 82, 61, 43, 180, 0, 155, 187, 0, 159, 89, 28, 42, 4]
abbrev dktX5_house_0 : List UInt8 := dkwX5_house_0 ++ dktX5_house_1
theorem dksX5_house_0 : cX5_house.data.toList.drop 0 = dktX5_house_0 := by decide +kernel
theorem dksX5_house_1 : cX5_house.data.toList.drop 23 = dktX5_house_1 := dk_seg dksX5_house_0 23 rfl rfl
theorem dX5_house_0 : decode cX5_house 0 = .ok (.aload_n 0, 1) := dk_42 (dk_at dksX5_house_0 0 rfl rfl)
theorem dX5_house_1 : decode cX5_house 1 = .ok (.iconst 0, 1) := dk_3 (dk_at dksX5_house_0 1 rfl rfl)
theorem dX5_house_2 : decode cX5_house 2 = .ok (.aload_n 1, 1) := dk_43 (dk_at dksX5_house_0 2 rfl rfl)
theorem dX5_house_3 : decode cX5_house 3 = .ok (.invokevirtual 150, 3) := dk_182 0 150 (dk_at dksX5_house_0 3 rfl rfl)
theorem dX5_house_6 : decode cX5_house 6 = .ok (.iconst 1, 1) := dk_4 (dk_at dksX5_house_0 6 rfl rfl)
theorem dX5_house_7 : decode cX5_house 7 = .ok (.isub, 1) := dk_100 (dk_at dksX5_house_0 7 rfl rfl)
theorem dX5_house_8 : decode cX5_house 8 = .ok (.invokevirtual 82, 3) := dk_182 0 82 (dk_at dksX5_house_0 8 rfl rfl)
theorem dX5_house_11 : decode cX5_house 11 = .ok (.istore_n 2, 1) := dk_61 (dk_at dksX5_house_0 11 rfl rfl)
theorem dX5_house_12 : decode cX5_house 12 = .ok (.aload_n 1, 1) := dk_43 (dk_at dksX5_house_0 12 rfl rfl)
theorem dX5_house_13 : decode cX5_house 13 = .ok (.getfield 155, 3) := dk_180 0 155 (dk_at dksX5_house_0 13 rfl rfl)
theorem dX5_house_16 : decode cX5_house 16 = .ok (.new 159, 3) := dk_187 0 159 (dk_at dksX5_house_0 16 rfl rfl)
theorem dX5_house_19 : decode cX5_house 19 = .ok (.dup, 1) := dk_89 (dk_at dksX5_house_0 19 rfl rfl)
theorem dX5_house_20 : decode cX5_house 20 = .ok (.iload_n 2, 1) := dk_28 (dk_at dksX5_house_0 20 rfl rfl)
theorem dX5_house_21 : decode cX5_house 21 = .ok (.aload_n 0, 1) := dk_42 (dk_at dksX5_house_0 21 rfl rfl)
theorem dX5_house_22 : decode cX5_house 22 = .ok (.iconst 1, 1) := dk_4 (dk_at dksX5_house_0 22 rfl rfl)
theorem dX5_house_23 : decode cX5_house 23 = .ok (.bipush 99, 2) := dk_16 99 (dk_at dksX5_house_1 0 rfl rfl)
theorem dX5_house_25 : decode cX5_house 25 = .ok (.invokevirtual 82, 3) := dk_182 0 82 (dk_at dksX5_house_1 2 rfl rfl)
theorem dX5_house_28 : decode cX5_house 28 = .ok (.invokespecial 161, 3) := dk_183 0 161 (dk_at dksX5_house_1 5 rfl rfl)
theorem dX5_house_31 : decode cX5_house 31 = .ok (.invokevirtual 164, 3) := dk_182 0 164 (dk_at dksX5_house_1 8 rfl rfl)
theorem dX5_house_34 : decode cX5_house 34 = .ok (.pop, 1) := dk_87 (dk_at dksX5_house_1 11 rfl rfl)
theorem dX5_house_35 : decode cX5_house 35 = .ok (.return_, 1) := dk_177 (dk_at dksX5_house_1 12 rfl rfl)
abbrev cX5_path : ByteArray := prog_10_method_19_code
def yX5_path : MethodName := ⟨RX5, "path", "(LSweptSnow$Valley;)V"⟩
def dkwX5_path_1 : List UInt8 := [92, 46, 4, 29, 120, 128, 79, 43, 180, 0, 174, 29, 92, 46, 4, 28, 120, 128, 79, 177]
abbrev dktX5_path_1 : List UInt8 := dkwX5_path_1 ++ []
def dkwX5_path_0 : List UInt8 := [42, 3, 43, 182, 0, 150, 4, 100, 182, 0, 82, 61, 42, 43, 28, 182, 0, 170, 62, 43, 180, 0, 174, 28]
abbrev dktX5_path_0 : List UInt8 := dkwX5_path_0 ++ dktX5_path_1
theorem dksX5_path_0 : cX5_path.data.toList.drop 0 = dktX5_path_0 := by decide +kernel
theorem dksX5_path_1 : cX5_path.data.toList.drop 24 = dktX5_path_1 := dk_seg dksX5_path_0 24 rfl rfl
theorem dX5_path_0 : decode cX5_path 0 = .ok (.aload_n 0, 1) := dk_42 (dk_at dksX5_path_0 0 rfl rfl)
theorem dX5_path_1 : decode cX5_path 1 = .ok (.iconst 0, 1) := dk_3 (dk_at dksX5_path_0 1 rfl rfl)
theorem dX5_path_2 : decode cX5_path 2 = .ok (.aload_n 1, 1) := dk_43 (dk_at dksX5_path_0 2 rfl rfl)
theorem dX5_path_3 : decode cX5_path 3 = .ok (.invokevirtual 150, 3) := dk_182 0 150 (dk_at dksX5_path_0 3 rfl rfl)
theorem dX5_path_6 : decode cX5_path 6 = .ok (.iconst 1, 1) := dk_4 (dk_at dksX5_path_0 6 rfl rfl)
theorem dX5_path_7 : decode cX5_path 7 = .ok (.isub, 1) := dk_100 (dk_at dksX5_path_0 7 rfl rfl)
theorem dX5_path_8 : decode cX5_path 8 = .ok (.invokevirtual 82, 3) := dk_182 0 82 (dk_at dksX5_path_0 8 rfl rfl)
theorem dX5_path_11 : decode cX5_path 11 = .ok (.istore_n 2, 1) := dk_61 (dk_at dksX5_path_0 11 rfl rfl)
theorem dX5_path_12 : decode cX5_path 12 = .ok (.aload_n 0, 1) := dk_42 (dk_at dksX5_path_0 12 rfl rfl)
theorem dX5_path_13 : decode cX5_path 13 = .ok (.aload_n 1, 1) := dk_43 (dk_at dksX5_path_0 13 rfl rfl)
theorem dX5_path_14 : decode cX5_path 14 = .ok (.iload_n 2, 1) := dk_28 (dk_at dksX5_path_0 14 rfl rfl)
theorem dX5_path_15 : decode cX5_path 15 = .ok (.invokevirtual 170, 3) := dk_182 0 170 (dk_at dksX5_path_0 15 rfl rfl)
theorem dX5_path_18 : decode cX5_path 18 = .ok (.istore_n 3, 1) := dk_62 (dk_at dksX5_path_0 18 rfl rfl)
theorem dX5_path_19 : decode cX5_path 19 = .ok (.aload_n 1, 1) := dk_43 (dk_at dksX5_path_0 19 rfl rfl)
theorem dX5_path_20 : decode cX5_path 20 = .ok (.getfield 174, 3) := dk_180 0 174 (dk_at dksX5_path_0 20 rfl rfl)
theorem dX5_path_23 : decode cX5_path 23 = .ok (.iload_n 2, 1) := dk_28 (dk_at dksX5_path_0 23 rfl rfl)
theorem dX5_path_24 : decode cX5_path 24 = .ok (.dup2, 1) := dk_92 (dk_at dksX5_path_1 0 rfl rfl)
theorem dX5_path_25 : decode cX5_path 25 = .ok (.iaload, 1) := dk_46 (dk_at dksX5_path_1 1 rfl rfl)
theorem dX5_path_26 : decode cX5_path 26 = .ok (.iconst 1, 1) := dk_4 (dk_at dksX5_path_1 2 rfl rfl)
theorem dX5_path_27 : decode cX5_path 27 = .ok (.iload_n 3, 1) := dk_29 (dk_at dksX5_path_1 3 rfl rfl)
theorem dX5_path_28 : decode cX5_path 28 = .ok (.ishl, 1) := dk_120 (dk_at dksX5_path_1 4 rfl rfl)
theorem dX5_path_29 : decode cX5_path 29 = .ok (.ior, 1) := dk_128 (dk_at dksX5_path_1 5 rfl rfl)
theorem dX5_path_30 : decode cX5_path 30 = .ok (.iastore, 1) := dk_79 (dk_at dksX5_path_1 6 rfl rfl)
theorem dX5_path_31 : decode cX5_path 31 = .ok (.aload_n 1, 1) := dk_43 (dk_at dksX5_path_1 7 rfl rfl)
theorem dX5_path_32 : decode cX5_path 32 = .ok (.getfield 174, 3) := dk_180 0 174 (dk_at dksX5_path_1 8 rfl rfl)
theorem dX5_path_35 : decode cX5_path 35 = .ok (.iload_n 3, 1) := dk_29 (dk_at dksX5_path_1 11 rfl rfl)
theorem dX5_path_36 : decode cX5_path 36 = .ok (.dup2, 1) := dk_92 (dk_at dksX5_path_1 12 rfl rfl)
theorem dX5_path_37 : decode cX5_path 37 = .ok (.iaload, 1) := dk_46 (dk_at dksX5_path_1 13 rfl rfl)
theorem dX5_path_38 : decode cX5_path 38 = .ok (.iconst 1, 1) := dk_4 (dk_at dksX5_path_1 14 rfl rfl)
theorem dX5_path_39 : decode cX5_path 39 = .ok (.iload_n 2, 1) := dk_28 (dk_at dksX5_path_1 15 rfl rfl)
theorem dX5_path_40 : decode cX5_path 40 = .ok (.ishl, 1) := dk_120 (dk_at dksX5_path_1 16 rfl rfl)
theorem dX5_path_41 : decode cX5_path 41 = .ok (.ior, 1) := dk_128 (dk_at dksX5_path_1 17 rfl rfl)
theorem dX5_path_42 : decode cX5_path 42 = .ok (.iastore, 1) := dk_79 (dk_at dksX5_path_1 18 rfl rfl)
theorem dX5_path_43 : decode cX5_path 43 = .ok (.return_, 1) := dk_177 (dk_at dksX5_path_1 19 rfl rfl)
abbrev cX5_other : ByteArray := prog_10_method_17_code
def yX5_other : MethodName := ⟨RX5, "other", "(LSweptSnow$Valley;I)I"⟩
def dkwX5_other_1 : List UInt8 := [21, 4, 28, 160, 0, 13, 42, 180, 0, 3, 4, 29, 182, 0, 69, 191, 21, 4, 172]
abbrev dktX5_other_1 : List UInt8 := dkwX5_other_1 ++ []
def dkwX5_other_0 : List UInt8 := [42, 182, 0, 45, 87, 42, 180, 0, 23, 62, 42, 3, 43, 182, 0, 150, 4, 100, 182, 0, 82, 54, 4]
abbrev dktX5_other_0 : List UInt8 := dkwX5_other_0 ++ dktX5_other_1
theorem dksX5_other_0 : cX5_other.data.toList.drop 0 = dktX5_other_0 := by decide +kernel
theorem dksX5_other_1 : cX5_other.data.toList.drop 23 = dktX5_other_1 := dk_seg dksX5_other_0 23 rfl rfl
theorem dX5_other_0 : decode cX5_other 0 = .ok (.aload_n 0, 1) := dk_42 (dk_at dksX5_other_0 0 rfl rfl)
theorem dX5_other_1 : decode cX5_other 1 = .ok (.invokevirtual 45, 3) := dk_182 0 45 (dk_at dksX5_other_0 1 rfl rfl)
theorem dX5_other_4 : decode cX5_other 4 = .ok (.pop, 1) := dk_87 (dk_at dksX5_other_0 4 rfl rfl)
theorem dX5_other_5 : decode cX5_other 5 = .ok (.aload_n 0, 1) := dk_42 (dk_at dksX5_other_0 5 rfl rfl)
theorem dX5_other_6 : decode cX5_other 6 = .ok (.getfield 23, 3) := dk_180 0 23 (dk_at dksX5_other_0 6 rfl rfl)
theorem dX5_other_9 : decode cX5_other 9 = .ok (.istore_n 3, 1) := dk_62 (dk_at dksX5_other_0 9 rfl rfl)
theorem dX5_other_10 : decode cX5_other 10 = .ok (.aload_n 0, 1) := dk_42 (dk_at dksX5_other_0 10 rfl rfl)
theorem dX5_other_11 : decode cX5_other 11 = .ok (.iconst 0, 1) := dk_3 (dk_at dksX5_other_0 11 rfl rfl)
theorem dX5_other_12 : decode cX5_other 12 = .ok (.aload_n 1, 1) := dk_43 (dk_at dksX5_other_0 12 rfl rfl)
theorem dX5_other_13 : decode cX5_other 13 = .ok (.invokevirtual 150, 3) := dk_182 0 150 (dk_at dksX5_other_0 13 rfl rfl)
theorem dX5_other_16 : decode cX5_other 16 = .ok (.iconst 1, 1) := dk_4 (dk_at dksX5_other_0 16 rfl rfl)
theorem dX5_other_17 : decode cX5_other 17 = .ok (.isub, 1) := dk_100 (dk_at dksX5_other_0 17 rfl rfl)
theorem dX5_other_18 : decode cX5_other 18 = .ok (.invokevirtual 82, 3) := dk_182 0 82 (dk_at dksX5_other_0 18 rfl rfl)
theorem dX5_other_21 : decode cX5_other 21 = .ok (.istore 4, 2) := dk_54 4 (dk_at dksX5_other_0 21 rfl rfl)
theorem dX5_other_23 : decode cX5_other 23 = .ok (.iload 4, 2) := dk_21 4 (dk_at dksX5_other_1 0 rfl rfl)
theorem dX5_other_25 : decode cX5_other 25 = .ok (.iload_n 2, 1) := dk_28 (dk_at dksX5_other_1 2 rfl rfl)
theorem dX5_other_26 : decode cX5_other 26 = .ok (.if_icmp .ne 13, 3) := dk_160 0 13 (dk_at dksX5_other_1 3 rfl rfl)
theorem dX5_other_29 : decode cX5_other 29 = .ok (.aload_n 0, 1) := dk_42 (dk_at dksX5_other_1 6 rfl rfl)
theorem dX5_other_30 : decode cX5_other 30 = .ok (.getfield 3, 3) := dk_180 0 3 (dk_at dksX5_other_1 7 rfl rfl)
theorem dX5_other_33 : decode cX5_other 33 = .ok (.iconst 1, 1) := dk_4 (dk_at dksX5_other_1 10 rfl rfl)
theorem dX5_other_34 : decode cX5_other 34 = .ok (.iload_n 3, 1) := dk_29 (dk_at dksX5_other_1 11 rfl rfl)
theorem dX5_other_35 : decode cX5_other 35 = .ok (.invokevirtual 69, 3) := dk_182 0 69 (dk_at dksX5_other_1 12 rfl rfl)
theorem dX5_other_38 : decode cX5_other 38 = .ok (.athrow, 1) := dk_191 (dk_at dksX5_other_1 15 rfl rfl)
theorem dX5_other_39 : decode cX5_other 39 = .ok (.iload 4, 2) := dk_21 4 (dk_at dksX5_other_1 16 rfl rfl)
theorem dX5_other_41 : decode cX5_other 41 = .ok (.ireturn, 1) := dk_172 (dk_at dksX5_other_1 18 rfl rfl)
abbrev cX5_wall : ByteArray := prog_10_method_20_code
def yX5_wall : MethodName := ⟨RX5, "wall", "(LSweptSnow$Valley;)V"⟩
def dkwX5_wall_1 : List UInt8 := [177]
abbrev dktX5_wall_1 : List UInt8 := dkwX5_wall_1 ++ []
def dkwX5_wall_0 : List UInt8 := [42, 3, 43, 182, 0, 150, 4, 100, 182, 0, 82, 61, 43, 180, 0, 178, 28, 42, 43, 28, 182, 0, 170, 79]
abbrev dktX5_wall_0 : List UInt8 := dkwX5_wall_0 ++ dktX5_wall_1
theorem dksX5_wall_0 : cX5_wall.data.toList.drop 0 = dktX5_wall_0 := by decide +kernel
theorem dksX5_wall_1 : cX5_wall.data.toList.drop 24 = dktX5_wall_1 := dk_seg dksX5_wall_0 24 rfl rfl
theorem dX5_wall_0 : decode cX5_wall 0 = .ok (.aload_n 0, 1) := dk_42 (dk_at dksX5_wall_0 0 rfl rfl)
theorem dX5_wall_1 : decode cX5_wall 1 = .ok (.iconst 0, 1) := dk_3 (dk_at dksX5_wall_0 1 rfl rfl)
theorem dX5_wall_2 : decode cX5_wall 2 = .ok (.aload_n 1, 1) := dk_43 (dk_at dksX5_wall_0 2 rfl rfl)
theorem dX5_wall_3 : decode cX5_wall 3 = .ok (.invokevirtual 150, 3) := dk_182 0 150 (dk_at dksX5_wall_0 3 rfl rfl)
theorem dX5_wall_6 : decode cX5_wall 6 = .ok (.iconst 1, 1) := dk_4 (dk_at dksX5_wall_0 6 rfl rfl)
theorem dX5_wall_7 : decode cX5_wall 7 = .ok (.isub, 1) := dk_100 (dk_at dksX5_wall_0 7 rfl rfl)
theorem dX5_wall_8 : decode cX5_wall 8 = .ok (.invokevirtual 82, 3) := dk_182 0 82 (dk_at dksX5_wall_0 8 rfl rfl)
theorem dX5_wall_11 : decode cX5_wall 11 = .ok (.istore_n 2, 1) := dk_61 (dk_at dksX5_wall_0 11 rfl rfl)
theorem dX5_wall_12 : decode cX5_wall 12 = .ok (.aload_n 1, 1) := dk_43 (dk_at dksX5_wall_0 12 rfl rfl)
theorem dX5_wall_13 : decode cX5_wall 13 = .ok (.getfield 178, 3) := dk_180 0 178 (dk_at dksX5_wall_0 13 rfl rfl)
theorem dX5_wall_16 : decode cX5_wall 16 = .ok (.iload_n 2, 1) := dk_28 (dk_at dksX5_wall_0 16 rfl rfl)
theorem dX5_wall_17 : decode cX5_wall 17 = .ok (.aload_n 0, 1) := dk_42 (dk_at dksX5_wall_0 17 rfl rfl)
theorem dX5_wall_18 : decode cX5_wall 18 = .ok (.aload_n 1, 1) := dk_43 (dk_at dksX5_wall_0 18 rfl rfl)
theorem dX5_wall_19 : decode cX5_wall 19 = .ok (.iload_n 2, 1) := dk_28 (dk_at dksX5_wall_0 19 rfl rfl)
theorem dX5_wall_20 : decode cX5_wall 20 = .ok (.invokevirtual 170, 3) := dk_182 0 170 (dk_at dksX5_wall_0 20 rfl rfl)
theorem dX5_wall_23 : decode cX5_wall 23 = .ok (.iastore, 1) := dk_79 (dk_at dksX5_wall_0 23 rfl rfl)
theorem dX5_wall_24 : decode cX5_wall 24 = .ok (.return_, 1) := dk_177 (dk_at dksX5_wall_1 0 rfl rfl)
abbrev cX5_need : ByteArray := prog_10_method_21_code
def yX5_need : MethodName := ⟨RX5, "need", "(LSweptSnow$Valley;)V"⟩
def dkwX5_need_1 : List UInt8 := [182, 0, 82, 120, 128, 79, 177]
abbrev dktX5_need_1 : List UInt8 := dkwX5_need_1 ++ []
def dkwX5_need_0 : List UInt8 := [42, 3, 16, 30, 182, 0, 82, 61, 43, 180, 0, 181, 28, 92, 46, 4, 42, 3, 43, 182, 0, 150, 4, 100]
abbrev dktX5_need_0 : List UInt8 := dkwX5_need_0 ++ dktX5_need_1
theorem dksX5_need_0 : cX5_need.data.toList.drop 0 = dktX5_need_0 := by decide +kernel
theorem dksX5_need_1 : cX5_need.data.toList.drop 24 = dktX5_need_1 := dk_seg dksX5_need_0 24 rfl rfl
theorem dX5_need_0 : decode cX5_need 0 = .ok (.aload_n 0, 1) := dk_42 (dk_at dksX5_need_0 0 rfl rfl)
theorem dX5_need_1 : decode cX5_need 1 = .ok (.iconst 0, 1) := dk_3 (dk_at dksX5_need_0 1 rfl rfl)
theorem dX5_need_2 : decode cX5_need 2 = .ok (.bipush 30, 2) := dk_16 30 (dk_at dksX5_need_0 2 rfl rfl)
theorem dX5_need_4 : decode cX5_need 4 = .ok (.invokevirtual 82, 3) := dk_182 0 82 (dk_at dksX5_need_0 4 rfl rfl)
theorem dX5_need_7 : decode cX5_need 7 = .ok (.istore_n 2, 1) := dk_61 (dk_at dksX5_need_0 7 rfl rfl)
theorem dX5_need_8 : decode cX5_need 8 = .ok (.aload_n 1, 1) := dk_43 (dk_at dksX5_need_0 8 rfl rfl)
theorem dX5_need_9 : decode cX5_need 9 = .ok (.getfield 181, 3) := dk_180 0 181 (dk_at dksX5_need_0 9 rfl rfl)
theorem dX5_need_12 : decode cX5_need 12 = .ok (.iload_n 2, 1) := dk_28 (dk_at dksX5_need_0 12 rfl rfl)
theorem dX5_need_13 : decode cX5_need 13 = .ok (.dup2, 1) := dk_92 (dk_at dksX5_need_0 13 rfl rfl)
theorem dX5_need_14 : decode cX5_need 14 = .ok (.iaload, 1) := dk_46 (dk_at dksX5_need_0 14 rfl rfl)
theorem dX5_need_15 : decode cX5_need 15 = .ok (.iconst 1, 1) := dk_4 (dk_at dksX5_need_0 15 rfl rfl)
theorem dX5_need_16 : decode cX5_need 16 = .ok (.aload_n 0, 1) := dk_42 (dk_at dksX5_need_0 16 rfl rfl)
theorem dX5_need_17 : decode cX5_need 17 = .ok (.iconst 0, 1) := dk_3 (dk_at dksX5_need_0 17 rfl rfl)
theorem dX5_need_18 : decode cX5_need 18 = .ok (.aload_n 1, 1) := dk_43 (dk_at dksX5_need_0 18 rfl rfl)
theorem dX5_need_19 : decode cX5_need 19 = .ok (.invokevirtual 150, 3) := dk_182 0 150 (dk_at dksX5_need_0 19 rfl rfl)
theorem dX5_need_22 : decode cX5_need 22 = .ok (.iconst 1, 1) := dk_4 (dk_at dksX5_need_0 22 rfl rfl)
theorem dX5_need_23 : decode cX5_need 23 = .ok (.isub, 1) := dk_100 (dk_at dksX5_need_0 23 rfl rfl)
theorem dX5_need_24 : decode cX5_need 24 = .ok (.invokevirtual 82, 3) := dk_182 0 82 (dk_at dksX5_need_1 0 rfl rfl)
theorem dX5_need_27 : decode cX5_need 27 = .ok (.ishl, 1) := dk_120 (dk_at dksX5_need_1 3 rfl rfl)
theorem dX5_need_28 : decode cX5_need 28 = .ok (.ior, 1) := dk_128 (dk_at dksX5_need_1 4 rfl rfl)
theorem dX5_need_29 : decode cX5_need 29 = .ok (.iastore, 1) := dk_79 (dk_at dksX5_need_1 5 rfl rfl)
theorem dX5_need_30 : decode cX5_need 30 = .ok (.return_, 1) := dk_177 (dk_at dksX5_need_1 6 rfl rfl)
abbrev cX5_goesOn : ByteArray := prog_10_method_24_code
def yX5_goesOn : MethodName := ⟨RX5, "goesOn", "()Z"⟩
def dkwX5_goesOn_1 : List UInt8 := [180, 0, 23, 182, 0, 69, 191, 42, 89, 180, 0, 23, 4, 96, 181, 0, 23, 4, 172]
abbrev dktX5_goesOn_1 : List UInt8 := dkwX5_goesOn_1 ++ []
def dkwX5_goesOn_0 : List UInt8 := [42, 182, 0, 45, 60, 27, 2, 160, 0, 5, 3, 172, 27, 16, 59, 159, 0, 16, 42, 180, 0, 3, 3, 42]
abbrev dktX5_goesOn_0 : List UInt8 := dkwX5_goesOn_0 ++ dktX5_goesOn_1
theorem dksX5_goesOn_0 : cX5_goesOn.data.toList.drop 0 = dktX5_goesOn_0 := by decide +kernel
theorem dksX5_goesOn_1 : cX5_goesOn.data.toList.drop 24 = dktX5_goesOn_1 := dk_seg dksX5_goesOn_0 24 rfl rfl
theorem dX5_goesOn_0 : decode cX5_goesOn 0 = .ok (.aload_n 0, 1) := dk_42 (dk_at dksX5_goesOn_0 0 rfl rfl)
theorem dX5_goesOn_1 : decode cX5_goesOn 1 = .ok (.invokevirtual 45, 3) := dk_182 0 45 (dk_at dksX5_goesOn_0 1 rfl rfl)
theorem dX5_goesOn_4 : decode cX5_goesOn 4 = .ok (.istore_n 1, 1) := dk_60 (dk_at dksX5_goesOn_0 4 rfl rfl)
theorem dX5_goesOn_5 : decode cX5_goesOn 5 = .ok (.iload_n 1, 1) := dk_27 (dk_at dksX5_goesOn_0 5 rfl rfl)
theorem dX5_goesOn_6 : decode cX5_goesOn 6 = .ok (.iconst (-1), 1) := dk_2 (dk_at dksX5_goesOn_0 6 rfl rfl)
theorem dX5_goesOn_7 : decode cX5_goesOn 7 = .ok (.if_icmp .ne 5, 3) := dk_160 0 5 (dk_at dksX5_goesOn_0 7 rfl rfl)
theorem dX5_goesOn_10 : decode cX5_goesOn 10 = .ok (.iconst 0, 1) := dk_3 (dk_at dksX5_goesOn_0 10 rfl rfl)
theorem dX5_goesOn_11 : decode cX5_goesOn 11 = .ok (.ireturn, 1) := dk_172 (dk_at dksX5_goesOn_0 11 rfl rfl)
theorem dX5_goesOn_12 : decode cX5_goesOn 12 = .ok (.iload_n 1, 1) := dk_27 (dk_at dksX5_goesOn_0 12 rfl rfl)
theorem dX5_goesOn_13 : decode cX5_goesOn 13 = .ok (.bipush 59, 2) := dk_16 59 (dk_at dksX5_goesOn_0 13 rfl rfl)
theorem dX5_goesOn_15 : decode cX5_goesOn 15 = .ok (.if_icmp .eq 16, 3) := dk_159 0 16 (dk_at dksX5_goesOn_0 15 rfl rfl)
theorem dX5_goesOn_18 : decode cX5_goesOn 18 = .ok (.aload_n 0, 1) := dk_42 (dk_at dksX5_goesOn_0 18 rfl rfl)
theorem dX5_goesOn_19 : decode cX5_goesOn 19 = .ok (.getfield 3, 3) := dk_180 0 3 (dk_at dksX5_goesOn_0 19 rfl rfl)
theorem dX5_goesOn_22 : decode cX5_goesOn 22 = .ok (.iconst 0, 1) := dk_3 (dk_at dksX5_goesOn_0 22 rfl rfl)
theorem dX5_goesOn_23 : decode cX5_goesOn 23 = .ok (.aload_n 0, 1) := dk_42 (dk_at dksX5_goesOn_0 23 rfl rfl)
theorem dX5_goesOn_24 : decode cX5_goesOn 24 = .ok (.getfield 23, 3) := dk_180 0 23 (dk_at dksX5_goesOn_1 0 rfl rfl)
theorem dX5_goesOn_27 : decode cX5_goesOn 27 = .ok (.invokevirtual 69, 3) := dk_182 0 69 (dk_at dksX5_goesOn_1 3 rfl rfl)
theorem dX5_goesOn_30 : decode cX5_goesOn 30 = .ok (.athrow, 1) := dk_191 (dk_at dksX5_goesOn_1 6 rfl rfl)
theorem dX5_goesOn_31 : decode cX5_goesOn 31 = .ok (.aload_n 0, 1) := dk_42 (dk_at dksX5_goesOn_1 7 rfl rfl)
theorem dX5_goesOn_32 : decode cX5_goesOn 32 = .ok (.dup, 1) := dk_89 (dk_at dksX5_goesOn_1 8 rfl rfl)
theorem dX5_goesOn_33 : decode cX5_goesOn 33 = .ok (.getfield 23, 3) := dk_180 0 23 (dk_at dksX5_goesOn_1 9 rfl rfl)
theorem dX5_goesOn_36 : decode cX5_goesOn 36 = .ok (.iconst 1, 1) := dk_4 (dk_at dksX5_goesOn_1 12 rfl rfl)
theorem dX5_goesOn_37 : decode cX5_goesOn 37 = .ok (.iadd, 1) := dk_96 (dk_at dksX5_goesOn_1 13 rfl rfl)
theorem dX5_goesOn_38 : decode cX5_goesOn 38 = .ok (.putfield 23, 3) := dk_181 0 23 (dk_at dksX5_goesOn_1 14 rfl rfl)
theorem dX5_goesOn_41 : decode cX5_goesOn 41 = .ok (.iconst 1, 1) := dk_4 (dk_at dksX5_goesOn_1 17 rfl rfl)
theorem dX5_goesOn_42 : decode cX5_goesOn 42 = .ok (.ireturn, 1) := dk_172 (dk_at dksX5_goesOn_1 18 rfl rfl)
abbrev cX5_rule : ByteArray := prog_10_method_26_code
def yX5_rule : MethodName := ⟨RX5, "rule", "()I"⟩
def dkwX5_rule_2 : List UInt8 := [180, 0, 248, 182, 0, 251, 4, 100, 172]
abbrev dktX5_rule_2 : List UInt8 := dkwX5_rule_2 ++ []
def dkwX5_rule_1 : List UInt8 := [182, 0, 245, 167, 255, 244, 42, 180, 0, 3, 180, 0, 248, 43, 182, 0, 164, 87, 42, 180, 0, 3]
abbrev dktX5_rule_1 : List UInt8 := dkwX5_rule_1 ++ dktX5_rule_2
def dkwX5_rule_0 : List UInt8 := [187, 0, 226, 89, 183, 0, 244, 76, 42, 43, 182, 0, 245, 42, 182, 0, 241, 153, 0, 11, 42, 43]
abbrev dktX5_rule_0 : List UInt8 := dkwX5_rule_0 ++ dktX5_rule_1
theorem dksX5_rule_0 : cX5_rule.data.toList.drop 0 = dktX5_rule_0 := by decide +kernel
theorem dksX5_rule_1 : cX5_rule.data.toList.drop 22 = dktX5_rule_1 := dk_seg dksX5_rule_0 22 rfl rfl
theorem dksX5_rule_2 : cX5_rule.data.toList.drop 44 = dktX5_rule_2 := dk_seg dksX5_rule_1 22 rfl rfl
theorem dX5_rule_0 : decode cX5_rule 0 = .ok (.new 226, 3) := dk_187 0 226 (dk_at dksX5_rule_0 0 rfl rfl)
theorem dX5_rule_3 : decode cX5_rule 3 = .ok (.dup, 1) := dk_89 (dk_at dksX5_rule_0 3 rfl rfl)
theorem dX5_rule_4 : decode cX5_rule 4 = .ok (.invokespecial 244, 3) := dk_183 0 244 (dk_at dksX5_rule_0 4 rfl rfl)
theorem dX5_rule_7 : decode cX5_rule 7 = .ok (.astore_n 1, 1) := dk_76 (dk_at dksX5_rule_0 7 rfl rfl)
theorem dX5_rule_8 : decode cX5_rule 8 = .ok (.aload_n 0, 1) := dk_42 (dk_at dksX5_rule_0 8 rfl rfl)
theorem dX5_rule_9 : decode cX5_rule 9 = .ok (.aload_n 1, 1) := dk_43 (dk_at dksX5_rule_0 9 rfl rfl)
theorem dX5_rule_10 : decode cX5_rule 10 = .ok (.invokevirtual 245, 3) := dk_182 0 245 (dk_at dksX5_rule_0 10 rfl rfl)
theorem dX5_rule_13 : decode cX5_rule 13 = .ok (.aload_n 0, 1) := dk_42 (dk_at dksX5_rule_0 13 rfl rfl)
theorem dX5_rule_14 : decode cX5_rule 14 = .ok (.invokevirtual 241, 3) := dk_182 0 241 (dk_at dksX5_rule_0 14 rfl rfl)
theorem dX5_rule_17 : decode cX5_rule 17 = .ok (.ifCond .eq 11, 3) := dk_153 0 11 (dk_at dksX5_rule_0 17 rfl rfl)
theorem dX5_rule_20 : decode cX5_rule 20 = .ok (.aload_n 0, 1) := dk_42 (dk_at dksX5_rule_0 20 rfl rfl)
theorem dX5_rule_21 : decode cX5_rule 21 = .ok (.aload_n 1, 1) := dk_43 (dk_at dksX5_rule_0 21 rfl rfl)
theorem dX5_rule_22 : decode cX5_rule 22 = .ok (.invokevirtual 245, 3) := dk_182 0 245 (dk_at dksX5_rule_1 0 rfl rfl)
theorem dX5_rule_25 : decode cX5_rule 25 = .ok (.goto (-12), 3) := dk_167 255 244 (dk_at dksX5_rule_1 3 rfl rfl)
theorem dX5_rule_28 : decode cX5_rule 28 = .ok (.aload_n 0, 1) := dk_42 (dk_at dksX5_rule_1 6 rfl rfl)
theorem dX5_rule_29 : decode cX5_rule 29 = .ok (.getfield 3, 3) := dk_180 0 3 (dk_at dksX5_rule_1 7 rfl rfl)
theorem dX5_rule_32 : decode cX5_rule 32 = .ok (.getfield 248, 3) := dk_180 0 248 (dk_at dksX5_rule_1 10 rfl rfl)
theorem dX5_rule_35 : decode cX5_rule 35 = .ok (.aload_n 1, 1) := dk_43 (dk_at dksX5_rule_1 13 rfl rfl)
theorem dX5_rule_36 : decode cX5_rule 36 = .ok (.invokevirtual 164, 3) := dk_182 0 164 (dk_at dksX5_rule_1 14 rfl rfl)
theorem dX5_rule_39 : decode cX5_rule 39 = .ok (.pop, 1) := dk_87 (dk_at dksX5_rule_1 17 rfl rfl)
theorem dX5_rule_40 : decode cX5_rule 40 = .ok (.aload_n 0, 1) := dk_42 (dk_at dksX5_rule_1 18 rfl rfl)
theorem dX5_rule_41 : decode cX5_rule 41 = .ok (.getfield 3, 3) := dk_180 0 3 (dk_at dksX5_rule_1 19 rfl rfl)
theorem dX5_rule_44 : decode cX5_rule 44 = .ok (.getfield 248, 3) := dk_180 0 248 (dk_at dksX5_rule_2 0 rfl rfl)
theorem dX5_rule_47 : decode cX5_rule 47 = .ok (.invokevirtual 251, 3) := dk_182 0 251 (dk_at dksX5_rule_2 3 rfl rfl)
theorem dX5_rule_50 : decode cX5_rule 50 = .ok (.iconst 1, 1) := dk_4 (dk_at dksX5_rule_2 6 rfl rfl)
theorem dX5_rule_51 : decode cX5_rule 51 = .ok (.isub, 1) := dk_100 (dk_at dksX5_rule_2 7 rfl rfl)
theorem dX5_rule_52 : decode cX5_rule 52 = .ok (.ireturn, 1) := dk_172 (dk_at dksX5_rule_2 8 rfl rfl)
abbrev cX5_clause_2 : ByteArray := prog_10_method_23_code
def yX5_clause_2 : MethodName := ⟨RX5, "clause", "(LSweptSnow$Rule;)V"⟩
def dkwX5_clause_2_2 : List UInt8 := [182, 0, 121, 167, 0, 4, 1, 183, 0, 234, 182, 0, 164, 87, 177]
abbrev dktX5_clause_2_2 : List UInt8 := dkwX5_clause_2_2 ++ []
def dkwX5_clause_2_1 : List UInt8 := [182, 0, 124, 77, 43, 180, 0, 225, 187, 0, 230, 89, 44, 42, 18, 232, 182, 0, 134, 153, 0, 10, 42]
abbrev dktX5_clause_2_1 : List UInt8 := dkwX5_clause_2_1 ++ dktX5_clause_2_2
def dkwX5_clause_2_0 : List UInt8 := [42, 18, 223, 4, 182, 0, 189, 154, 0, 16, 42, 180, 0, 3, 3, 42, 180, 0, 23, 182, 0, 69, 191, 42]
abbrev dktX5_clause_2_0 : List UInt8 := dkwX5_clause_2_0 ++ dktX5_clause_2_1
theorem dksX5_clause_2_0 : cX5_clause_2.data.toList.drop 0 = dktX5_clause_2_0 := by decide +kernel
theorem dksX5_clause_2_1 : cX5_clause_2.data.toList.drop 24 = dktX5_clause_2_1 := dk_seg dksX5_clause_2_0 24 rfl rfl
theorem dksX5_clause_2_2 : cX5_clause_2.data.toList.drop 47 = dktX5_clause_2_2 := dk_seg dksX5_clause_2_1 23 rfl rfl
theorem dX5_clause_2_0 : decode cX5_clause_2 0 = .ok (.aload_n 0, 1) := dk_42 (dk_at dksX5_clause_2_0 0 rfl rfl)
theorem dX5_clause_2_1 : decode cX5_clause_2 1 = .ok (.ldc 223, 2) := dk_18 223 (dk_at dksX5_clause_2_0 1 rfl rfl)
theorem dX5_clause_2_3 : decode cX5_clause_2 3 = .ok (.iconst 1, 1) := dk_4 (dk_at dksX5_clause_2_0 3 rfl rfl)
theorem dX5_clause_2_4 : decode cX5_clause_2 4 = .ok (.invokevirtual 189, 3) := dk_182 0 189 (dk_at dksX5_clause_2_0 4 rfl rfl)
theorem dX5_clause_2_7 : decode cX5_clause_2 7 = .ok (.ifCond .ne 16, 3) := dk_154 0 16 (dk_at dksX5_clause_2_0 7 rfl rfl)
theorem dX5_clause_2_10 : decode cX5_clause_2 10 = .ok (.aload_n 0, 1) := dk_42 (dk_at dksX5_clause_2_0 10 rfl rfl)
theorem dX5_clause_2_11 : decode cX5_clause_2 11 = .ok (.getfield 3, 3) := dk_180 0 3 (dk_at dksX5_clause_2_0 11 rfl rfl)
theorem dX5_clause_2_14 : decode cX5_clause_2 14 = .ok (.iconst 0, 1) := dk_3 (dk_at dksX5_clause_2_0 14 rfl rfl)
theorem dX5_clause_2_15 : decode cX5_clause_2 15 = .ok (.aload_n 0, 1) := dk_42 (dk_at dksX5_clause_2_0 15 rfl rfl)
theorem dX5_clause_2_16 : decode cX5_clause_2 16 = .ok (.getfield 23, 3) := dk_180 0 23 (dk_at dksX5_clause_2_0 16 rfl rfl)
theorem dX5_clause_2_19 : decode cX5_clause_2 19 = .ok (.invokevirtual 69, 3) := dk_182 0 69 (dk_at dksX5_clause_2_0 19 rfl rfl)
theorem dX5_clause_2_22 : decode cX5_clause_2 22 = .ok (.athrow, 1) := dk_191 (dk_at dksX5_clause_2_0 22 rfl rfl)
theorem dX5_clause_2_23 : decode cX5_clause_2 23 = .ok (.aload_n 0, 1) := dk_42 (dk_at dksX5_clause_2_0 23 rfl rfl)
theorem dX5_clause_2_24 : decode cX5_clause_2 24 = .ok (.invokevirtual 124, 3) := dk_182 0 124 (dk_at dksX5_clause_2_1 0 rfl rfl)
theorem dX5_clause_2_27 : decode cX5_clause_2 27 = .ok (.astore_n 2, 1) := dk_77 (dk_at dksX5_clause_2_1 3 rfl rfl)
theorem dX5_clause_2_28 : decode cX5_clause_2 28 = .ok (.aload_n 1, 1) := dk_43 (dk_at dksX5_clause_2_1 4 rfl rfl)
theorem dX5_clause_2_29 : decode cX5_clause_2 29 = .ok (.getfield 225, 3) := dk_180 0 225 (dk_at dksX5_clause_2_1 5 rfl rfl)
theorem dX5_clause_2_32 : decode cX5_clause_2 32 = .ok (.new 230, 3) := dk_187 0 230 (dk_at dksX5_clause_2_1 8 rfl rfl)
theorem dX5_clause_2_35 : decode cX5_clause_2 35 = .ok (.dup, 1) := dk_89 (dk_at dksX5_clause_2_1 11 rfl rfl)
theorem dX5_clause_2_36 : decode cX5_clause_2 36 = .ok (.aload_n 2, 1) := dk_44 (dk_at dksX5_clause_2_1 12 rfl rfl)
theorem dX5_clause_2_37 : decode cX5_clause_2 37 = .ok (.aload_n 0, 1) := dk_42 (dk_at dksX5_clause_2_1 13 rfl rfl)
theorem dX5_clause_2_38 : decode cX5_clause_2 38 = .ok (.ldc 232, 2) := dk_18 232 (dk_at dksX5_clause_2_1 14 rfl rfl)
theorem dX5_clause_2_40 : decode cX5_clause_2 40 = .ok (.invokevirtual 134, 3) := dk_182 0 134 (dk_at dksX5_clause_2_1 16 rfl rfl)
theorem dX5_clause_2_43 : decode cX5_clause_2 43 = .ok (.ifCond .eq 10, 3) := dk_153 0 10 (dk_at dksX5_clause_2_1 19 rfl rfl)
theorem dX5_clause_2_46 : decode cX5_clause_2 46 = .ok (.aload_n 0, 1) := dk_42 (dk_at dksX5_clause_2_1 22 rfl rfl)
theorem dX5_clause_2_47 : decode cX5_clause_2 47 = .ok (.invokevirtual 121, 3) := dk_182 0 121 (dk_at dksX5_clause_2_2 0 rfl rfl)
theorem dX5_clause_2_50 : decode cX5_clause_2 50 = .ok (.goto 4, 3) := dk_167 0 4 (dk_at dksX5_clause_2_2 3 rfl rfl)
theorem dX5_clause_2_53 : decode cX5_clause_2 53 = .ok (.aconst_null, 1) := dk_1 (dk_at dksX5_clause_2_2 6 rfl rfl)
theorem dX5_clause_2_54 : decode cX5_clause_2 54 = .ok (.invokespecial 234, 3) := dk_183 0 234 (dk_at dksX5_clause_2_2 7 rfl rfl)
theorem dX5_clause_2_57 : decode cX5_clause_2 57 = .ok (.invokevirtual 164, 3) := dk_182 0 164 (dk_at dksX5_clause_2_2 10 rfl rfl)
theorem dX5_clause_2_60 : decode cX5_clause_2 60 = .ok (.pop, 1) := dk_87 (dk_at dksX5_clause_2_2 13 rfl rfl)
theorem dX5_clause_2_61 : decode cX5_clause_2 61 = .ok (.return_, 1) := dk_177 (dk_at dksX5_clause_2_2 14 rfl rfl)
abbrev cX5_sum : ByteArray := prog_10_method_12_code
def yX5_sum : MethodName := ⟨RX5, "sum", "()LSweptSnow$Value;"⟩
def dkwX5_sum_2 : List UInt8 := [183, 0, 101, 76, 167, 255, 209, 43, 176]
abbrev dktX5_sum_2 : List UInt8 := dkwX5_sum_2 ++ []
def dkwX5_sum_1 : List UInt8 := [182, 0, 33, 61, 42, 89, 180, 0, 23, 4, 96, 181, 0, 23, 187, 0, 99, 89, 43, 42, 182, 0, 104, 28]
abbrev dktX5_sum_1 : List UInt8 := dkwX5_sum_1 ++ dktX5_sum_2
def dkwX5_sum_0 : List UInt8 := [42, 182, 0, 104, 76, 42, 182, 0, 45, 16, 43, 159, 0, 12, 42, 182, 0, 33, 16, 45, 160, 0, 35, 42]
abbrev dktX5_sum_0 : List UInt8 := dkwX5_sum_0 ++ dktX5_sum_1
theorem dksX5_sum_0 : cX5_sum.data.toList.drop 0 = dktX5_sum_0 := by decide +kernel
theorem dksX5_sum_1 : cX5_sum.data.toList.drop 24 = dktX5_sum_1 := dk_seg dksX5_sum_0 24 rfl rfl
theorem dksX5_sum_2 : cX5_sum.data.toList.drop 48 = dktX5_sum_2 := dk_seg dksX5_sum_1 24 rfl rfl
theorem dX5_sum_0 : decode cX5_sum 0 = .ok (.aload_n 0, 1) := dk_42 (dk_at dksX5_sum_0 0 rfl rfl)
theorem dX5_sum_1 : decode cX5_sum 1 = .ok (.invokevirtual 104, 3) := dk_182 0 104 (dk_at dksX5_sum_0 1 rfl rfl)
theorem dX5_sum_4 : decode cX5_sum 4 = .ok (.astore_n 1, 1) := dk_76 (dk_at dksX5_sum_0 4 rfl rfl)
theorem dX5_sum_5 : decode cX5_sum 5 = .ok (.aload_n 0, 1) := dk_42 (dk_at dksX5_sum_0 5 rfl rfl)
theorem dX5_sum_6 : decode cX5_sum 6 = .ok (.invokevirtual 45, 3) := dk_182 0 45 (dk_at dksX5_sum_0 6 rfl rfl)
theorem dX5_sum_9 : decode cX5_sum 9 = .ok (.bipush 43, 2) := dk_16 43 (dk_at dksX5_sum_0 9 rfl rfl)
theorem dX5_sum_11 : decode cX5_sum 11 = .ok (.if_icmp .eq 12, 3) := dk_159 0 12 (dk_at dksX5_sum_0 11 rfl rfl)
theorem dX5_sum_14 : decode cX5_sum 14 = .ok (.aload_n 0, 1) := dk_42 (dk_at dksX5_sum_0 14 rfl rfl)
theorem dX5_sum_15 : decode cX5_sum 15 = .ok (.invokevirtual 33, 3) := dk_182 0 33 (dk_at dksX5_sum_0 15 rfl rfl)
theorem dX5_sum_18 : decode cX5_sum 18 = .ok (.bipush 45, 2) := dk_16 45 (dk_at dksX5_sum_0 18 rfl rfl)
theorem dX5_sum_20 : decode cX5_sum 20 = .ok (.if_icmp .ne 35, 3) := dk_160 0 35 (dk_at dksX5_sum_0 20 rfl rfl)
theorem dX5_sum_23 : decode cX5_sum 23 = .ok (.aload_n 0, 1) := dk_42 (dk_at dksX5_sum_0 23 rfl rfl)
theorem dX5_sum_24 : decode cX5_sum 24 = .ok (.invokevirtual 33, 3) := dk_182 0 33 (dk_at dksX5_sum_1 0 rfl rfl)
theorem dX5_sum_27 : decode cX5_sum 27 = .ok (.istore_n 2, 1) := dk_61 (dk_at dksX5_sum_1 3 rfl rfl)
theorem dX5_sum_28 : decode cX5_sum 28 = .ok (.aload_n 0, 1) := dk_42 (dk_at dksX5_sum_1 4 rfl rfl)
theorem dX5_sum_29 : decode cX5_sum 29 = .ok (.dup, 1) := dk_89 (dk_at dksX5_sum_1 5 rfl rfl)
theorem dX5_sum_30 : decode cX5_sum 30 = .ok (.getfield 23, 3) := dk_180 0 23 (dk_at dksX5_sum_1 6 rfl rfl)
theorem dX5_sum_33 : decode cX5_sum 33 = .ok (.iconst 1, 1) := dk_4 (dk_at dksX5_sum_1 9 rfl rfl)
theorem dX5_sum_34 : decode cX5_sum 34 = .ok (.iadd, 1) := dk_96 (dk_at dksX5_sum_1 10 rfl rfl)
theorem dX5_sum_35 : decode cX5_sum 35 = .ok (.putfield 23, 3) := dk_181 0 23 (dk_at dksX5_sum_1 11 rfl rfl)
theorem dX5_sum_38 : decode cX5_sum 38 = .ok (.new 99, 3) := dk_187 0 99 (dk_at dksX5_sum_1 14 rfl rfl)
theorem dX5_sum_41 : decode cX5_sum 41 = .ok (.dup, 1) := dk_89 (dk_at dksX5_sum_1 17 rfl rfl)
theorem dX5_sum_42 : decode cX5_sum 42 = .ok (.aload_n 1, 1) := dk_43 (dk_at dksX5_sum_1 18 rfl rfl)
theorem dX5_sum_43 : decode cX5_sum 43 = .ok (.aload_n 0, 1) := dk_42 (dk_at dksX5_sum_1 19 rfl rfl)
theorem dX5_sum_44 : decode cX5_sum 44 = .ok (.invokevirtual 104, 3) := dk_182 0 104 (dk_at dksX5_sum_1 20 rfl rfl)
theorem dX5_sum_47 : decode cX5_sum 47 = .ok (.iload_n 2, 1) := dk_28 (dk_at dksX5_sum_1 23 rfl rfl)
theorem dX5_sum_48 : decode cX5_sum 48 = .ok (.invokespecial 101, 3) := dk_183 0 101 (dk_at dksX5_sum_2 0 rfl rfl)
theorem dX5_sum_51 : decode cX5_sum 51 = .ok (.astore_n 1, 1) := dk_76 (dk_at dksX5_sum_2 3 rfl rfl)
theorem dX5_sum_52 : decode cX5_sum 52 = .ok (.goto (-47), 3) := dk_167 255 209 (dk_at dksX5_sum_2 4 rfl rfl)
theorem dX5_sum_55 : decode cX5_sum 55 = .ok (.aload_n 1, 1) := dk_43 (dk_at dksX5_sum_2 7 rfl rfl)
theorem dX5_sum_56 : decode cX5_sum 56 = .ok (.areturn, 1) := dk_176 (dk_at dksX5_sum_2 8 rfl rfl)
abbrev cX5_term : ByteArray := prog_10_method_11_code
def yX5_term : MethodName := ⟨RX5, "term", "()LSweptSnow$Value;"⟩
def dkwX5_term_2 : List UInt8 := [187, 0, 99, 89, 43, 42, 182, 0, 95, 28, 183, 0, 101, 76, 167, 255, 200, 43, 176]
abbrev dktX5_term_2 : List UInt8 := dkwX5_term_2 ++ []
def dkwX5_term_1 : List UInt8 := [182, 0, 33, 16, 37, 160, 0, 35, 42, 182, 0, 33, 61, 42, 89, 180, 0, 23, 4, 96, 181, 0, 23]
abbrev dktX5_term_1 : List UInt8 := dkwX5_term_1 ++ dktX5_term_2
def dkwX5_term_0 : List UInt8 := [42, 182, 0, 95, 76, 42, 182, 0, 45, 16, 42, 159, 0, 21, 42, 182, 0, 33, 16, 47, 159, 0, 12, 42]
abbrev dktX5_term_0 : List UInt8 := dkwX5_term_0 ++ dktX5_term_1
theorem dksX5_term_0 : cX5_term.data.toList.drop 0 = dktX5_term_0 := by decide +kernel
theorem dksX5_term_1 : cX5_term.data.toList.drop 24 = dktX5_term_1 := dk_seg dksX5_term_0 24 rfl rfl
theorem dksX5_term_2 : cX5_term.data.toList.drop 47 = dktX5_term_2 := dk_seg dksX5_term_1 23 rfl rfl
theorem dX5_term_0 : decode cX5_term 0 = .ok (.aload_n 0, 1) := dk_42 (dk_at dksX5_term_0 0 rfl rfl)
theorem dX5_term_1 : decode cX5_term 1 = .ok (.invokevirtual 95, 3) := dk_182 0 95 (dk_at dksX5_term_0 1 rfl rfl)
theorem dX5_term_4 : decode cX5_term 4 = .ok (.astore_n 1, 1) := dk_76 (dk_at dksX5_term_0 4 rfl rfl)
theorem dX5_term_5 : decode cX5_term 5 = .ok (.aload_n 0, 1) := dk_42 (dk_at dksX5_term_0 5 rfl rfl)
theorem dX5_term_6 : decode cX5_term 6 = .ok (.invokevirtual 45, 3) := dk_182 0 45 (dk_at dksX5_term_0 6 rfl rfl)
theorem dX5_term_9 : decode cX5_term 9 = .ok (.bipush 42, 2) := dk_16 42 (dk_at dksX5_term_0 9 rfl rfl)
theorem dX5_term_11 : decode cX5_term 11 = .ok (.if_icmp .eq 21, 3) := dk_159 0 21 (dk_at dksX5_term_0 11 rfl rfl)
theorem dX5_term_14 : decode cX5_term 14 = .ok (.aload_n 0, 1) := dk_42 (dk_at dksX5_term_0 14 rfl rfl)
theorem dX5_term_15 : decode cX5_term 15 = .ok (.invokevirtual 33, 3) := dk_182 0 33 (dk_at dksX5_term_0 15 rfl rfl)
theorem dX5_term_18 : decode cX5_term 18 = .ok (.bipush 47, 2) := dk_16 47 (dk_at dksX5_term_0 18 rfl rfl)
theorem dX5_term_20 : decode cX5_term 20 = .ok (.if_icmp .eq 12, 3) := dk_159 0 12 (dk_at dksX5_term_0 20 rfl rfl)
theorem dX5_term_23 : decode cX5_term 23 = .ok (.aload_n 0, 1) := dk_42 (dk_at dksX5_term_0 23 rfl rfl)
theorem dX5_term_24 : decode cX5_term 24 = .ok (.invokevirtual 33, 3) := dk_182 0 33 (dk_at dksX5_term_1 0 rfl rfl)
theorem dX5_term_27 : decode cX5_term 27 = .ok (.bipush 37, 2) := dk_16 37 (dk_at dksX5_term_1 3 rfl rfl)
theorem dX5_term_29 : decode cX5_term 29 = .ok (.if_icmp .ne 35, 3) := dk_160 0 35 (dk_at dksX5_term_1 5 rfl rfl)
theorem dX5_term_32 : decode cX5_term 32 = .ok (.aload_n 0, 1) := dk_42 (dk_at dksX5_term_1 8 rfl rfl)
theorem dX5_term_33 : decode cX5_term 33 = .ok (.invokevirtual 33, 3) := dk_182 0 33 (dk_at dksX5_term_1 9 rfl rfl)
theorem dX5_term_36 : decode cX5_term 36 = .ok (.istore_n 2, 1) := dk_61 (dk_at dksX5_term_1 12 rfl rfl)
theorem dX5_term_37 : decode cX5_term 37 = .ok (.aload_n 0, 1) := dk_42 (dk_at dksX5_term_1 13 rfl rfl)
theorem dX5_term_38 : decode cX5_term 38 = .ok (.dup, 1) := dk_89 (dk_at dksX5_term_1 14 rfl rfl)
theorem dX5_term_39 : decode cX5_term 39 = .ok (.getfield 23, 3) := dk_180 0 23 (dk_at dksX5_term_1 15 rfl rfl)
theorem dX5_term_42 : decode cX5_term 42 = .ok (.iconst 1, 1) := dk_4 (dk_at dksX5_term_1 18 rfl rfl)
theorem dX5_term_43 : decode cX5_term 43 = .ok (.iadd, 1) := dk_96 (dk_at dksX5_term_1 19 rfl rfl)
theorem dX5_term_44 : decode cX5_term 44 = .ok (.putfield 23, 3) := dk_181 0 23 (dk_at dksX5_term_1 20 rfl rfl)
theorem dX5_term_47 : decode cX5_term 47 = .ok (.new 99, 3) := dk_187 0 99 (dk_at dksX5_term_2 0 rfl rfl)
theorem dX5_term_50 : decode cX5_term 50 = .ok (.dup, 1) := dk_89 (dk_at dksX5_term_2 3 rfl rfl)
theorem dX5_term_51 : decode cX5_term 51 = .ok (.aload_n 1, 1) := dk_43 (dk_at dksX5_term_2 4 rfl rfl)
theorem dX5_term_52 : decode cX5_term 52 = .ok (.aload_n 0, 1) := dk_42 (dk_at dksX5_term_2 5 rfl rfl)
theorem dX5_term_53 : decode cX5_term 53 = .ok (.invokevirtual 95, 3) := dk_182 0 95 (dk_at dksX5_term_2 6 rfl rfl)
theorem dX5_term_56 : decode cX5_term 56 = .ok (.iload_n 2, 1) := dk_28 (dk_at dksX5_term_2 9 rfl rfl)
theorem dX5_term_57 : decode cX5_term 57 = .ok (.invokespecial 101, 3) := dk_183 0 101 (dk_at dksX5_term_2 10 rfl rfl)
theorem dX5_term_60 : decode cX5_term 60 = .ok (.astore_n 1, 1) := dk_76 (dk_at dksX5_term_2 13 rfl rfl)
theorem dX5_term_61 : decode cX5_term 61 = .ok (.goto (-56), 3) := dk_167 255 200 (dk_at dksX5_term_2 14 rfl rfl)
theorem dX5_term_64 : decode cX5_term 64 = .ok (.aload_n 1, 1) := dk_43 (dk_at dksX5_term_2 17 rfl rfl)
theorem dX5_term_65 : decode cX5_term 65 = .ok (.areturn, 1) := dk_176 (dk_at dksX5_term_2 18 rfl rfl)
abbrev cX5_value : ByteArray := prog_10_method_10_code
def yX5_value : MethodName := ⟨RX5, "value", "()LSweptSnow$Value;"⟩
def dkwX5_value_4 : List UInt8 := [183, 0, 94, 176, 132, 2, 1, 167, 255, 196, 42, 180, 0, 3, 3, 27, 182, 0, 69, 191]
abbrev dktX5_value_4 : List UInt8 := dkwX5_value_4 ++ []
def dkwX5_value_3 : List UInt8 := [42, 89, 180, 0, 23, 42, 180, 0, 15, 28, 50, 182, 0, 52, 96, 181, 0, 23, 187, 0, 92, 89, 28]
abbrev dktX5_value_3 : List UInt8 := dkwX5_value_3 ++ dktX5_value_4
def dkwX5_value_2 : List UInt8 := [162, 0, 57, 42, 42, 180, 0, 15, 28, 50, 182, 0, 61, 154, 0, 6, 167, 0, 35, 42, 27, 182, 0, 89]
abbrev dktX5_value_2 : List UInt8 := dkwX5_value_2 ++ dktX5_value_3
def dkwX5_value_1 : List UInt8 := [18, 81, 182, 0, 82, 183, 0, 86, 77, 42, 27, 182, 0, 89, 44, 176, 3, 61, 28, 42, 180, 0, 15, 190]
abbrev dktX5_value_1 : List UInt8 := dkwX5_value_1 ++ dktX5_value_2
def dkwX5_value_0 : List UInt8 := [42, 182, 0, 45, 87, 42, 180, 0, 23, 60, 42, 182, 0, 65, 153, 0, 25, 187, 0, 79, 89, 42, 3]
abbrev dktX5_value_0 : List UInt8 := dkwX5_value_0 ++ dktX5_value_1
theorem dksX5_value_0 : cX5_value.data.toList.drop 0 = dktX5_value_0 := by decide +kernel
theorem dksX5_value_1 : cX5_value.data.toList.drop 23 = dktX5_value_1 := dk_seg dksX5_value_0 23 rfl rfl
theorem dksX5_value_2 : cX5_value.data.toList.drop 47 = dktX5_value_2 := dk_seg dksX5_value_1 24 rfl rfl
theorem dksX5_value_3 : cX5_value.data.toList.drop 71 = dktX5_value_3 := dk_seg dksX5_value_2 24 rfl rfl
theorem dksX5_value_4 : cX5_value.data.toList.drop 94 = dktX5_value_4 := dk_seg dksX5_value_3 23 rfl rfl
theorem dX5_value_0 : decode cX5_value 0 = .ok (.aload_n 0, 1) := dk_42 (dk_at dksX5_value_0 0 rfl rfl)
theorem dX5_value_1 : decode cX5_value 1 = .ok (.invokevirtual 45, 3) := dk_182 0 45 (dk_at dksX5_value_0 1 rfl rfl)
theorem dX5_value_4 : decode cX5_value 4 = .ok (.pop, 1) := dk_87 (dk_at dksX5_value_0 4 rfl rfl)
theorem dX5_value_5 : decode cX5_value 5 = .ok (.aload_n 0, 1) := dk_42 (dk_at dksX5_value_0 5 rfl rfl)
theorem dX5_value_6 : decode cX5_value 6 = .ok (.getfield 23, 3) := dk_180 0 23 (dk_at dksX5_value_0 6 rfl rfl)
theorem dX5_value_9 : decode cX5_value 9 = .ok (.istore_n 1, 1) := dk_60 (dk_at dksX5_value_0 9 rfl rfl)
theorem dX5_value_10 : decode cX5_value 10 = .ok (.aload_n 0, 1) := dk_42 (dk_at dksX5_value_0 10 rfl rfl)
theorem dX5_value_11 : decode cX5_value 11 = .ok (.invokevirtual 65, 3) := dk_182 0 65 (dk_at dksX5_value_0 11 rfl rfl)
theorem dX5_value_14 : decode cX5_value 14 = .ok (.ifCond .eq 25, 3) := dk_153 0 25 (dk_at dksX5_value_0 14 rfl rfl)
theorem dX5_value_17 : decode cX5_value 17 = .ok (.new 79, 3) := dk_187 0 79 (dk_at dksX5_value_0 17 rfl rfl)
theorem dX5_value_20 : decode cX5_value 20 = .ok (.dup, 1) := dk_89 (dk_at dksX5_value_0 20 rfl rfl)
theorem dX5_value_21 : decode cX5_value 21 = .ok (.aload_n 0, 1) := dk_42 (dk_at dksX5_value_0 21 rfl rfl)
theorem dX5_value_22 : decode cX5_value 22 = .ok (.iconst 0, 1) := dk_3 (dk_at dksX5_value_0 22 rfl rfl)
theorem dX5_value_23 : decode cX5_value 23 = .ok (.ldc 81, 2) := dk_18 81 (dk_at dksX5_value_1 0 rfl rfl)
theorem dX5_value_25 : decode cX5_value 25 = .ok (.invokevirtual 82, 3) := dk_182 0 82 (dk_at dksX5_value_1 2 rfl rfl)
theorem dX5_value_28 : decode cX5_value 28 = .ok (.invokespecial 86, 3) := dk_183 0 86 (dk_at dksX5_value_1 5 rfl rfl)
theorem dX5_value_31 : decode cX5_value 31 = .ok (.astore_n 2, 1) := dk_77 (dk_at dksX5_value_1 8 rfl rfl)
theorem dX5_value_32 : decode cX5_value 32 = .ok (.aload_n 0, 1) := dk_42 (dk_at dksX5_value_1 9 rfl rfl)
theorem dX5_value_33 : decode cX5_value 33 = .ok (.iload_n 1, 1) := dk_27 (dk_at dksX5_value_1 10 rfl rfl)
theorem dX5_value_34 : decode cX5_value 34 = .ok (.invokevirtual 89, 3) := dk_182 0 89 (dk_at dksX5_value_1 11 rfl rfl)
theorem dX5_value_37 : decode cX5_value 37 = .ok (.aload_n 2, 1) := dk_44 (dk_at dksX5_value_1 14 rfl rfl)
theorem dX5_value_38 : decode cX5_value 38 = .ok (.areturn, 1) := dk_176 (dk_at dksX5_value_1 15 rfl rfl)
theorem dX5_value_39 : decode cX5_value 39 = .ok (.iconst 0, 1) := dk_3 (dk_at dksX5_value_1 16 rfl rfl)
theorem dX5_value_40 : decode cX5_value 40 = .ok (.istore_n 2, 1) := dk_61 (dk_at dksX5_value_1 17 rfl rfl)
theorem dX5_value_41 : decode cX5_value 41 = .ok (.iload_n 2, 1) := dk_28 (dk_at dksX5_value_1 18 rfl rfl)
theorem dX5_value_42 : decode cX5_value 42 = .ok (.aload_n 0, 1) := dk_42 (dk_at dksX5_value_1 19 rfl rfl)
theorem dX5_value_43 : decode cX5_value 43 = .ok (.getfield 15, 3) := dk_180 0 15 (dk_at dksX5_value_1 20 rfl rfl)
theorem dX5_value_46 : decode cX5_value 46 = .ok (.arraylength, 1) := dk_190 (dk_at dksX5_value_1 23 rfl rfl)
theorem dX5_value_47 : decode cX5_value 47 = .ok (.if_icmp .ge 57, 3) := dk_162 0 57 (dk_at dksX5_value_2 0 rfl rfl)
theorem dX5_value_50 : decode cX5_value 50 = .ok (.aload_n 0, 1) := dk_42 (dk_at dksX5_value_2 3 rfl rfl)
theorem dX5_value_51 : decode cX5_value 51 = .ok (.aload_n 0, 1) := dk_42 (dk_at dksX5_value_2 4 rfl rfl)
theorem dX5_value_52 : decode cX5_value 52 = .ok (.getfield 15, 3) := dk_180 0 15 (dk_at dksX5_value_2 5 rfl rfl)
theorem dX5_value_55 : decode cX5_value 55 = .ok (.iload_n 2, 1) := dk_28 (dk_at dksX5_value_2 8 rfl rfl)
theorem dX5_value_56 : decode cX5_value 56 = .ok (.aaload, 1) := dk_50 (dk_at dksX5_value_2 9 rfl rfl)
theorem dX5_value_57 : decode cX5_value 57 = .ok (.invokevirtual 61, 3) := dk_182 0 61 (dk_at dksX5_value_2 10 rfl rfl)
theorem dX5_value_60 : decode cX5_value 60 = .ok (.ifCond .ne 6, 3) := dk_154 0 6 (dk_at dksX5_value_2 13 rfl rfl)
theorem dX5_value_63 : decode cX5_value 63 = .ok (.goto 35, 3) := dk_167 0 35 (dk_at dksX5_value_2 16 rfl rfl)
theorem dX5_value_66 : decode cX5_value 66 = .ok (.aload_n 0, 1) := dk_42 (dk_at dksX5_value_2 19 rfl rfl)
theorem dX5_value_67 : decode cX5_value 67 = .ok (.iload_n 1, 1) := dk_27 (dk_at dksX5_value_2 20 rfl rfl)
theorem dX5_value_68 : decode cX5_value 68 = .ok (.invokevirtual 89, 3) := dk_182 0 89 (dk_at dksX5_value_2 21 rfl rfl)
theorem dX5_value_71 : decode cX5_value 71 = .ok (.aload_n 0, 1) := dk_42 (dk_at dksX5_value_3 0 rfl rfl)
theorem dX5_value_72 : decode cX5_value 72 = .ok (.dup, 1) := dk_89 (dk_at dksX5_value_3 1 rfl rfl)
theorem dX5_value_73 : decode cX5_value 73 = .ok (.getfield 23, 3) := dk_180 0 23 (dk_at dksX5_value_3 2 rfl rfl)
theorem dX5_value_76 : decode cX5_value 76 = .ok (.aload_n 0, 1) := dk_42 (dk_at dksX5_value_3 5 rfl rfl)
theorem dX5_value_77 : decode cX5_value 77 = .ok (.getfield 15, 3) := dk_180 0 15 (dk_at dksX5_value_3 6 rfl rfl)
theorem dX5_value_80 : decode cX5_value 80 = .ok (.iload_n 2, 1) := dk_28 (dk_at dksX5_value_3 9 rfl rfl)
theorem dX5_value_81 : decode cX5_value 81 = .ok (.aaload, 1) := dk_50 (dk_at dksX5_value_3 10 rfl rfl)
theorem dX5_value_82 : decode cX5_value 82 = .ok (.invokevirtual 52, 3) := dk_182 0 52 (dk_at dksX5_value_3 11 rfl rfl)
theorem dX5_value_85 : decode cX5_value 85 = .ok (.iadd, 1) := dk_96 (dk_at dksX5_value_3 14 rfl rfl)
theorem dX5_value_86 : decode cX5_value 86 = .ok (.putfield 23, 3) := dk_181 0 23 (dk_at dksX5_value_3 15 rfl rfl)
theorem dX5_value_89 : decode cX5_value 89 = .ok (.new 92, 3) := dk_187 0 92 (dk_at dksX5_value_3 18 rfl rfl)
theorem dX5_value_92 : decode cX5_value 92 = .ok (.dup, 1) := dk_89 (dk_at dksX5_value_3 21 rfl rfl)
theorem dX5_value_93 : decode cX5_value 93 = .ok (.iload_n 2, 1) := dk_28 (dk_at dksX5_value_3 22 rfl rfl)
theorem dX5_value_94 : decode cX5_value 94 = .ok (.invokespecial 94, 3) := dk_183 0 94 (dk_at dksX5_value_4 0 rfl rfl)
theorem dX5_value_97 : decode cX5_value 97 = .ok (.areturn, 1) := dk_176 (dk_at dksX5_value_4 3 rfl rfl)
theorem dX5_value_98 : decode cX5_value 98 = .ok (.iinc 2 1, 3) := dk_132 2 1 (dk_at dksX5_value_4 4 rfl rfl)
theorem dX5_value_101 : decode cX5_value 101 = .ok (.goto (-60), 3) := dk_167 255 196 (dk_at dksX5_value_4 7 rfl rfl)
theorem dX5_value_104 : decode cX5_value 104 = .ok (.aload_n 0, 1) := dk_42 (dk_at dksX5_value_4 10 rfl rfl)
theorem dX5_value_105 : decode cX5_value 105 = .ok (.getfield 3, 3) := dk_180 0 3 (dk_at dksX5_value_4 11 rfl rfl)
theorem dX5_value_108 : decode cX5_value 108 = .ok (.iconst 0, 1) := dk_3 (dk_at dksX5_value_4 14 rfl rfl)
theorem dX5_value_109 : decode cX5_value 109 = .ok (.iload_n 1, 1) := dk_27 (dk_at dksX5_value_4 15 rfl rfl)
theorem dX5_value_110 : decode cX5_value 110 = .ok (.invokevirtual 69, 3) := dk_182 0 69 (dk_at dksX5_value_4 16 rfl rfl)
theorem dX5_value_113 : decode cX5_value 113 = .ok (.athrow, 1) := dk_191 (dk_at dksX5_value_4 19 rfl rfl)
abbrev cX5_counts : ByteArray := prog_10_method_8_code
def yX5_counts : MethodName := ⟨RX5, "counts", "(I)V"⟩
def dkwX5_counts_1 : List UInt8 := [4, 96, 181, 0, 73, 177]
abbrev dktX5_counts_1 : List UInt8 := dkwX5_counts_1 ++ []
def dkwX5_counts_0 : List UInt8 := [42, 180, 0, 73, 16, 60, 160, 0, 13, 42, 180, 0, 3, 6, 27, 182, 0, 69, 191, 42, 89, 180, 0, 73]
abbrev dktX5_counts_0 : List UInt8 := dkwX5_counts_0 ++ dktX5_counts_1
theorem dksX5_counts_0 : cX5_counts.data.toList.drop 0 = dktX5_counts_0 := by decide +kernel
theorem dksX5_counts_1 : cX5_counts.data.toList.drop 24 = dktX5_counts_1 := dk_seg dksX5_counts_0 24 rfl rfl
theorem dX5_counts_0 : decode cX5_counts 0 = .ok (.aload_n 0, 1) := dk_42 (dk_at dksX5_counts_0 0 rfl rfl)
theorem dX5_counts_1 : decode cX5_counts 1 = .ok (.getfield 73, 3) := dk_180 0 73 (dk_at dksX5_counts_0 1 rfl rfl)
theorem dX5_counts_4 : decode cX5_counts 4 = .ok (.bipush 60, 2) := dk_16 60 (dk_at dksX5_counts_0 4 rfl rfl)
theorem dX5_counts_6 : decode cX5_counts 6 = .ok (.if_icmp .ne 13, 3) := dk_160 0 13 (dk_at dksX5_counts_0 6 rfl rfl)
theorem dX5_counts_9 : decode cX5_counts 9 = .ok (.aload_n 0, 1) := dk_42 (dk_at dksX5_counts_0 9 rfl rfl)
theorem dX5_counts_10 : decode cX5_counts 10 = .ok (.getfield 3, 3) := dk_180 0 3 (dk_at dksX5_counts_0 10 rfl rfl)
theorem dX5_counts_13 : decode cX5_counts 13 = .ok (.iconst 3, 1) := dk_6 (dk_at dksX5_counts_0 13 rfl rfl)
theorem dX5_counts_14 : decode cX5_counts 14 = .ok (.iload_n 1, 1) := dk_27 (dk_at dksX5_counts_0 14 rfl rfl)
theorem dX5_counts_15 : decode cX5_counts 15 = .ok (.invokevirtual 69, 3) := dk_182 0 69 (dk_at dksX5_counts_0 15 rfl rfl)
theorem dX5_counts_18 : decode cX5_counts 18 = .ok (.athrow, 1) := dk_191 (dk_at dksX5_counts_0 18 rfl rfl)
theorem dX5_counts_19 : decode cX5_counts 19 = .ok (.aload_n 0, 1) := dk_42 (dk_at dksX5_counts_0 19 rfl rfl)
theorem dX5_counts_20 : decode cX5_counts 20 = .ok (.dup, 1) := dk_89 (dk_at dksX5_counts_0 20 rfl rfl)
theorem dX5_counts_21 : decode cX5_counts 21 = .ok (.getfield 73, 3) := dk_180 0 73 (dk_at dksX5_counts_0 21 rfl rfl)
theorem dX5_counts_24 : decode cX5_counts 24 = .ok (.iconst 1, 1) := dk_4 (dk_at dksX5_counts_1 0 rfl rfl)
theorem dX5_counts_25 : decode cX5_counts 25 = .ok (.iadd, 1) := dk_96 (dk_at dksX5_counts_1 1 rfl rfl)
theorem dX5_counts_26 : decode cX5_counts 26 = .ok (.putfield 73, 3) := dk_181 0 73 (dk_at dksX5_counts_1 2 rfl rfl)
theorem dX5_counts_29 : decode cX5_counts 29 = .ok (.return_, 1) := dk_177 (dk_at dksX5_counts_1 5 rfl rfl)
abbrev cX5_takes : ByteArray := prog_10_method_6_code
def yX5_takes : MethodName := ⟨RX5, "takes", "(Ljava/lang/String;)Z"⟩
def dkwX5_takes_1 : List UInt8 := [181, 0, 23, 28, 172]
abbrev dktX5_takes_1 : List UInt8 := dkwX5_takes_1 ++ []
def dkwX5_takes_0 : List UInt8 := [42, 43, 182, 0, 61, 61, 42, 89, 180, 0, 23, 28, 153, 0, 10, 43, 182, 0, 52, 167, 0, 4, 3, 96]
abbrev dktX5_takes_0 : List UInt8 := dkwX5_takes_0 ++ dktX5_takes_1
theorem dksX5_takes_0 : cX5_takes.data.toList.drop 0 = dktX5_takes_0 := by decide +kernel
theorem dksX5_takes_1 : cX5_takes.data.toList.drop 24 = dktX5_takes_1 := dk_seg dksX5_takes_0 24 rfl rfl
theorem dX5_takes_0 : decode cX5_takes 0 = .ok (.aload_n 0, 1) := dk_42 (dk_at dksX5_takes_0 0 rfl rfl)
theorem dX5_takes_1 : decode cX5_takes 1 = .ok (.aload_n 1, 1) := dk_43 (dk_at dksX5_takes_0 1 rfl rfl)
theorem dX5_takes_2 : decode cX5_takes 2 = .ok (.invokevirtual 61, 3) := dk_182 0 61 (dk_at dksX5_takes_0 2 rfl rfl)
theorem dX5_takes_5 : decode cX5_takes 5 = .ok (.istore_n 2, 1) := dk_61 (dk_at dksX5_takes_0 5 rfl rfl)
theorem dX5_takes_6 : decode cX5_takes 6 = .ok (.aload_n 0, 1) := dk_42 (dk_at dksX5_takes_0 6 rfl rfl)
theorem dX5_takes_7 : decode cX5_takes 7 = .ok (.dup, 1) := dk_89 (dk_at dksX5_takes_0 7 rfl rfl)
theorem dX5_takes_8 : decode cX5_takes 8 = .ok (.getfield 23, 3) := dk_180 0 23 (dk_at dksX5_takes_0 8 rfl rfl)
theorem dX5_takes_11 : decode cX5_takes 11 = .ok (.iload_n 2, 1) := dk_28 (dk_at dksX5_takes_0 11 rfl rfl)
theorem dX5_takes_12 : decode cX5_takes 12 = .ok (.ifCond .eq 10, 3) := dk_153 0 10 (dk_at dksX5_takes_0 12 rfl rfl)
theorem dX5_takes_15 : decode cX5_takes 15 = .ok (.aload_n 1, 1) := dk_43 (dk_at dksX5_takes_0 15 rfl rfl)
theorem dX5_takes_16 : decode cX5_takes 16 = .ok (.invokevirtual 52, 3) := dk_182 0 52 (dk_at dksX5_takes_0 16 rfl rfl)
theorem dX5_takes_19 : decode cX5_takes 19 = .ok (.goto 4, 3) := dk_167 0 4 (dk_at dksX5_takes_0 19 rfl rfl)
theorem dX5_takes_22 : decode cX5_takes 22 = .ok (.iconst 0, 1) := dk_3 (dk_at dksX5_takes_0 22 rfl rfl)
theorem dX5_takes_23 : decode cX5_takes 23 = .ok (.iadd, 1) := dk_96 (dk_at dksX5_takes_0 23 rfl rfl)
theorem dX5_takes_24 : decode cX5_takes 24 = .ok (.putfield 23, 3) := dk_181 0 23 (dk_at dksX5_takes_1 0 rfl rfl)
theorem dX5_takes_27 : decode cX5_takes 27 = .ok (.iload_n 2, 1) := dk_28 (dk_at dksX5_takes_1 3 rfl rfl)
theorem dX5_takes_28 : decode cX5_takes 28 = .ok (.ireturn, 1) := dk_172 (dk_at dksX5_takes_1 4 rfl rfl)
abbrev cX5_test : ByteArray := prog_10_method_15_code
def yX5_test : MethodName := ⟨RX5, "test", "()LSweptSnow$Condition;"⟩
def dkwX5_test_1 : List UInt8 := [183, 0, 139, 76, 167, 255, 233, 43, 176]
abbrev dktX5_test_1 : List UInt8 := dkwX5_test_1 ++ []
def dkwX5_test_0 : List UInt8 := [42, 182, 0, 142, 76, 42, 18, 145, 182, 0, 134, 153, 0, 20, 187, 0, 137, 89, 43, 42, 182, 0, 142, 4]
abbrev dktX5_test_0 : List UInt8 := dkwX5_test_0 ++ dktX5_test_1
theorem dksX5_test_0 : cX5_test.data.toList.drop 0 = dktX5_test_0 := by decide +kernel
theorem dksX5_test_1 : cX5_test.data.toList.drop 24 = dktX5_test_1 := dk_seg dksX5_test_0 24 rfl rfl
theorem dX5_test_0 : decode cX5_test 0 = .ok (.aload_n 0, 1) := dk_42 (dk_at dksX5_test_0 0 rfl rfl)
theorem dX5_test_1 : decode cX5_test 1 = .ok (.invokevirtual 142, 3) := dk_182 0 142 (dk_at dksX5_test_0 1 rfl rfl)
theorem dX5_test_4 : decode cX5_test 4 = .ok (.astore_n 1, 1) := dk_76 (dk_at dksX5_test_0 4 rfl rfl)
theorem dX5_test_5 : decode cX5_test 5 = .ok (.aload_n 0, 1) := dk_42 (dk_at dksX5_test_0 5 rfl rfl)
theorem dX5_test_6 : decode cX5_test 6 = .ok (.ldc 145, 2) := dk_18 145 (dk_at dksX5_test_0 6 rfl rfl)
theorem dX5_test_8 : decode cX5_test 8 = .ok (.invokevirtual 134, 3) := dk_182 0 134 (dk_at dksX5_test_0 8 rfl rfl)
theorem dX5_test_11 : decode cX5_test 11 = .ok (.ifCond .eq 20, 3) := dk_153 0 20 (dk_at dksX5_test_0 11 rfl rfl)
theorem dX5_test_14 : decode cX5_test 14 = .ok (.new 137, 3) := dk_187 0 137 (dk_at dksX5_test_0 14 rfl rfl)
theorem dX5_test_17 : decode cX5_test 17 = .ok (.dup, 1) := dk_89 (dk_at dksX5_test_0 17 rfl rfl)
theorem dX5_test_18 : decode cX5_test 18 = .ok (.aload_n 1, 1) := dk_43 (dk_at dksX5_test_0 18 rfl rfl)
theorem dX5_test_19 : decode cX5_test 19 = .ok (.aload_n 0, 1) := dk_42 (dk_at dksX5_test_0 19 rfl rfl)
theorem dX5_test_20 : decode cX5_test 20 = .ok (.invokevirtual 142, 3) := dk_182 0 142 (dk_at dksX5_test_0 20 rfl rfl)
theorem dX5_test_23 : decode cX5_test 23 = .ok (.iconst 1, 1) := dk_4 (dk_at dksX5_test_0 23 rfl rfl)
theorem dX5_test_24 : decode cX5_test 24 = .ok (.invokespecial 139, 3) := dk_183 0 139 (dk_at dksX5_test_1 0 rfl rfl)
theorem dX5_test_27 : decode cX5_test 27 = .ok (.astore_n 1, 1) := dk_76 (dk_at dksX5_test_1 3 rfl rfl)
theorem dX5_test_28 : decode cX5_test 28 = .ok (.goto (-23), 3) := dk_167 255 233 (dk_at dksX5_test_1 4 rfl rfl)
theorem dX5_test_31 : decode cX5_test 31 = .ok (.aload_n 1, 1) := dk_43 (dk_at dksX5_test_1 7 rfl rfl)
theorem dX5_test_32 : decode cX5_test 32 = .ok (.areturn, 1) := dk_176 (dk_at dksX5_test_1 8 rfl rfl)
abbrev cX5_part : ByteArray := prog_10_method_14_code
def yX5_part : MethodName := ⟨RX5, "part", "()LSweptSnow$Condition;"⟩
def dkwX5_part_1 : List UInt8 := [183, 0, 139, 76, 167, 255, 233, 43, 176]
abbrev dktX5_part_1 : List UInt8 := dkwX5_part_1 ++ []
def dkwX5_part_0 : List UInt8 := [42, 182, 0, 114, 76, 42, 18, 132, 182, 0, 134, 153, 0, 20, 187, 0, 137, 89, 43, 42, 182, 0, 114, 3]
abbrev dktX5_part_0 : List UInt8 := dkwX5_part_0 ++ dktX5_part_1
theorem dksX5_part_0 : cX5_part.data.toList.drop 0 = dktX5_part_0 := by decide +kernel
theorem dksX5_part_1 : cX5_part.data.toList.drop 24 = dktX5_part_1 := dk_seg dksX5_part_0 24 rfl rfl
theorem dX5_part_0 : decode cX5_part 0 = .ok (.aload_n 0, 1) := dk_42 (dk_at dksX5_part_0 0 rfl rfl)
theorem dX5_part_1 : decode cX5_part 1 = .ok (.invokevirtual 114, 3) := dk_182 0 114 (dk_at dksX5_part_0 1 rfl rfl)
theorem dX5_part_4 : decode cX5_part 4 = .ok (.astore_n 1, 1) := dk_76 (dk_at dksX5_part_0 4 rfl rfl)
theorem dX5_part_5 : decode cX5_part 5 = .ok (.aload_n 0, 1) := dk_42 (dk_at dksX5_part_0 5 rfl rfl)
theorem dX5_part_6 : decode cX5_part 6 = .ok (.ldc 132, 2) := dk_18 132 (dk_at dksX5_part_0 6 rfl rfl)
theorem dX5_part_8 : decode cX5_part 8 = .ok (.invokevirtual 134, 3) := dk_182 0 134 (dk_at dksX5_part_0 8 rfl rfl)
theorem dX5_part_11 : decode cX5_part 11 = .ok (.ifCond .eq 20, 3) := dk_153 0 20 (dk_at dksX5_part_0 11 rfl rfl)
theorem dX5_part_14 : decode cX5_part 14 = .ok (.new 137, 3) := dk_187 0 137 (dk_at dksX5_part_0 14 rfl rfl)
theorem dX5_part_17 : decode cX5_part 17 = .ok (.dup, 1) := dk_89 (dk_at dksX5_part_0 17 rfl rfl)
theorem dX5_part_18 : decode cX5_part 18 = .ok (.aload_n 1, 1) := dk_43 (dk_at dksX5_part_0 18 rfl rfl)
theorem dX5_part_19 : decode cX5_part 19 = .ok (.aload_n 0, 1) := dk_42 (dk_at dksX5_part_0 19 rfl rfl)
theorem dX5_part_20 : decode cX5_part 20 = .ok (.invokevirtual 114, 3) := dk_182 0 114 (dk_at dksX5_part_0 20 rfl rfl)
theorem dX5_part_23 : decode cX5_part 23 = .ok (.iconst 0, 1) := dk_3 (dk_at dksX5_part_0 23 rfl rfl)
theorem dX5_part_24 : decode cX5_part 24 = .ok (.invokespecial 139, 3) := dk_183 0 139 (dk_at dksX5_part_1 0 rfl rfl)
theorem dX5_part_27 : decode cX5_part 27 = .ok (.astore_n 1, 1) := dk_76 (dk_at dksX5_part_1 3 rfl rfl)
theorem dX5_part_28 : decode cX5_part 28 = .ok (.goto (-23), 3) := dk_167 255 233 (dk_at dksX5_part_1 4 rfl rfl)
theorem dX5_part_31 : decode cX5_part 31 = .ok (.aload_n 1, 1) := dk_43 (dk_at dksX5_part_1 7 rfl rfl)
theorem dX5_part_32 : decode cX5_part 32 = .ok (.areturn, 1) := dk_176 (dk_at dksX5_part_1 8 rfl rfl)
abbrev cX5_fact : ByteArray := prog_10_method_13_code
def yX5_fact : MethodName := ⟨RX5, "fact", "()LSweptSnow$Condition;"⟩
def dkwX5_fact_10 : List UInt8 := [182, 0, 124, 29, 21, 4, 183, 0, 129, 176]
abbrev dktX5_fact_10 : List UInt8 := dkwX5_fact_10 ++ []
def dkwX5_fact_9 : List UInt8 := [180, 0, 23, 21, 4, 153, 0, 7, 4, 167, 0, 4, 3, 96, 181, 0, 23, 187, 0, 127, 89, 44, 42]
abbrev dktX5_fact_9 : List UInt8 := dkwX5_fact_9 ++ dktX5_fact_10
def dkwX5_fact_8 : List UInt8 := [16, 61, 159, 0, 16, 42, 182, 0, 33, 16, 61, 160, 0, 7, 4, 167, 0, 4, 3, 54, 4, 42, 89]
abbrev dktX5_fact_8 : List UInt8 := dkwX5_fact_8 ++ dktX5_fact_9
def dkwX5_fact_7 : List UInt8 := [182, 0, 69, 191, 42, 42, 180, 0, 23, 182, 0, 89, 42, 89, 180, 0, 23, 4, 96, 181, 0, 23, 29]
abbrev dktX5_fact_7 : List UInt8 := dkwX5_fact_7 ++ dktX5_fact_8
def dkwX5_fact_6 : List UInt8 := [159, 0, 28, 29, 16, 61, 159, 0, 22, 29, 16, 62, 159, 0, 16, 42, 180, 0, 3, 3, 42, 180, 0, 23]
abbrev dktX5_fact_6 : List UInt8 := dkwX5_fact_6 ++ dktX5_fact_7
def dkwX5_fact_5 : List UInt8 := [89, 180, 0, 76, 4, 100, 181, 0, 76, 44, 176, 42, 182, 0, 124, 77, 42, 182, 0, 45, 62, 29, 16, 60]
abbrev dktX5_fact_5 : List UInt8 := dkwX5_fact_5 ++ dktX5_fact_6
def dkwX5_fact_4 : List UInt8 := [42, 180, 0, 3, 3, 42, 180, 0, 23, 182, 0, 69, 191, 42, 89, 180, 0, 23, 4, 96, 181, 0, 23, 42]
abbrev dktX5_fact_4 : List UInt8 := dkwX5_fact_4 ++ dktX5_fact_5
def dkwX5_fact_3 : List UInt8 := [42, 89, 180, 0, 23, 4, 96, 181, 0, 23, 42, 182, 0, 121, 77, 42, 182, 0, 45, 16, 93, 159, 0, 16]
abbrev dktX5_fact_3 : List UInt8 := dkwX5_fact_3 ++ dktX5_fact_4
def dkwX5_fact_2 : List UInt8 := [180, 0, 76, 4, 100, 181, 0, 76, 44, 176, 42, 182, 0, 33, 16, 91, 160, 0, 67, 42, 27, 182, 0, 109]
abbrev dktX5_fact_2 : List UInt8 := dkwX5_fact_2 ++ dktX5_fact_3
def dkwX5_fact_1 : List UInt8 := [42, 89, 180, 0, 23, 6, 96, 181, 0, 23, 187, 0, 112, 89, 42, 182, 0, 114, 183, 0, 118, 77, 42, 89]
abbrev dktX5_fact_1 : List UInt8 := dkwX5_fact_1 ++ dktX5_fact_2
def dkwX5_fact_0 : List UInt8 := [42, 182, 0, 45, 87, 42, 180, 0, 23, 60, 42, 18, 107, 182, 0, 61, 153, 0, 42, 42, 27, 182, 0, 109]
abbrev dktX5_fact_0 : List UInt8 := dkwX5_fact_0 ++ dktX5_fact_1
theorem dksX5_fact_0 : cX5_fact.data.toList.drop 0 = dktX5_fact_0 := by decide +kernel
theorem dksX5_fact_1 : cX5_fact.data.toList.drop 24 = dktX5_fact_1 := dk_seg dksX5_fact_0 24 rfl rfl
theorem dksX5_fact_2 : cX5_fact.data.toList.drop 48 = dktX5_fact_2 := dk_seg dksX5_fact_1 24 rfl rfl
theorem dksX5_fact_3 : cX5_fact.data.toList.drop 72 = dktX5_fact_3 := dk_seg dksX5_fact_2 24 rfl rfl
theorem dksX5_fact_4 : cX5_fact.data.toList.drop 96 = dktX5_fact_4 := dk_seg dksX5_fact_3 24 rfl rfl
theorem dksX5_fact_5 : cX5_fact.data.toList.drop 120 = dktX5_fact_5 := dk_seg dksX5_fact_4 24 rfl rfl
theorem dksX5_fact_6 : cX5_fact.data.toList.drop 144 = dktX5_fact_6 := dk_seg dksX5_fact_5 24 rfl rfl
theorem dksX5_fact_7 : cX5_fact.data.toList.drop 168 = dktX5_fact_7 := dk_seg dksX5_fact_6 24 rfl rfl
theorem dksX5_fact_8 : cX5_fact.data.toList.drop 191 = dktX5_fact_8 := dk_seg dksX5_fact_7 23 rfl rfl
theorem dksX5_fact_9 : cX5_fact.data.toList.drop 214 = dktX5_fact_9 := dk_seg dksX5_fact_8 23 rfl rfl
theorem dksX5_fact_10 : cX5_fact.data.toList.drop 237 = dktX5_fact_10 := dk_seg dksX5_fact_9 23 rfl rfl
theorem dX5_fact_0 : decode cX5_fact 0 = .ok (.aload_n 0, 1) := dk_42 (dk_at dksX5_fact_0 0 rfl rfl)
theorem dX5_fact_1 : decode cX5_fact 1 = .ok (.invokevirtual 45, 3) := dk_182 0 45 (dk_at dksX5_fact_0 1 rfl rfl)
theorem dX5_fact_4 : decode cX5_fact 4 = .ok (.pop, 1) := dk_87 (dk_at dksX5_fact_0 4 rfl rfl)
theorem dX5_fact_5 : decode cX5_fact 5 = .ok (.aload_n 0, 1) := dk_42 (dk_at dksX5_fact_0 5 rfl rfl)
theorem dX5_fact_6 : decode cX5_fact 6 = .ok (.getfield 23, 3) := dk_180 0 23 (dk_at dksX5_fact_0 6 rfl rfl)
theorem dX5_fact_9 : decode cX5_fact 9 = .ok (.istore_n 1, 1) := dk_60 (dk_at dksX5_fact_0 9 rfl rfl)
theorem dX5_fact_10 : decode cX5_fact 10 = .ok (.aload_n 0, 1) := dk_42 (dk_at dksX5_fact_0 10 rfl rfl)
theorem dX5_fact_11 : decode cX5_fact 11 = .ok (.ldc 107, 2) := dk_18 107 (dk_at dksX5_fact_0 11 rfl rfl)
theorem dX5_fact_13 : decode cX5_fact 13 = .ok (.invokevirtual 61, 3) := dk_182 0 61 (dk_at dksX5_fact_0 13 rfl rfl)
theorem dX5_fact_16 : decode cX5_fact 16 = .ok (.ifCond .eq 42, 3) := dk_153 0 42 (dk_at dksX5_fact_0 16 rfl rfl)
theorem dX5_fact_19 : decode cX5_fact 19 = .ok (.aload_n 0, 1) := dk_42 (dk_at dksX5_fact_0 19 rfl rfl)
theorem dX5_fact_20 : decode cX5_fact 20 = .ok (.iload_n 1, 1) := dk_27 (dk_at dksX5_fact_0 20 rfl rfl)
theorem dX5_fact_21 : decode cX5_fact 21 = .ok (.invokevirtual 109, 3) := dk_182 0 109 (dk_at dksX5_fact_0 21 rfl rfl)
theorem dX5_fact_24 : decode cX5_fact 24 = .ok (.aload_n 0, 1) := dk_42 (dk_at dksX5_fact_1 0 rfl rfl)
theorem dX5_fact_25 : decode cX5_fact 25 = .ok (.dup, 1) := dk_89 (dk_at dksX5_fact_1 1 rfl rfl)
theorem dX5_fact_26 : decode cX5_fact 26 = .ok (.getfield 23, 3) := dk_180 0 23 (dk_at dksX5_fact_1 2 rfl rfl)
theorem dX5_fact_29 : decode cX5_fact 29 = .ok (.iconst 3, 1) := dk_6 (dk_at dksX5_fact_1 5 rfl rfl)
theorem dX5_fact_30 : decode cX5_fact 30 = .ok (.iadd, 1) := dk_96 (dk_at dksX5_fact_1 6 rfl rfl)
theorem dX5_fact_31 : decode cX5_fact 31 = .ok (.putfield 23, 3) := dk_181 0 23 (dk_at dksX5_fact_1 7 rfl rfl)
theorem dX5_fact_34 : decode cX5_fact 34 = .ok (.new 112, 3) := dk_187 0 112 (dk_at dksX5_fact_1 10 rfl rfl)
theorem dX5_fact_37 : decode cX5_fact 37 = .ok (.dup, 1) := dk_89 (dk_at dksX5_fact_1 13 rfl rfl)
theorem dX5_fact_38 : decode cX5_fact 38 = .ok (.aload_n 0, 1) := dk_42 (dk_at dksX5_fact_1 14 rfl rfl)
theorem dX5_fact_39 : decode cX5_fact 39 = .ok (.invokevirtual 114, 3) := dk_182 0 114 (dk_at dksX5_fact_1 15 rfl rfl)
theorem dX5_fact_42 : decode cX5_fact 42 = .ok (.invokespecial 118, 3) := dk_183 0 118 (dk_at dksX5_fact_1 18 rfl rfl)
theorem dX5_fact_45 : decode cX5_fact 45 = .ok (.astore_n 2, 1) := dk_77 (dk_at dksX5_fact_1 21 rfl rfl)
theorem dX5_fact_46 : decode cX5_fact 46 = .ok (.aload_n 0, 1) := dk_42 (dk_at dksX5_fact_1 22 rfl rfl)
theorem dX5_fact_47 : decode cX5_fact 47 = .ok (.dup, 1) := dk_89 (dk_at dksX5_fact_1 23 rfl rfl)
theorem dX5_fact_48 : decode cX5_fact 48 = .ok (.getfield 76, 3) := dk_180 0 76 (dk_at dksX5_fact_2 0 rfl rfl)
theorem dX5_fact_51 : decode cX5_fact 51 = .ok (.iconst 1, 1) := dk_4 (dk_at dksX5_fact_2 3 rfl rfl)
theorem dX5_fact_52 : decode cX5_fact 52 = .ok (.isub, 1) := dk_100 (dk_at dksX5_fact_2 4 rfl rfl)
theorem dX5_fact_53 : decode cX5_fact 53 = .ok (.putfield 76, 3) := dk_181 0 76 (dk_at dksX5_fact_2 5 rfl rfl)
theorem dX5_fact_56 : decode cX5_fact 56 = .ok (.aload_n 2, 1) := dk_44 (dk_at dksX5_fact_2 8 rfl rfl)
theorem dX5_fact_57 : decode cX5_fact 57 = .ok (.areturn, 1) := dk_176 (dk_at dksX5_fact_2 9 rfl rfl)
theorem dX5_fact_58 : decode cX5_fact 58 = .ok (.aload_n 0, 1) := dk_42 (dk_at dksX5_fact_2 10 rfl rfl)
theorem dX5_fact_59 : decode cX5_fact 59 = .ok (.invokevirtual 33, 3) := dk_182 0 33 (dk_at dksX5_fact_2 11 rfl rfl)
theorem dX5_fact_62 : decode cX5_fact 62 = .ok (.bipush 91, 2) := dk_16 91 (dk_at dksX5_fact_2 14 rfl rfl)
theorem dX5_fact_64 : decode cX5_fact 64 = .ok (.if_icmp .ne 67, 3) := dk_160 0 67 (dk_at dksX5_fact_2 16 rfl rfl)
theorem dX5_fact_67 : decode cX5_fact 67 = .ok (.aload_n 0, 1) := dk_42 (dk_at dksX5_fact_2 19 rfl rfl)
theorem dX5_fact_68 : decode cX5_fact 68 = .ok (.iload_n 1, 1) := dk_27 (dk_at dksX5_fact_2 20 rfl rfl)
theorem dX5_fact_69 : decode cX5_fact 69 = .ok (.invokevirtual 109, 3) := dk_182 0 109 (dk_at dksX5_fact_2 21 rfl rfl)
theorem dX5_fact_72 : decode cX5_fact 72 = .ok (.aload_n 0, 1) := dk_42 (dk_at dksX5_fact_3 0 rfl rfl)
theorem dX5_fact_73 : decode cX5_fact 73 = .ok (.dup, 1) := dk_89 (dk_at dksX5_fact_3 1 rfl rfl)
theorem dX5_fact_74 : decode cX5_fact 74 = .ok (.getfield 23, 3) := dk_180 0 23 (dk_at dksX5_fact_3 2 rfl rfl)
theorem dX5_fact_77 : decode cX5_fact 77 = .ok (.iconst 1, 1) := dk_4 (dk_at dksX5_fact_3 5 rfl rfl)
theorem dX5_fact_78 : decode cX5_fact 78 = .ok (.iadd, 1) := dk_96 (dk_at dksX5_fact_3 6 rfl rfl)
theorem dX5_fact_79 : decode cX5_fact 79 = .ok (.putfield 23, 3) := dk_181 0 23 (dk_at dksX5_fact_3 7 rfl rfl)
theorem dX5_fact_82 : decode cX5_fact 82 = .ok (.aload_n 0, 1) := dk_42 (dk_at dksX5_fact_3 10 rfl rfl)
theorem dX5_fact_83 : decode cX5_fact 83 = .ok (.invokevirtual 121, 3) := dk_182 0 121 (dk_at dksX5_fact_3 11 rfl rfl)
theorem dX5_fact_86 : decode cX5_fact 86 = .ok (.astore_n 2, 1) := dk_77 (dk_at dksX5_fact_3 14 rfl rfl)
theorem dX5_fact_87 : decode cX5_fact 87 = .ok (.aload_n 0, 1) := dk_42 (dk_at dksX5_fact_3 15 rfl rfl)
theorem dX5_fact_88 : decode cX5_fact 88 = .ok (.invokevirtual 45, 3) := dk_182 0 45 (dk_at dksX5_fact_3 16 rfl rfl)
theorem dX5_fact_91 : decode cX5_fact 91 = .ok (.bipush 93, 2) := dk_16 93 (dk_at dksX5_fact_3 19 rfl rfl)
theorem dX5_fact_93 : decode cX5_fact 93 = .ok (.if_icmp .eq 16, 3) := dk_159 0 16 (dk_at dksX5_fact_3 21 rfl rfl)
theorem dX5_fact_96 : decode cX5_fact 96 = .ok (.aload_n 0, 1) := dk_42 (dk_at dksX5_fact_4 0 rfl rfl)
theorem dX5_fact_97 : decode cX5_fact 97 = .ok (.getfield 3, 3) := dk_180 0 3 (dk_at dksX5_fact_4 1 rfl rfl)
theorem dX5_fact_100 : decode cX5_fact 100 = .ok (.iconst 0, 1) := dk_3 (dk_at dksX5_fact_4 4 rfl rfl)
theorem dX5_fact_101 : decode cX5_fact 101 = .ok (.aload_n 0, 1) := dk_42 (dk_at dksX5_fact_4 5 rfl rfl)
theorem dX5_fact_102 : decode cX5_fact 102 = .ok (.getfield 23, 3) := dk_180 0 23 (dk_at dksX5_fact_4 6 rfl rfl)
theorem dX5_fact_105 : decode cX5_fact 105 = .ok (.invokevirtual 69, 3) := dk_182 0 69 (dk_at dksX5_fact_4 9 rfl rfl)
theorem dX5_fact_108 : decode cX5_fact 108 = .ok (.athrow, 1) := dk_191 (dk_at dksX5_fact_4 12 rfl rfl)
theorem dX5_fact_109 : decode cX5_fact 109 = .ok (.aload_n 0, 1) := dk_42 (dk_at dksX5_fact_4 13 rfl rfl)
theorem dX5_fact_110 : decode cX5_fact 110 = .ok (.dup, 1) := dk_89 (dk_at dksX5_fact_4 14 rfl rfl)
theorem dX5_fact_111 : decode cX5_fact 111 = .ok (.getfield 23, 3) := dk_180 0 23 (dk_at dksX5_fact_4 15 rfl rfl)
theorem dX5_fact_114 : decode cX5_fact 114 = .ok (.iconst 1, 1) := dk_4 (dk_at dksX5_fact_4 18 rfl rfl)
theorem dX5_fact_115 : decode cX5_fact 115 = .ok (.iadd, 1) := dk_96 (dk_at dksX5_fact_4 19 rfl rfl)
theorem dX5_fact_116 : decode cX5_fact 116 = .ok (.putfield 23, 3) := dk_181 0 23 (dk_at dksX5_fact_4 20 rfl rfl)
theorem dX5_fact_119 : decode cX5_fact 119 = .ok (.aload_n 0, 1) := dk_42 (dk_at dksX5_fact_4 23 rfl rfl)
theorem dX5_fact_120 : decode cX5_fact 120 = .ok (.dup, 1) := dk_89 (dk_at dksX5_fact_5 0 rfl rfl)
theorem dX5_fact_121 : decode cX5_fact 121 = .ok (.getfield 76, 3) := dk_180 0 76 (dk_at dksX5_fact_5 1 rfl rfl)
theorem dX5_fact_124 : decode cX5_fact 124 = .ok (.iconst 1, 1) := dk_4 (dk_at dksX5_fact_5 4 rfl rfl)
theorem dX5_fact_125 : decode cX5_fact 125 = .ok (.isub, 1) := dk_100 (dk_at dksX5_fact_5 5 rfl rfl)
theorem dX5_fact_126 : decode cX5_fact 126 = .ok (.putfield 76, 3) := dk_181 0 76 (dk_at dksX5_fact_5 6 rfl rfl)
theorem dX5_fact_129 : decode cX5_fact 129 = .ok (.aload_n 2, 1) := dk_44 (dk_at dksX5_fact_5 9 rfl rfl)
theorem dX5_fact_130 : decode cX5_fact 130 = .ok (.areturn, 1) := dk_176 (dk_at dksX5_fact_5 10 rfl rfl)
theorem dX5_fact_131 : decode cX5_fact 131 = .ok (.aload_n 0, 1) := dk_42 (dk_at dksX5_fact_5 11 rfl rfl)
theorem dX5_fact_132 : decode cX5_fact 132 = .ok (.invokevirtual 124, 3) := dk_182 0 124 (dk_at dksX5_fact_5 12 rfl rfl)
theorem dX5_fact_135 : decode cX5_fact 135 = .ok (.astore_n 2, 1) := dk_77 (dk_at dksX5_fact_5 15 rfl rfl)
theorem dX5_fact_136 : decode cX5_fact 136 = .ok (.aload_n 0, 1) := dk_42 (dk_at dksX5_fact_5 16 rfl rfl)
theorem dX5_fact_137 : decode cX5_fact 137 = .ok (.invokevirtual 45, 3) := dk_182 0 45 (dk_at dksX5_fact_5 17 rfl rfl)
theorem dX5_fact_140 : decode cX5_fact 140 = .ok (.istore_n 3, 1) := dk_62 (dk_at dksX5_fact_5 20 rfl rfl)
theorem dX5_fact_141 : decode cX5_fact 141 = .ok (.iload_n 3, 1) := dk_29 (dk_at dksX5_fact_5 21 rfl rfl)
theorem dX5_fact_142 : decode cX5_fact 142 = .ok (.bipush 60, 2) := dk_16 60 (dk_at dksX5_fact_5 22 rfl rfl)
theorem dX5_fact_144 : decode cX5_fact 144 = .ok (.if_icmp .eq 28, 3) := dk_159 0 28 (dk_at dksX5_fact_6 0 rfl rfl)
theorem dX5_fact_147 : decode cX5_fact 147 = .ok (.iload_n 3, 1) := dk_29 (dk_at dksX5_fact_6 3 rfl rfl)
theorem dX5_fact_148 : decode cX5_fact 148 = .ok (.bipush 61, 2) := dk_16 61 (dk_at dksX5_fact_6 4 rfl rfl)
theorem dX5_fact_150 : decode cX5_fact 150 = .ok (.if_icmp .eq 22, 3) := dk_159 0 22 (dk_at dksX5_fact_6 6 rfl rfl)
theorem dX5_fact_153 : decode cX5_fact 153 = .ok (.iload_n 3, 1) := dk_29 (dk_at dksX5_fact_6 9 rfl rfl)
theorem dX5_fact_154 : decode cX5_fact 154 = .ok (.bipush 62, 2) := dk_16 62 (dk_at dksX5_fact_6 10 rfl rfl)
theorem dX5_fact_156 : decode cX5_fact 156 = .ok (.if_icmp .eq 16, 3) := dk_159 0 16 (dk_at dksX5_fact_6 12 rfl rfl)
theorem dX5_fact_159 : decode cX5_fact 159 = .ok (.aload_n 0, 1) := dk_42 (dk_at dksX5_fact_6 15 rfl rfl)
theorem dX5_fact_160 : decode cX5_fact 160 = .ok (.getfield 3, 3) := dk_180 0 3 (dk_at dksX5_fact_6 16 rfl rfl)
theorem dX5_fact_163 : decode cX5_fact 163 = .ok (.iconst 0, 1) := dk_3 (dk_at dksX5_fact_6 19 rfl rfl)
theorem dX5_fact_164 : decode cX5_fact 164 = .ok (.aload_n 0, 1) := dk_42 (dk_at dksX5_fact_6 20 rfl rfl)
theorem dX5_fact_165 : decode cX5_fact 165 = .ok (.getfield 23, 3) := dk_180 0 23 (dk_at dksX5_fact_6 21 rfl rfl)
theorem dX5_fact_168 : decode cX5_fact 168 = .ok (.invokevirtual 69, 3) := dk_182 0 69 (dk_at dksX5_fact_7 0 rfl rfl)
theorem dX5_fact_171 : decode cX5_fact 171 = .ok (.athrow, 1) := dk_191 (dk_at dksX5_fact_7 3 rfl rfl)
theorem dX5_fact_172 : decode cX5_fact 172 = .ok (.aload_n 0, 1) := dk_42 (dk_at dksX5_fact_7 4 rfl rfl)
theorem dX5_fact_173 : decode cX5_fact 173 = .ok (.aload_n 0, 1) := dk_42 (dk_at dksX5_fact_7 5 rfl rfl)
theorem dX5_fact_174 : decode cX5_fact 174 = .ok (.getfield 23, 3) := dk_180 0 23 (dk_at dksX5_fact_7 6 rfl rfl)
theorem dX5_fact_177 : decode cX5_fact 177 = .ok (.invokevirtual 89, 3) := dk_182 0 89 (dk_at dksX5_fact_7 9 rfl rfl)
theorem dX5_fact_180 : decode cX5_fact 180 = .ok (.aload_n 0, 1) := dk_42 (dk_at dksX5_fact_7 12 rfl rfl)
theorem dX5_fact_181 : decode cX5_fact 181 = .ok (.dup, 1) := dk_89 (dk_at dksX5_fact_7 13 rfl rfl)
theorem dX5_fact_182 : decode cX5_fact 182 = .ok (.getfield 23, 3) := dk_180 0 23 (dk_at dksX5_fact_7 14 rfl rfl)
theorem dX5_fact_185 : decode cX5_fact 185 = .ok (.iconst 1, 1) := dk_4 (dk_at dksX5_fact_7 17 rfl rfl)
theorem dX5_fact_186 : decode cX5_fact 186 = .ok (.iadd, 1) := dk_96 (dk_at dksX5_fact_7 18 rfl rfl)
theorem dX5_fact_187 : decode cX5_fact 187 = .ok (.putfield 23, 3) := dk_181 0 23 (dk_at dksX5_fact_7 19 rfl rfl)
theorem dX5_fact_190 : decode cX5_fact 190 = .ok (.iload_n 3, 1) := dk_29 (dk_at dksX5_fact_7 22 rfl rfl)
theorem dX5_fact_191 : decode cX5_fact 191 = .ok (.bipush 61, 2) := dk_16 61 (dk_at dksX5_fact_8 0 rfl rfl)
theorem dX5_fact_193 : decode cX5_fact 193 = .ok (.if_icmp .eq 16, 3) := dk_159 0 16 (dk_at dksX5_fact_8 2 rfl rfl)
theorem dX5_fact_196 : decode cX5_fact 196 = .ok (.aload_n 0, 1) := dk_42 (dk_at dksX5_fact_8 5 rfl rfl)
theorem dX5_fact_197 : decode cX5_fact 197 = .ok (.invokevirtual 33, 3) := dk_182 0 33 (dk_at dksX5_fact_8 6 rfl rfl)
theorem dX5_fact_200 : decode cX5_fact 200 = .ok (.bipush 61, 2) := dk_16 61 (dk_at dksX5_fact_8 9 rfl rfl)
theorem dX5_fact_202 : decode cX5_fact 202 = .ok (.if_icmp .ne 7, 3) := dk_160 0 7 (dk_at dksX5_fact_8 11 rfl rfl)
theorem dX5_fact_205 : decode cX5_fact 205 = .ok (.iconst 1, 1) := dk_4 (dk_at dksX5_fact_8 14 rfl rfl)
theorem dX5_fact_206 : decode cX5_fact 206 = .ok (.goto 4, 3) := dk_167 0 4 (dk_at dksX5_fact_8 15 rfl rfl)
theorem dX5_fact_209 : decode cX5_fact 209 = .ok (.iconst 0, 1) := dk_3 (dk_at dksX5_fact_8 18 rfl rfl)
theorem dX5_fact_210 : decode cX5_fact 210 = .ok (.istore 4, 2) := dk_54 4 (dk_at dksX5_fact_8 19 rfl rfl)
theorem dX5_fact_212 : decode cX5_fact 212 = .ok (.aload_n 0, 1) := dk_42 (dk_at dksX5_fact_8 21 rfl rfl)
theorem dX5_fact_213 : decode cX5_fact 213 = .ok (.dup, 1) := dk_89 (dk_at dksX5_fact_8 22 rfl rfl)
theorem dX5_fact_214 : decode cX5_fact 214 = .ok (.getfield 23, 3) := dk_180 0 23 (dk_at dksX5_fact_9 0 rfl rfl)
theorem dX5_fact_217 : decode cX5_fact 217 = .ok (.iload 4, 2) := dk_21 4 (dk_at dksX5_fact_9 3 rfl rfl)
theorem dX5_fact_219 : decode cX5_fact 219 = .ok (.ifCond .eq 7, 3) := dk_153 0 7 (dk_at dksX5_fact_9 5 rfl rfl)
theorem dX5_fact_222 : decode cX5_fact 222 = .ok (.iconst 1, 1) := dk_4 (dk_at dksX5_fact_9 8 rfl rfl)
theorem dX5_fact_223 : decode cX5_fact 223 = .ok (.goto 4, 3) := dk_167 0 4 (dk_at dksX5_fact_9 9 rfl rfl)
theorem dX5_fact_226 : decode cX5_fact 226 = .ok (.iconst 0, 1) := dk_3 (dk_at dksX5_fact_9 12 rfl rfl)
theorem dX5_fact_227 : decode cX5_fact 227 = .ok (.iadd, 1) := dk_96 (dk_at dksX5_fact_9 13 rfl rfl)
theorem dX5_fact_228 : decode cX5_fact 228 = .ok (.putfield 23, 3) := dk_181 0 23 (dk_at dksX5_fact_9 14 rfl rfl)
theorem dX5_fact_231 : decode cX5_fact 231 = .ok (.new 127, 3) := dk_187 0 127 (dk_at dksX5_fact_9 17 rfl rfl)
theorem dX5_fact_234 : decode cX5_fact 234 = .ok (.dup, 1) := dk_89 (dk_at dksX5_fact_9 20 rfl rfl)
theorem dX5_fact_235 : decode cX5_fact 235 = .ok (.aload_n 2, 1) := dk_44 (dk_at dksX5_fact_9 21 rfl rfl)
theorem dX5_fact_236 : decode cX5_fact 236 = .ok (.aload_n 0, 1) := dk_42 (dk_at dksX5_fact_9 22 rfl rfl)
theorem dX5_fact_237 : decode cX5_fact 237 = .ok (.invokevirtual 124, 3) := dk_182 0 124 (dk_at dksX5_fact_10 0 rfl rfl)
theorem dX5_fact_240 : decode cX5_fact 240 = .ok (.iload_n 3, 1) := dk_29 (dk_at dksX5_fact_10 3 rfl rfl)
theorem dX5_fact_241 : decode cX5_fact 241 = .ok (.iload 4, 2) := dk_21 4 (dk_at dksX5_fact_10 4 rfl rfl)
theorem dX5_fact_243 : decode cX5_fact 243 = .ok (.invokespecial 129, 3) := dk_183 0 129 (dk_at dksX5_fact_10 6 rfl rfl)
theorem dX5_fact_246 : decode cX5_fact 246 = .ok (.areturn, 1) := dk_176 (dk_at dksX5_fact_10 9 rfl rfl)
abbrev cX5_goesDeeper : ByteArray := prog_10_method_9_code
def yX5_goesDeeper : MethodName := ⟨RX5, "goesDeeper", "(I)V"⟩
def dkwX5_goesDeeper_1 : List UInt8 := [4, 96, 181, 0, 76, 177]
abbrev dktX5_goesDeeper_1 : List UInt8 := dkwX5_goesDeeper_1 ++ []
def dkwX5_goesDeeper_0 : List UInt8 := [42, 180, 0, 76, 16, 10, 160, 0, 13, 42, 180, 0, 3, 5, 27, 182, 0, 69, 191, 42, 89, 180, 0, 76]
abbrev dktX5_goesDeeper_0 : List UInt8 := dkwX5_goesDeeper_0 ++ dktX5_goesDeeper_1
theorem dksX5_goesDeeper_0 : cX5_goesDeeper.data.toList.drop 0 = dktX5_goesDeeper_0 := by decide +kernel
theorem dksX5_goesDeeper_1 : cX5_goesDeeper.data.toList.drop 24 = dktX5_goesDeeper_1 := dk_seg dksX5_goesDeeper_0 24 rfl rfl
theorem dX5_goesDeeper_0 : decode cX5_goesDeeper 0 = .ok (.aload_n 0, 1) := dk_42 (dk_at dksX5_goesDeeper_0 0 rfl rfl)
theorem dX5_goesDeeper_1 : decode cX5_goesDeeper 1 = .ok (.getfield 76, 3) := dk_180 0 76 (dk_at dksX5_goesDeeper_0 1 rfl rfl)
theorem dX5_goesDeeper_4 : decode cX5_goesDeeper 4 = .ok (.bipush 10, 2) := dk_16 10 (dk_at dksX5_goesDeeper_0 4 rfl rfl)
theorem dX5_goesDeeper_6 : decode cX5_goesDeeper 6 = .ok (.if_icmp .ne 13, 3) := dk_160 0 13 (dk_at dksX5_goesDeeper_0 6 rfl rfl)
theorem dX5_goesDeeper_9 : decode cX5_goesDeeper 9 = .ok (.aload_n 0, 1) := dk_42 (dk_at dksX5_goesDeeper_0 9 rfl rfl)
theorem dX5_goesDeeper_10 : decode cX5_goesDeeper 10 = .ok (.getfield 3, 3) := dk_180 0 3 (dk_at dksX5_goesDeeper_0 10 rfl rfl)
theorem dX5_goesDeeper_13 : decode cX5_goesDeeper 13 = .ok (.iconst 2, 1) := dk_5 (dk_at dksX5_goesDeeper_0 13 rfl rfl)
theorem dX5_goesDeeper_14 : decode cX5_goesDeeper 14 = .ok (.iload_n 1, 1) := dk_27 (dk_at dksX5_goesDeeper_0 14 rfl rfl)
theorem dX5_goesDeeper_15 : decode cX5_goesDeeper 15 = .ok (.invokevirtual 69, 3) := dk_182 0 69 (dk_at dksX5_goesDeeper_0 15 rfl rfl)
theorem dX5_goesDeeper_18 : decode cX5_goesDeeper 18 = .ok (.athrow, 1) := dk_191 (dk_at dksX5_goesDeeper_0 18 rfl rfl)
theorem dX5_goesDeeper_19 : decode cX5_goesDeeper 19 = .ok (.aload_n 0, 1) := dk_42 (dk_at dksX5_goesDeeper_0 19 rfl rfl)
theorem dX5_goesDeeper_20 : decode cX5_goesDeeper 20 = .ok (.dup, 1) := dk_89 (dk_at dksX5_goesDeeper_0 20 rfl rfl)
theorem dX5_goesDeeper_21 : decode cX5_goesDeeper 21 = .ok (.getfield 76, 3) := dk_180 0 76 (dk_at dksX5_goesDeeper_0 21 rfl rfl)
theorem dX5_goesDeeper_24 : decode cX5_goesDeeper 24 = .ok (.iconst 1, 1) := dk_4 (dk_at dksX5_goesDeeper_1 0 rfl rfl)
theorem dX5_goesDeeper_25 : decode cX5_goesDeeper 25 = .ok (.iadd, 1) := dk_96 (dk_at dksX5_goesDeeper_1 1 rfl rfl)
theorem dX5_goesDeeper_26 : decode cX5_goesDeeper 26 = .ok (.putfield 76, 3) := dk_181 0 76 (dk_at dksX5_goesDeeper_1 2 rfl rfl)
theorem dX5_goesDeeper_29 : decode cX5_goesDeeper 29 = .ok (.return_, 1) := dk_177 (dk_at dksX5_goesDeeper_1 5 rfl rfl)
theorem q140 : (Jvm.Cond.initialized "SweptSnow$Parser") ∈ lw_all := lw_g (lw_at lw_m1 11 rfl) rfl
theorem q210 : (Jvm.Cond.fieldLinkNest "SweptSnow$Parser" (155 : Nat) "SweptSnow$Valley" "houses" "Ljava/util/ArrayList;" "SweptSnow") ∈ lw_tbl := lw_at lw_m1 81 rfl
theorem q213 : (Jvm.Cond.fieldLinkNest "SweptSnow$Parser" (196 : Nat) "SweptSnow$Valley" "steps" "Ljava/util/ArrayList;" "SweptSnow") ∈ lw_tbl := lw_at lw_m1 84 rfl
theorem q216 : (Jvm.Cond.fieldLinkNest "SweptSnow$Parser" (174 : Nat) "SweptSnow$Valley" "beside" "[I" "SweptSnow") ∈ lw_tbl := lw_at lw_m1 87 rfl
theorem q219 : (Jvm.Cond.fieldLinkNest "SweptSnow$Parser" (178 : Nat) "SweptSnow$Valley" "walls" "[I" "SweptSnow") ∈ lw_tbl := lw_at lw_m1 90 rfl
theorem q222 : (Jvm.Cond.fieldLinkNest "SweptSnow$Parser" (181 : Nat) "SweptSnow$Valley" "needed" "[I" "SweptSnow") ∈ lw_tbl := lw_at lw_m1 93 rfl
theorem q225 : (Jvm.Cond.fieldLinkNest "SweptSnow$Parser" (184 : Nat) "SweptSnow$Valley" "fall" "I" "SweptSnow") ∈ lw_tbl := lw_at lw_m1 96 rfl
theorem q228 : (Jvm.Cond.fieldLinkNest "SweptSnow$Parser" (193 : Nat) "SweptSnow$Valley" "deep" "I" "SweptSnow") ∈ lw_tbl := lw_at lw_m1 99 rfl
theorem q351 : (Jvm.Cond.fieldLinkNest "SweptSnow$Parser" (248 : Nat) "SweptSnow" "rules" "Ljava/util/ArrayList;" "SweptSnow") ∈ lw_tbl := lw_at lw_m1 222 rfl
theorem q355 : (Jvm.Cond.fieldLinkNest "SweptSnow$Parser" (29 : Nat) "SweptSnow" "tape" "[B" "SweptSnow") ∈ lw_tbl := lw_at lw_m1 226 rfl
theorem q357 : (Jvm.Cond.fieldLinkNest "SweptSnow$Parser" (26 : Nat) "SweptSnow" "taped" "I" "SweptSnow") ∈ lw_tbl := lw_at lw_m1 228 rfl
theorem q458 : (Jvm.Cond.instantiable "SweptSnow$Parser" (7 : Nat)) ∈ lw_all := lw_g (lw_at lw_m2 89 rfl) rfl
theorem q460 : (Jvm.Cond.instanceMethod ({ cls := "SweptSnow$Parser", name := "<init>", desc := "(LSweptSnow;[Ljava/lang/String;I)V" } : Jvm.MethodName)) ∈ lw_all := lw_g (lw_at lw_m2 91 rfl) rfl
theorem q461 : (Jvm.Cond.code ({ cls := "SweptSnow$Parser", name := "<init>", desc := "(LSweptSnow;[Ljava/lang/String;I)V" } : Jvm.MethodName) prog_10_method_1_code (4 : Nat) (Option.none : Option Jvm.ClassFile.FieldType)) ∈ lw_all := lw_g (lw_at lw_m2 92 rfl) rfl
theorem q462 : (Jvm.Cond.methodLink "SweptSnow$Parser" (9 : Nat) ({ cls := "java/lang/Object", name := "<init>", desc := "()V" } : Jvm.MethodName)) ∈ lw_all := lw_g (lw_at lw_m2 93 rfl) rfl
theorem q463 : (Jvm.Cond.fieldLink "SweptSnow$Parser" (15 : Nat) "SweptSnow$Parser" "names" "[Ljava/lang/String;") ∈ lw_all := lw_g (lw_at lw_m2 94 rfl) rfl
theorem q464 : (Jvm.Cond.fieldLink "SweptSnow$Parser" (23 : Nat) "SweptSnow$Parser" "at" "I") ∈ lw_all := lw_g (lw_at lw_m2 95 rfl) rfl
theorem q465 : (Jvm.Cond.fieldLink "SweptSnow$Parser" (76 : Nat) "SweptSnow$Parser" "deep" "I") ∈ lw_all := lw_g (lw_at lw_m2 96 rfl) rfl
theorem q466 : (Jvm.Cond.fieldLink "SweptSnow$Parser" (73 : Nat) "SweptSnow$Parser" "counted" "I") ∈ lw_all := lw_g (lw_at lw_m2 97 rfl) rfl
theorem q467 : (Jvm.Cond.fieldLink "SweptSnow$Parser" (147 : Nat) "SweptSnow$Parser" "clauses" "I") ∈ lw_all := lw_g (lw_at lw_m2 98 rfl) rfl
theorem q468 : (Jvm.Cond.fieldLink "SweptSnow$Parser" (19 : Nat) "SweptSnow$Parser" "most" "I") ∈ lw_all := lw_g (lw_at lw_m2 99 rfl) rfl
theorem q469 : (Jvm.Cond.fieldLink "SweptSnow$Parser" (3 : Nat) "SweptSnow$Parser" "this$0" "LSweptSnow;") ∈ lw_all := lw_g (lw_at lw_m2 100 rfl) rfl
theorem q470 : (Jvm.Cond.laysFinal "SweptSnow$Parser" "SweptSnow$Parser" "names" "[Ljava/lang/String;") ∈ lw_all := lw_g (lw_at lw_m2 101 rfl) rfl
theorem q471 : (Jvm.Cond.soleField "SweptSnow$Parser" "names") ∈ lw_all := lw_g (lw_at lw_m2 102 rfl) rfl
theorem q472 : (Jvm.Cond.lays "SweptSnow$Parser" "SweptSnow$Parser" "at" "I") ∈ lw_all := lw_g (lw_at lw_m2 103 rfl) rfl
theorem q473 : (Jvm.Cond.soleField "SweptSnow$Parser" "at") ∈ lw_all := lw_g (lw_at lw_m2 104 rfl) rfl
theorem q474 : (Jvm.Cond.lays "SweptSnow$Parser" "SweptSnow$Parser" "deep" "I") ∈ lw_all := lw_g (lw_at lw_m2 105 rfl) rfl
theorem q475 : (Jvm.Cond.soleField "SweptSnow$Parser" "deep") ∈ lw_all := lw_g (lw_at lw_m2 106 rfl) rfl
theorem q476 : (Jvm.Cond.lays "SweptSnow$Parser" "SweptSnow$Parser" "counted" "I") ∈ lw_all := lw_g (lw_at lw_m2 107 rfl) rfl
theorem q477 : (Jvm.Cond.soleField "SweptSnow$Parser" "counted") ∈ lw_all := lw_g (lw_at lw_m2 108 rfl) rfl
theorem q478 : (Jvm.Cond.lays "SweptSnow$Parser" "SweptSnow$Parser" "clauses" "I") ∈ lw_all := lw_g (lw_at lw_m2 109 rfl) rfl
theorem q479 : (Jvm.Cond.soleField "SweptSnow$Parser" "clauses") ∈ lw_all := lw_g (lw_at lw_m2 110 rfl) rfl
theorem q480 : (Jvm.Cond.laysFinal "SweptSnow$Parser" "SweptSnow$Parser" "most" "I") ∈ lw_all := lw_g (lw_at lw_m2 111 rfl) rfl
theorem q481 : (Jvm.Cond.soleField "SweptSnow$Parser" "most") ∈ lw_all := lw_g (lw_at lw_m2 112 rfl) rfl
theorem q482 : (Jvm.Cond.laysFinal "SweptSnow$Parser" "SweptSnow$Parser" "this$0" "LSweptSnow;") ∈ lw_all := lw_g (lw_at lw_m2 113 rfl) rfl
theorem q483 : (Jvm.Cond.soleField "SweptSnow$Parser" "this$0") ∈ lw_all := lw_g (lw_at lw_m2 114 rfl) rfl
theorem q484 : (Jvm.Cond.superclass "SweptSnow$Parser" "java/lang/Object") ∈ lw_all := lw_g (lw_at lw_m2 115 rfl) rfl
theorem q486 : (Jvm.Cond.instanceMethod ({ cls := "SweptSnow$Parser", name := "valley", desc := "()LSweptSnow$Valley;" } : Jvm.MethodName)) ∈ lw_all := lw_g (lw_at lw_m2 117 rfl) rfl
theorem q487 : (Jvm.Cond.selects "SweptSnow$Parser" ({ cls := "SweptSnow$Parser", name := "valley", desc := "()LSweptSnow$Valley;" } : Jvm.MethodName) ({ cls := "SweptSnow$Parser", name := "valley", desc := "()LSweptSnow$Valley;" } : Jvm.MethodName)) ∈ lw_all := lw_g (lw_at lw_m2 118 rfl) rfl
theorem q488 : (Jvm.Cond.code ({ cls := "SweptSnow$Parser", name := "valley", desc := "()LSweptSnow$Valley;" } : Jvm.MethodName) prog_10_method_25_code (2 : Nat) (Option.some (Jvm.ClassFile.FieldType.object "SweptSnow$Valley"))) ∈ lw_all := lw_g (lw_at lw_m2 119 rfl) rfl
theorem q489 : (Jvm.Cond.classLink "SweptSnow$Parser" (151 : Nat) "SweptSnow$Valley") ∈ lw_all := lw_g (lw_at lw_m2 120 rfl) rfl
theorem q490 : (Jvm.Cond.methodLink "SweptSnow$Parser" (237 : Nat) ({ cls := "SweptSnow$Valley", name := "<init>", desc := "()V" } : Jvm.MethodName)) ∈ lw_all := lw_g (lw_at lw_m2 121 rfl) rfl
theorem q491 : (Jvm.Cond.methodLink "SweptSnow$Parser" (238 : Nat) ({ cls := "SweptSnow$Parser", name := "clause", desc := "(LSweptSnow$Valley;)V" } : Jvm.MethodName)) ∈ lw_all := lw_g (lw_at lw_m2 122 rfl) rfl
theorem q492 : (Jvm.Cond.privateMethod ({ cls := "SweptSnow$Parser", name := "clause", desc := "(LSweptSnow$Valley;)V" } : Jvm.MethodName)) ∈ lw_tbl := lw_at lw_m2 123 rfl
theorem q493 : (Jvm.Cond.instanceMethod ({ cls := "SweptSnow$Parser", name := "clause", desc := "(LSweptSnow$Valley;)V" } : Jvm.MethodName)) ∈ lw_all := lw_g (lw_at lw_m2 124 rfl) rfl
theorem q494 : (Jvm.Cond.code ({ cls := "SweptSnow$Parser", name := "clause", desc := "(LSweptSnow$Valley;)V" } : Jvm.MethodName) prog_10_method_22_code (4 : Nat) (Option.none : Option Jvm.ClassFile.FieldType)) ∈ lw_all := lw_g (lw_at lw_m2 125 rfl) rfl
theorem q495 : (Jvm.Cond.stringRef "SweptSnow$Parser" (187 : Nat) "valley") ∈ lw_tbl := lw_at lw_m2 126 rfl
theorem q496 : (Jvm.Cond.methodLink "SweptSnow$Parser" (189 : Nat) ({ cls := "SweptSnow$Parser", name := "begins", desc := "(Ljava/lang/String;Z)Z" } : Jvm.MethodName)) ∈ lw_all := lw_g (lw_at lw_m2 127 rfl) rfl
theorem q497 : (Jvm.Cond.privateMethod ({ cls := "SweptSnow$Parser", name := "begins", desc := "(Ljava/lang/String;Z)Z" } : Jvm.MethodName)) ∈ lw_tbl := lw_at lw_m2 128 rfl
theorem q498 : (Jvm.Cond.instanceMethod ({ cls := "SweptSnow$Parser", name := "begins", desc := "(Ljava/lang/String;Z)Z" } : Jvm.MethodName)) ∈ lw_all := lw_g (lw_at lw_m2 129 rfl) rfl
theorem q499 : (Jvm.Cond.code ({ cls := "SweptSnow$Parser", name := "begins", desc := "(Ljava/lang/String;Z)Z" } : Jvm.MethodName) prog_10_method_16_code (3 : Nat) (Option.some Jvm.ClassFile.FieldType.boolean)) ∈ lw_all := lw_g (lw_at lw_m2 130 rfl) rfl
theorem q500 : (Jvm.Cond.methodLink "SweptSnow$Parser" (61 : Nat) ({ cls := "SweptSnow$Parser", name := "isWord", desc := "(Ljava/lang/String;)Z" } : Jvm.MethodName)) ∈ lw_all := lw_g (lw_at lw_m2 131 rfl) rfl
theorem q501 : (Jvm.Cond.privateMethod ({ cls := "SweptSnow$Parser", name := "isWord", desc := "(Ljava/lang/String;)Z" } : Jvm.MethodName)) ∈ lw_tbl := lw_at lw_m2 132 rfl
theorem q502 : (Jvm.Cond.instanceMethod ({ cls := "SweptSnow$Parser", name := "isWord", desc := "(Ljava/lang/String;)Z" } : Jvm.MethodName)) ∈ lw_all := lw_g (lw_at lw_m2 133 rfl) rfl
theorem q503 : (Jvm.Cond.code ({ cls := "SweptSnow$Parser", name := "isWord", desc := "(Ljava/lang/String;)Z" } : Jvm.MethodName) prog_10_method_5_code (5 : Nat) (Option.some Jvm.ClassFile.FieldType.boolean)) ∈ lw_all := lw_g (lw_at lw_m2 134 rfl) rfl
theorem q504 : (Jvm.Cond.methodLink "SweptSnow$Parser" (45 : Nat) ({ cls := "SweptSnow$Parser", name := "next", desc := "()I" } : Jvm.MethodName)) ∈ lw_all := lw_g (lw_at lw_m2 135 rfl) rfl
theorem q505 : (Jvm.Cond.privateMethod ({ cls := "SweptSnow$Parser", name := "next", desc := "()I" } : Jvm.MethodName)) ∈ lw_tbl := lw_at lw_m2 136 rfl
theorem q506 : (Jvm.Cond.instanceMethod ({ cls := "SweptSnow$Parser", name := "next", desc := "()I" } : Jvm.MethodName)) ∈ lw_all := lw_g (lw_at lw_m2 137 rfl) rfl
theorem q507 : (Jvm.Cond.code ({ cls := "SweptSnow$Parser", name := "next", desc := "()I" } : Jvm.MethodName) prog_10_method_3_code (1 : Nat) (Option.some Jvm.ClassFile.FieldType.int)) ∈ lw_all := lw_g (lw_at lw_m2 138 rfl) rfl
theorem q508 : (Jvm.Cond.methodLink "SweptSnow$Parser" (33 : Nat) ({ cls := "SweptSnow$Parser", name := "sign", desc := "()I" } : Jvm.MethodName)) ∈ lw_all := lw_g (lw_at lw_m2 139 rfl) rfl
theorem q509 : (Jvm.Cond.privateMethod ({ cls := "SweptSnow$Parser", name := "sign", desc := "()I" } : Jvm.MethodName)) ∈ lw_tbl := lw_at lw_m2 140 rfl
theorem q510 : (Jvm.Cond.instanceMethod ({ cls := "SweptSnow$Parser", name := "sign", desc := "()I" } : Jvm.MethodName)) ∈ lw_all := lw_g (lw_at lw_m2 141 rfl) rfl
theorem q511 : (Jvm.Cond.code ({ cls := "SweptSnow$Parser", name := "sign", desc := "()I" } : Jvm.MethodName) prog_10_method_2_code (1 : Nat) (Option.some Jvm.ClassFile.FieldType.int)) ∈ lw_all := lw_g (lw_at lw_m2 142 rfl) rfl
theorem q512 : (Jvm.Cond.constantLong "SweptSnow$Parser" (48 : Nat) (97 : Int64)) ∈ lw_all := lw_g (lw_at lw_m2 143 rfl) rfl
theorem q513 : (Jvm.Cond.constantLong "SweptSnow$Parser" (50 : Nat) (122 : Int64)) ∈ lw_all := lw_g (lw_at lw_m2 144 rfl) rfl
theorem q514 : (Jvm.Cond.methodLinkNest "SweptSnow$Parser" (41 : Nat) ({ cls := "SweptSnow", name := "in", desc := "(JJJ)Z" } : Jvm.MethodName) "SweptSnow") ∈ lw_tbl := lw_at lw_m2 145 rfl
theorem q517 : (Jvm.Cond.methodLink "SweptSnow$Parser" (52 : Nat) ({ cls := "java/lang/String", name := "length", desc := "()I" } : Jvm.MethodName)) ∈ lw_all := lw_g (lw_at lw_m2 148 rfl) rfl
theorem q527 : (Jvm.Cond.methodLink "SweptSnow$Parser" (57 : Nat) ({ cls := "java/lang/String", name := "charAt", desc := "(I)C" } : Jvm.MethodName)) ∈ lw_all := lw_g (lw_at lw_m2 158 rfl) rfl
theorem q565 : (Jvm.Cond.methodLinkNest "SweptSnow$Parser" (69 : Nat) ({ cls := "SweptSnow", name := "fails", desc := "(II)LSweptSnow$Wrong;" } : Jvm.MethodName) "SweptSnow") ∈ lw_tbl := lw_at lw_m2 196 rfl
theorem q569 : (Jvm.Cond.methodLink "SweptSnow$Parser" (82 : Nat) ({ cls := "SweptSnow$Parser", name := "number", desc := "(II)I" } : Jvm.MethodName)) ∈ lw_all := lw_g (lw_at lw_m2 200 rfl) rfl
theorem q570 : (Jvm.Cond.privateMethod ({ cls := "SweptSnow$Parser", name := "number", desc := "(II)I" } : Jvm.MethodName)) ∈ lw_tbl := lw_at lw_m2 201 rfl
theorem q571 : (Jvm.Cond.instanceMethod ({ cls := "SweptSnow$Parser", name := "number", desc := "(II)I" } : Jvm.MethodName)) ∈ lw_all := lw_g (lw_at lw_m2 202 rfl) rfl
theorem q572 : (Jvm.Cond.code ({ cls := "SweptSnow$Parser", name := "number", desc := "(II)I" } : Jvm.MethodName) prog_10_method_7_code (5 : Nat) (Option.some Jvm.ClassFile.FieldType.int)) ∈ lw_all := lw_g (lw_at lw_m2 203 rfl) rfl
theorem q573 : (Jvm.Cond.methodLink "SweptSnow$Parser" (65 : Nat) ({ cls := "SweptSnow$Parser", name := "isDigit", desc := "()Z" } : Jvm.MethodName)) ∈ lw_all := lw_g (lw_at lw_m2 204 rfl) rfl
theorem q574 : (Jvm.Cond.privateMethod ({ cls := "SweptSnow$Parser", name := "isDigit", desc := "()Z" } : Jvm.MethodName)) ∈ lw_tbl := lw_at lw_m2 205 rfl
theorem q575 : (Jvm.Cond.instanceMethod ({ cls := "SweptSnow$Parser", name := "isDigit", desc := "()Z" } : Jvm.MethodName)) ∈ lw_all := lw_g (lw_at lw_m2 206 rfl) rfl
theorem q576 : (Jvm.Cond.code ({ cls := "SweptSnow$Parser", name := "isDigit", desc := "()Z" } : Jvm.MethodName) prog_10_method_4_code (1 : Nat) (Option.some Jvm.ClassFile.FieldType.boolean)) ∈ lw_all := lw_g (lw_at lw_m2 207 rfl) rfl
theorem q577 : (Jvm.Cond.constantLong "SweptSnow$Parser" (37 : Nat) (48 : Int64)) ∈ lw_all := lw_g (lw_at lw_m2 208 rfl) rfl
theorem q578 : (Jvm.Cond.constantLong "SweptSnow$Parser" (39 : Nat) (57 : Int64)) ∈ lw_all := lw_g (lw_at lw_m2 209 rfl) rfl
theorem q579 : (Jvm.Cond.stringRef "SweptSnow$Parser" (194 : Nat) "step") ∈ lw_tbl := lw_at lw_m2 210 rfl
theorem q580 : (Jvm.Cond.methodLink "SweptSnow$Parser" (150 : Nat) ({ cls := "SweptSnow$Valley", name := "steps", desc := "()I" } : Jvm.MethodName)) ∈ lw_all := lw_g (lw_at lw_m2 211 rfl) rfl
theorem q588 : (Jvm.Cond.methodLink "SweptSnow$Parser" (198 : Nat) ({ cls := "java/lang/Integer", name := "valueOf", desc := "(I)Ljava/lang/Integer;" } : Jvm.MethodName)) ∈ lw_all := lw_g (lw_at lw_m2 219 rfl) rfl
theorem q608 : (Jvm.Cond.methodLink "SweptSnow$Parser" (164 : Nat) ({ cls := "java/util/ArrayList", name := "add", desc := "(Ljava/lang/Object;)Z" } : Jvm.MethodName)) ∈ lw_all := lw_g (lw_at lw_m2 239 rfl) rfl
theorem q650 : (Jvm.Cond.selects "SweptSnow$Parser" ({ cls := "java/lang/Object", name := "getClass", desc := "()Ljava/lang/Class;" } : Jvm.MethodName) ({ cls := "java/lang/Object", name := "getClass", desc := "()Ljava/lang/Class;" } : Jvm.MethodName)) ∈ lw_all := lw_g (lw_at lw_m3 41 rfl) rfl
theorem q673 : (Jvm.Cond.stringRef "SweptSnow$Parser" (204 : Nat) "house") ∈ lw_tbl := lw_at lw_m3 64 rfl
theorem q674 : (Jvm.Cond.methodLink "SweptSnow$Parser" (206 : Nat) ({ cls := "SweptSnow$Valley", name := "houses", desc := "()I" } : Jvm.MethodName)) ∈ lw_all := lw_g (lw_at lw_m3 65 rfl) rfl
theorem q678 : (Jvm.Cond.methodLink "SweptSnow$Parser" (208 : Nat) ({ cls := "SweptSnow$Parser", name := "house", desc := "(LSweptSnow$Valley;)V" } : Jvm.MethodName)) ∈ lw_all := lw_g (lw_at lw_m3 69 rfl) rfl
theorem q679 : (Jvm.Cond.privateMethod ({ cls := "SweptSnow$Parser", name := "house", desc := "(LSweptSnow$Valley;)V" } : Jvm.MethodName)) ∈ lw_tbl := lw_at lw_m3 70 rfl
theorem q680 : (Jvm.Cond.instanceMethod ({ cls := "SweptSnow$Parser", name := "house", desc := "(LSweptSnow$Valley;)V" } : Jvm.MethodName)) ∈ lw_all := lw_g (lw_at lw_m3 71 rfl) rfl
theorem q681 : (Jvm.Cond.code ({ cls := "SweptSnow$Parser", name := "house", desc := "(LSweptSnow$Valley;)V" } : Jvm.MethodName) prog_10_method_18_code (3 : Nat) (Option.none : Option Jvm.ClassFile.FieldType)) ∈ lw_all := lw_g (lw_at lw_m3 72 rfl) rfl
theorem q682 : (Jvm.Cond.classLink "SweptSnow$Parser" (159 : Nat) "SweptSnow$House") ∈ lw_all := lw_g (lw_at lw_m3 73 rfl) rfl
theorem q684 : (Jvm.Cond.methodLinkNest "SweptSnow$Parser" (161 : Nat) ({ cls := "SweptSnow$House", name := "<init>", desc := "(II)V" } : Jvm.MethodName) "SweptSnow") ∈ lw_tbl := lw_at lw_m3 75 rfl
theorem q700 : (Jvm.Cond.stringRef "SweptSnow$Parser" (211 : Nat) "path") ∈ lw_tbl := lw_at lw_m3 91 rfl
theorem q701 : (Jvm.Cond.methodLink "SweptSnow$Parser" (213 : Nat) ({ cls := "SweptSnow$Parser", name := "path", desc := "(LSweptSnow$Valley;)V" } : Jvm.MethodName)) ∈ lw_all := lw_g (lw_at lw_m3 92 rfl) rfl
theorem q702 : (Jvm.Cond.privateMethod ({ cls := "SweptSnow$Parser", name := "path", desc := "(LSweptSnow$Valley;)V" } : Jvm.MethodName)) ∈ lw_tbl := lw_at lw_m3 93 rfl
theorem q703 : (Jvm.Cond.instanceMethod ({ cls := "SweptSnow$Parser", name := "path", desc := "(LSweptSnow$Valley;)V" } : Jvm.MethodName)) ∈ lw_all := lw_g (lw_at lw_m3 94 rfl) rfl
theorem q704 : (Jvm.Cond.code ({ cls := "SweptSnow$Parser", name := "path", desc := "(LSweptSnow$Valley;)V" } : Jvm.MethodName) prog_10_method_19_code (4 : Nat) (Option.none : Option Jvm.ClassFile.FieldType)) ∈ lw_all := lw_g (lw_at lw_m3 95 rfl) rfl
theorem q705 : (Jvm.Cond.methodLink "SweptSnow$Parser" (170 : Nat) ({ cls := "SweptSnow$Parser", name := "other", desc := "(LSweptSnow$Valley;I)I" } : Jvm.MethodName)) ∈ lw_all := lw_g (lw_at lw_m3 96 rfl) rfl
theorem q706 : (Jvm.Cond.privateMethod ({ cls := "SweptSnow$Parser", name := "other", desc := "(LSweptSnow$Valley;I)I" } : Jvm.MethodName)) ∈ lw_tbl := lw_at lw_m3 97 rfl
theorem q707 : (Jvm.Cond.instanceMethod ({ cls := "SweptSnow$Parser", name := "other", desc := "(LSweptSnow$Valley;I)I" } : Jvm.MethodName)) ∈ lw_all := lw_g (lw_at lw_m3 98 rfl) rfl
theorem q708 : (Jvm.Cond.code ({ cls := "SweptSnow$Parser", name := "other", desc := "(LSweptSnow$Valley;I)I" } : Jvm.MethodName) prog_10_method_17_code (5 : Nat) (Option.some Jvm.ClassFile.FieldType.int)) ∈ lw_all := lw_g (lw_at lw_m3 99 rfl) rfl
theorem q709 : (Jvm.Cond.stringRef "SweptSnow$Parser" (215 : Nat) "wall") ∈ lw_tbl := lw_at lw_m3 100 rfl
theorem q710 : (Jvm.Cond.methodLink "SweptSnow$Parser" (217 : Nat) ({ cls := "SweptSnow$Parser", name := "wall", desc := "(LSweptSnow$Valley;)V" } : Jvm.MethodName)) ∈ lw_all := lw_g (lw_at lw_m3 101 rfl) rfl
theorem q711 : (Jvm.Cond.privateMethod ({ cls := "SweptSnow$Parser", name := "wall", desc := "(LSweptSnow$Valley;)V" } : Jvm.MethodName)) ∈ lw_tbl := lw_at lw_m3 102 rfl
theorem q712 : (Jvm.Cond.instanceMethod ({ cls := "SweptSnow$Parser", name := "wall", desc := "(LSweptSnow$Valley;)V" } : Jvm.MethodName)) ∈ lw_all := lw_g (lw_at lw_m3 103 rfl) rfl
theorem q713 : (Jvm.Cond.code ({ cls := "SweptSnow$Parser", name := "wall", desc := "(LSweptSnow$Valley;)V" } : Jvm.MethodName) prog_10_method_20_code (3 : Nat) (Option.none : Option Jvm.ClassFile.FieldType)) ∈ lw_all := lw_g (lw_at lw_m3 104 rfl) rfl
theorem q714 : (Jvm.Cond.stringRef "SweptSnow$Parser" (219 : Nat) "need") ∈ lw_tbl := lw_at lw_m3 105 rfl
theorem q715 : (Jvm.Cond.methodLink "SweptSnow$Parser" (221 : Nat) ({ cls := "SweptSnow$Parser", name := "need", desc := "(LSweptSnow$Valley;)V" } : Jvm.MethodName)) ∈ lw_all := lw_g (lw_at lw_m3 106 rfl) rfl
theorem q716 : (Jvm.Cond.privateMethod ({ cls := "SweptSnow$Parser", name := "need", desc := "(LSweptSnow$Valley;)V" } : Jvm.MethodName)) ∈ lw_tbl := lw_at lw_m3 107 rfl
theorem q717 : (Jvm.Cond.instanceMethod ({ cls := "SweptSnow$Parser", name := "need", desc := "(LSweptSnow$Valley;)V" } : Jvm.MethodName)) ∈ lw_all := lw_g (lw_at lw_m3 108 rfl) rfl
theorem q718 : (Jvm.Cond.code ({ cls := "SweptSnow$Parser", name := "need", desc := "(LSweptSnow$Valley;)V" } : Jvm.MethodName) prog_10_method_21_code (3 : Nat) (Option.none : Option Jvm.ClassFile.FieldType)) ∈ lw_all := lw_g (lw_at lw_m3 109 rfl) rfl
theorem q719 : (Jvm.Cond.methodLink "SweptSnow$Parser" (241 : Nat) ({ cls := "SweptSnow$Parser", name := "goesOn", desc := "()Z" } : Jvm.MethodName)) ∈ lw_all := lw_g (lw_at lw_m3 110 rfl) rfl
theorem q720 : (Jvm.Cond.privateMethod ({ cls := "SweptSnow$Parser", name := "goesOn", desc := "()Z" } : Jvm.MethodName)) ∈ lw_tbl := lw_at lw_m3 111 rfl
theorem q721 : (Jvm.Cond.instanceMethod ({ cls := "SweptSnow$Parser", name := "goesOn", desc := "()Z" } : Jvm.MethodName)) ∈ lw_all := lw_g (lw_at lw_m3 112 rfl) rfl
theorem q722 : (Jvm.Cond.code ({ cls := "SweptSnow$Parser", name := "goesOn", desc := "()Z" } : Jvm.MethodName) prog_10_method_24_code (2 : Nat) (Option.some Jvm.ClassFile.FieldType.boolean)) ∈ lw_all := lw_g (lw_at lw_m3 113 rfl) rfl
theorem q752 : (Jvm.Cond.instanceMethod ({ cls := "SweptSnow$Parser", name := "rule", desc := "()I" } : Jvm.MethodName)) ∈ lw_all := lw_g (lw_at lw_m3 143 rfl) rfl
theorem q753 : (Jvm.Cond.selects "SweptSnow$Parser" ({ cls := "SweptSnow$Parser", name := "rule", desc := "()I" } : Jvm.MethodName) ({ cls := "SweptSnow$Parser", name := "rule", desc := "()I" } : Jvm.MethodName)) ∈ lw_all := lw_g (lw_at lw_m3 144 rfl) rfl
theorem q754 : (Jvm.Cond.code ({ cls := "SweptSnow$Parser", name := "rule", desc := "()I" } : Jvm.MethodName) prog_10_method_26_code (2 : Nat) (Option.some Jvm.ClassFile.FieldType.int)) ∈ lw_all := lw_g (lw_at lw_m3 145 rfl) rfl
theorem q755 : (Jvm.Cond.classLink "SweptSnow$Parser" (226 : Nat) "SweptSnow$Rule") ∈ lw_all := lw_g (lw_at lw_m3 146 rfl) rfl
theorem q757 : (Jvm.Cond.methodLinkNest "SweptSnow$Parser" (244 : Nat) ({ cls := "SweptSnow$Rule", name := "<init>", desc := "()V" } : Jvm.MethodName) "SweptSnow") ∈ lw_tbl := lw_at lw_m3 148 rfl
theorem q764 : (Jvm.Cond.fieldLinkNest "SweptSnow$Parser" (225 : Nat) "SweptSnow$Rule" "all" "Ljava/util/ArrayList;" "SweptSnow") ∈ lw_tbl := lw_at lw_m3 155 rfl
theorem q768 : (Jvm.Cond.methodLink "SweptSnow$Parser" (245 : Nat) ({ cls := "SweptSnow$Parser", name := "clause", desc := "(LSweptSnow$Rule;)V" } : Jvm.MethodName)) ∈ lw_all := lw_g (lw_at lw_m3 159 rfl) rfl
theorem q769 : (Jvm.Cond.privateMethod ({ cls := "SweptSnow$Parser", name := "clause", desc := "(LSweptSnow$Rule;)V" } : Jvm.MethodName)) ∈ lw_tbl := lw_at lw_m3 160 rfl
theorem q770 : (Jvm.Cond.instanceMethod ({ cls := "SweptSnow$Parser", name := "clause", desc := "(LSweptSnow$Rule;)V" } : Jvm.MethodName)) ∈ lw_all := lw_g (lw_at lw_m3 161 rfl) rfl
theorem q771 : (Jvm.Cond.code ({ cls := "SweptSnow$Parser", name := "clause", desc := "(LSweptSnow$Rule;)V" } : Jvm.MethodName) prog_10_method_23_code (3 : Nat) (Option.none : Option Jvm.ClassFile.FieldType)) ∈ lw_all := lw_g (lw_at lw_m3 162 rfl) rfl
theorem q772 : (Jvm.Cond.stringRef "SweptSnow$Parser" (223 : Nat) "sweep") ∈ lw_tbl := lw_at lw_m3 163 rfl
theorem q773 : (Jvm.Cond.methodLink "SweptSnow$Parser" (124 : Nat) ({ cls := "SweptSnow$Parser", name := "sum", desc := "()LSweptSnow$Value;" } : Jvm.MethodName)) ∈ lw_all := lw_g (lw_at lw_m3 164 rfl) rfl
theorem q774 : (Jvm.Cond.privateMethod ({ cls := "SweptSnow$Parser", name := "sum", desc := "()LSweptSnow$Value;" } : Jvm.MethodName)) ∈ lw_tbl := lw_at lw_m3 165 rfl
theorem q775 : (Jvm.Cond.instanceMethod ({ cls := "SweptSnow$Parser", name := "sum", desc := "()LSweptSnow$Value;" } : Jvm.MethodName)) ∈ lw_all := lw_g (lw_at lw_m3 166 rfl) rfl
theorem q776 : (Jvm.Cond.code ({ cls := "SweptSnow$Parser", name := "sum", desc := "()LSweptSnow$Value;" } : Jvm.MethodName) prog_10_method_12_code (3 : Nat) (Option.some (Jvm.ClassFile.FieldType.object "SweptSnow$Value"))) ∈ lw_all := lw_g (lw_at lw_m3 167 rfl) rfl
theorem q777 : (Jvm.Cond.methodLink "SweptSnow$Parser" (104 : Nat) ({ cls := "SweptSnow$Parser", name := "term", desc := "()LSweptSnow$Value;" } : Jvm.MethodName)) ∈ lw_all := lw_g (lw_at lw_m3 168 rfl) rfl
theorem q778 : (Jvm.Cond.privateMethod ({ cls := "SweptSnow$Parser", name := "term", desc := "()LSweptSnow$Value;" } : Jvm.MethodName)) ∈ lw_tbl := lw_at lw_m3 169 rfl
theorem q779 : (Jvm.Cond.instanceMethod ({ cls := "SweptSnow$Parser", name := "term", desc := "()LSweptSnow$Value;" } : Jvm.MethodName)) ∈ lw_all := lw_g (lw_at lw_m3 170 rfl) rfl
theorem q780 : (Jvm.Cond.code ({ cls := "SweptSnow$Parser", name := "term", desc := "()LSweptSnow$Value;" } : Jvm.MethodName) prog_10_method_11_code (3 : Nat) (Option.some (Jvm.ClassFile.FieldType.object "SweptSnow$Value"))) ∈ lw_all := lw_g (lw_at lw_m3 171 rfl) rfl
theorem q781 : (Jvm.Cond.methodLink "SweptSnow$Parser" (95 : Nat) ({ cls := "SweptSnow$Parser", name := "value", desc := "()LSweptSnow$Value;" } : Jvm.MethodName)) ∈ lw_all := lw_g (lw_at lw_m3 172 rfl) rfl
theorem q782 : (Jvm.Cond.privateMethod ({ cls := "SweptSnow$Parser", name := "value", desc := "()LSweptSnow$Value;" } : Jvm.MethodName)) ∈ lw_tbl := lw_at lw_m3 173 rfl
theorem q783 : (Jvm.Cond.instanceMethod ({ cls := "SweptSnow$Parser", name := "value", desc := "()LSweptSnow$Value;" } : Jvm.MethodName)) ∈ lw_all := lw_g (lw_at lw_m3 174 rfl) rfl
theorem q784 : (Jvm.Cond.code ({ cls := "SweptSnow$Parser", name := "value", desc := "()LSweptSnow$Value;" } : Jvm.MethodName) prog_10_method_10_code (3 : Nat) (Option.some (Jvm.ClassFile.FieldType.object "SweptSnow$Value"))) ∈ lw_all := lw_g (lw_at lw_m3 175 rfl) rfl
theorem q785 : (Jvm.Cond.classLink "SweptSnow$Parser" (79 : Nat) "SweptSnow$Plain") ∈ lw_all := lw_g (lw_at lw_m3 176 rfl) rfl
theorem q787 : (Jvm.Cond.constant "SweptSnow$Parser" (81 : Nat) (99999 : Int32)) ∈ lw_all := lw_g (lw_at lw_m3 178 rfl) rfl
theorem q788 : (Jvm.Cond.methodLink "SweptSnow$Parser" (86 : Nat) ({ cls := "SweptSnow$Plain", name := "<init>", desc := "(I)V" } : Jvm.MethodName)) ∈ lw_all := lw_g (lw_at lw_m3 179 rfl) rfl
theorem q799 : (Jvm.Cond.methodLink "SweptSnow$Parser" (89 : Nat) ({ cls := "SweptSnow$Parser", name := "counts", desc := "(I)V" } : Jvm.MethodName)) ∈ lw_all := lw_g (lw_at lw_m3 190 rfl) rfl
theorem q800 : (Jvm.Cond.privateMethod ({ cls := "SweptSnow$Parser", name := "counts", desc := "(I)V" } : Jvm.MethodName)) ∈ lw_tbl := lw_at lw_m3 191 rfl
theorem q801 : (Jvm.Cond.instanceMethod ({ cls := "SweptSnow$Parser", name := "counts", desc := "(I)V" } : Jvm.MethodName)) ∈ lw_all := lw_g (lw_at lw_m3 192 rfl) rfl
theorem q802 : (Jvm.Cond.code ({ cls := "SweptSnow$Parser", name := "counts", desc := "(I)V" } : Jvm.MethodName) prog_10_method_8_code (2 : Nat) (Option.none : Option Jvm.ClassFile.FieldType)) ∈ lw_all := lw_g (lw_at lw_m3 193 rfl) rfl
theorem q803 : (Jvm.Cond.classLink "SweptSnow$Parser" (92 : Nat) "SweptSnow$Asked") ∈ lw_all := lw_g (lw_at lw_m3 194 rfl) rfl
theorem q805 : (Jvm.Cond.methodLink "SweptSnow$Parser" (94 : Nat) ({ cls := "SweptSnow$Asked", name := "<init>", desc := "(I)V" } : Jvm.MethodName)) ∈ lw_all := lw_g (lw_at lw_m3 196 rfl) rfl
theorem q813 : (Jvm.Cond.classLink "SweptSnow$Parser" (99 : Nat) "SweptSnow$Joined") ∈ lw_all := lw_g (lw_at lw_m3 204 rfl) rfl
theorem q815 : (Jvm.Cond.methodLink "SweptSnow$Parser" (101 : Nat) ({ cls := "SweptSnow$Joined", name := "<init>", desc := "(LSweptSnow$Value;LSweptSnow$Value;I)V" } : Jvm.MethodName)) ∈ lw_all := lw_g (lw_at lw_m3 206 rfl) rfl
theorem q829 : (Jvm.Cond.classLink "SweptSnow$Parser" (230 : Nat) "SweptSnow$Told") ∈ lw_all := lw_g (lw_at lw_m3 220 rfl) rfl
theorem q831 : (Jvm.Cond.stringRef "SweptSnow$Parser" (232 : Nat) "if") ∈ lw_tbl := lw_at lw_m3 222 rfl
theorem q832 : (Jvm.Cond.methodLink "SweptSnow$Parser" (134 : Nat) ({ cls := "SweptSnow$Parser", name := "takes", desc := "(Ljava/lang/String;)Z" } : Jvm.MethodName)) ∈ lw_all := lw_g (lw_at lw_m3 223 rfl) rfl
theorem q833 : (Jvm.Cond.privateMethod ({ cls := "SweptSnow$Parser", name := "takes", desc := "(Ljava/lang/String;)Z" } : Jvm.MethodName)) ∈ lw_tbl := lw_at lw_m3 224 rfl
theorem q834 : (Jvm.Cond.instanceMethod ({ cls := "SweptSnow$Parser", name := "takes", desc := "(Ljava/lang/String;)Z" } : Jvm.MethodName)) ∈ lw_all := lw_g (lw_at lw_m3 225 rfl) rfl
theorem q835 : (Jvm.Cond.code ({ cls := "SweptSnow$Parser", name := "takes", desc := "(Ljava/lang/String;)Z" } : Jvm.MethodName) prog_10_method_6_code (3 : Nat) (Option.some Jvm.ClassFile.FieldType.boolean)) ∈ lw_all := lw_g (lw_at lw_m3 226 rfl) rfl
theorem q836 : (Jvm.Cond.methodLink "SweptSnow$Parser" (121 : Nat) ({ cls := "SweptSnow$Parser", name := "test", desc := "()LSweptSnow$Condition;" } : Jvm.MethodName)) ∈ lw_all := lw_g (lw_at lw_m3 227 rfl) rfl
theorem q837 : (Jvm.Cond.privateMethod ({ cls := "SweptSnow$Parser", name := "test", desc := "()LSweptSnow$Condition;" } : Jvm.MethodName)) ∈ lw_tbl := lw_at lw_m3 228 rfl
theorem q838 : (Jvm.Cond.instanceMethod ({ cls := "SweptSnow$Parser", name := "test", desc := "()LSweptSnow$Condition;" } : Jvm.MethodName)) ∈ lw_all := lw_g (lw_at lw_m3 229 rfl) rfl
theorem q839 : (Jvm.Cond.code ({ cls := "SweptSnow$Parser", name := "test", desc := "()LSweptSnow$Condition;" } : Jvm.MethodName) prog_10_method_15_code (2 : Nat) (Option.some (Jvm.ClassFile.FieldType.object "SweptSnow$Condition"))) ∈ lw_all := lw_g (lw_at lw_m3 230 rfl) rfl
theorem q840 : (Jvm.Cond.methodLink "SweptSnow$Parser" (142 : Nat) ({ cls := "SweptSnow$Parser", name := "part", desc := "()LSweptSnow$Condition;" } : Jvm.MethodName)) ∈ lw_all := lw_g (lw_at lw_m3 231 rfl) rfl
theorem q841 : (Jvm.Cond.privateMethod ({ cls := "SweptSnow$Parser", name := "part", desc := "()LSweptSnow$Condition;" } : Jvm.MethodName)) ∈ lw_tbl := lw_at lw_m3 232 rfl
theorem q842 : (Jvm.Cond.instanceMethod ({ cls := "SweptSnow$Parser", name := "part", desc := "()LSweptSnow$Condition;" } : Jvm.MethodName)) ∈ lw_all := lw_g (lw_at lw_m3 233 rfl) rfl
theorem q843 : (Jvm.Cond.code ({ cls := "SweptSnow$Parser", name := "part", desc := "()LSweptSnow$Condition;" } : Jvm.MethodName) prog_10_method_14_code (2 : Nat) (Option.some (Jvm.ClassFile.FieldType.object "SweptSnow$Condition"))) ∈ lw_all := lw_g (lw_at lw_m3 234 rfl) rfl
theorem q844 : (Jvm.Cond.methodLink "SweptSnow$Parser" (114 : Nat) ({ cls := "SweptSnow$Parser", name := "fact", desc := "()LSweptSnow$Condition;" } : Jvm.MethodName)) ∈ lw_all := lw_g (lw_at lw_m3 235 rfl) rfl
theorem q845 : (Jvm.Cond.privateMethod ({ cls := "SweptSnow$Parser", name := "fact", desc := "()LSweptSnow$Condition;" } : Jvm.MethodName)) ∈ lw_tbl := lw_at lw_m3 236 rfl
theorem q846 : (Jvm.Cond.instanceMethod ({ cls := "SweptSnow$Parser", name := "fact", desc := "()LSweptSnow$Condition;" } : Jvm.MethodName)) ∈ lw_all := lw_g (lw_at lw_m3 237 rfl) rfl
theorem q847 : (Jvm.Cond.code ({ cls := "SweptSnow$Parser", name := "fact", desc := "()LSweptSnow$Condition;" } : Jvm.MethodName) prog_10_method_13_code (5 : Nat) (Option.some (Jvm.ClassFile.FieldType.object "SweptSnow$Condition"))) ∈ lw_all := lw_g (lw_at lw_m3 238 rfl) rfl
theorem q848 : (Jvm.Cond.stringRef "SweptSnow$Parser" (107 : Nat) "not") ∈ lw_tbl := lw_at lw_m3 239 rfl
theorem q849 : (Jvm.Cond.methodLink "SweptSnow$Parser" (109 : Nat) ({ cls := "SweptSnow$Parser", name := "goesDeeper", desc := "(I)V" } : Jvm.MethodName)) ∈ lw_all := lw_g (lw_at lw_m4 0 rfl) rfl
theorem q850 : (Jvm.Cond.privateMethod ({ cls := "SweptSnow$Parser", name := "goesDeeper", desc := "(I)V" } : Jvm.MethodName)) ∈ lw_tbl := lw_at lw_m4 1 rfl
theorem q851 : (Jvm.Cond.instanceMethod ({ cls := "SweptSnow$Parser", name := "goesDeeper", desc := "(I)V" } : Jvm.MethodName)) ∈ lw_all := lw_g (lw_at lw_m4 2 rfl) rfl
theorem q852 : (Jvm.Cond.code ({ cls := "SweptSnow$Parser", name := "goesDeeper", desc := "(I)V" } : Jvm.MethodName) prog_10_method_9_code (2 : Nat) (Option.none : Option Jvm.ClassFile.FieldType)) ∈ lw_all := lw_g (lw_at lw_m4 3 rfl) rfl
theorem q853 : (Jvm.Cond.classLink "SweptSnow$Parser" (112 : Nat) "SweptSnow$Not") ∈ lw_all := lw_g (lw_at lw_m4 4 rfl) rfl
theorem q855 : (Jvm.Cond.methodLink "SweptSnow$Parser" (118 : Nat) ({ cls := "SweptSnow$Not", name := "<init>", desc := "(LSweptSnow$Condition;)V" } : Jvm.MethodName)) ∈ lw_all := lw_g (lw_at lw_m4 6 rfl) rfl
theorem q866 : (Jvm.Cond.classLink "SweptSnow$Parser" (127 : Nat) "SweptSnow$Compared") ∈ lw_all := lw_g (lw_at lw_m4 17 rfl) rfl
theorem q868 : (Jvm.Cond.methodLink "SweptSnow$Parser" (129 : Nat) ({ cls := "SweptSnow$Compared", name := "<init>", desc := "(LSweptSnow$Value;LSweptSnow$Value;IZ)V" } : Jvm.MethodName)) ∈ lw_all := lw_g (lw_at lw_m4 19 rfl) rfl
theorem q885 : (Jvm.Cond.stringRef "SweptSnow$Parser" (132 : Nat) "and") ∈ lw_tbl := lw_at lw_m4 36 rfl
theorem q886 : (Jvm.Cond.classLink "SweptSnow$Parser" (137 : Nat) "SweptSnow$Both") ∈ lw_all := lw_g (lw_at lw_m4 37 rfl) rfl
theorem q888 : (Jvm.Cond.methodLink "SweptSnow$Parser" (139 : Nat) ({ cls := "SweptSnow$Both", name := "<init>", desc := "(LSweptSnow$Condition;LSweptSnow$Condition;Z)V" } : Jvm.MethodName)) ∈ lw_all := lw_g (lw_at lw_m4 39 rfl) rfl
theorem q902 : (Jvm.Cond.stringRef "SweptSnow$Parser" (145 : Nat) "or") ∈ lw_tbl := lw_at lw_m4 53 rfl
theorem q903 : (Jvm.Cond.methodLinkNest "SweptSnow$Parser" (234 : Nat) ({ cls := "SweptSnow$Told", name := "<init>", desc := "(LSweptSnow$Value;LSweptSnow$Condition;)V" } : Jvm.MethodName) "SweptSnow") ∈ lw_tbl := lw_at lw_m4 54 rfl
theorem q915 : (Jvm.Cond.methodLink "SweptSnow$Parser" (251 : Nat) ({ cls := "java/util/ArrayList", name := "size", desc := "()I" } : Jvm.MethodName)) ∈ lw_all := lw_g (lw_at lw_m4 66 rfl) rfl
theorem q1893 : (Jvm.Cond.castable "SweptSnow$Parser" "java/lang/Object") ∈ lw_tbl := lw_at lw_m8 84 rfl
theorem in_X5 : ∀ w ∈ wsX50, w ∈ lw_all := lw_in wsX50 [470, 472, 474, 476, 478, 480, 482] (by decide +kernel) (by decide +kernel)
