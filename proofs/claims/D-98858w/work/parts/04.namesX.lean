/-! ForestRooms -/
set_option maxRecDepth 100000
def RX0 : String := "ForestRooms"
def TX0 : u_T := fun k => match k with
  | 0 => ("ForestRooms", "status", "I", false)
  | 1 => ("ForestRooms", "refused", "[I", true)
  | 2 => ("ForestRooms", "state", "LForestRooms$State;", true)
  | 3 => ("ForestRooms", "images", "[LForestRooms$State;", true)
  | 4 => ("ForestRooms", "undone", "[LForestRooms$Table;", true)
  | 5 => ("ForestRooms", "ordersUndone", "[LForestRooms$Table;", true)
  | 6 => ("ForestRooms", "undoneWhat", "[I", true)
  | 7 => ("ForestRooms", "ordersWhat", "[I", true)
  | 8 => ("ForestRooms", "ahead", "LForestRooms$Table;", true)
  | 9 => ("ForestRooms", "paper", "LForestRooms$Table;", true)
  | 10 => ("ForestRooms", "tape", "[B", true)
  | 11 => ("ForestRooms", "taped", "I", false)
  | 12 => ("ForestRooms", "fault", "I", false)
  | 13 => ("ForestRooms", "moss", "I", false)
  | 14 => ("ForestRooms", "stopped", "I", false)
  | 15 => ("ForestRooms", "undoMany", "I", false)
  | 16 => ("ForestRooms", "setting", "LForestRooms$Setting;", true)
  | 17 => ("ForestRooms", "news", "[I", true)
  | 18 => ("ForestRooms", "more", "[I", true)
  | 19 => ("ForestRooms", "suit", "[I", true)
  | 20 => ("ForestRooms", "most", "[I", true)
  | 21 => ("ForestRooms", "then", "[I", true)
  | 22 => ("ForestRooms", "seeds", "[I", true)
  | 23 => ("ForestRooms", "shown", "[I", true)
  | 24 => ("ForestRooms", "steps", "[I", true)
  | 25 => ("ForestRooms", "rests", "[J", true)
  | 26 => ("ForestRooms", "drawnTable", "LForestRooms$Table;", true)
  | 27 => ("ForestRooms", "isDrawn", "Z", false)
  | _ => ("ForestRooms", "drawn", "I", false)
def tyX0 : Nat → FieldType := fun k => match k with
  | 0 => .int
  | 1 => .array .int
  | 2 => .object "ForestRooms$State"
  | 3 => .array (.object "ForestRooms$State")
  | 4 => .array (.object "ForestRooms$Table")
  | 5 => .array (.object "ForestRooms$Table")
  | 6 => .array .int
  | 7 => .array .int
  | 8 => .object "ForestRooms$Table"
  | 9 => .object "ForestRooms$Table"
  | 10 => .array .byte
  | 11 => .int
  | 12 => .int
  | 13 => .int
  | 14 => .int
  | 15 => .int
  | 16 => .object "ForestRooms$Setting"
  | 17 => .array .int
  | 18 => .array .int
  | 19 => .array .int
  | 20 => .array .int
  | 21 => .array .int
  | 22 => .array .int
  | 23 => .array .int
  | 24 => .array .int
  | 25 => .array .long
  | 26 => .object "ForestRooms$Table"
  | 27 => .boolean
  | _ => .int
abbrev wsX00 : List Cond := u_ws RX0 TX0 29
set_option maxRecDepth 100000 in
theorem nmX0 : ∀ a, a < 29 → ∀ b, b < 29 → a ≠ b → (TX0 a).2.1 ≠ (TX0 b).2.1 := by decide +kernel
set_option maxRecDepth 100000 in
theorem tyX0_ok : ∀ k, k < 29 → parseFieldDescriptor (TX0 k).2.2.1 = some (tyX0 k) := by decide +kernel
abbrev cX0_init : ByteArray := prog_1_method_11_code
def yX0_init : MethodName := ⟨RX0, "<init>", "()V"⟩
def dkwX0_init_10 : List UInt8 := [167, 255, 221, 177]
abbrev dktX0_init_10 : List UInt8 := dkwX0_init_10 ++ []
def dkwX0_init_9 : List UInt8 := [187, 0, 47, 89, 183, 0, 62, 83, 42, 180, 0, 53, 27, 187, 0, 47, 89, 183, 0, 62, 83, 132, 1, 1]
abbrev dktX0_init_9 : List UInt8 := dkwX0_init_9 ++ dktX0_init_10
def dkwX0_init_8 : List UInt8 := [42, 187, 0, 47, 89, 183, 0, 62, 181, 0, 115, 3, 60, 27, 16, 16, 162, 0, 35, 42, 180, 0, 49, 27]
abbrev dktX0_init_8 : List UInt8 := dkwX0_init_8 ++ dktX0_init_9
def dkwX0_init_7 : List UInt8 := [42, 16, 112, 188, 10, 181, 0, 105, 42, 16, 16, 188, 10, 181, 0, 108, 42, 16, 16, 188, 11, 181, 0, 111]
abbrev dktX0_init_7 : List UInt8 := dkwX0_init_7 ++ dktX0_init_8
def dkwX0_init_6 : List UInt8 := [42, 16, 64, 188, 10, 181, 0, 96, 42, 16, 64, 188, 10, 181, 0, 99, 42, 16, 96, 188, 10, 181, 0, 102]
abbrev dktX0_init_6 : List UInt8 := dkwX0_init_6 ++ dktX0_init_7
def dkwX0_init_5 : List UInt8 := [42, 16, 16, 188, 10, 181, 0, 87, 42, 16, 16, 188, 10, 181, 0, 90, 42, 16, 96, 188, 10, 181, 0, 93]
abbrev dktX0_init_5 : List UInt8 := dkwX0_init_5 ++ dktX0_init_6
def dkwX0_init_4 : List UInt8 := [181, 0, 70, 42, 2, 181, 0, 74, 42, 2, 181, 0, 77, 42, 187, 0, 80, 89, 183, 0, 82, 181, 0, 83]
abbrev dktX0_init_4 : List UInt8 := dkwX0_init_4 ++ dktX0_init_5
def dkwX0_init_3 : List UInt8 := [183, 0, 62, 181, 0, 63, 42, 187, 0, 47, 89, 183, 0, 62, 181, 0, 67, 42, 17, 1, 144, 188, 8]
abbrev dktX0_init_3 : List UInt8 := dkwX0_init_3 ++ dktX0_init_4
def dkwX0_init_2 : List UInt8 := [181, 0, 53, 42, 16, 16, 188, 10, 181, 0, 56, 42, 16, 16, 188, 10, 181, 0, 59, 42, 187, 0, 47, 89]
abbrev dktX0_init_2 : List UInt8 := dkwX0_init_2 ++ dktX0_init_3
def dkwX0_init_1 : List UInt8 := [5, 189, 0, 36, 181, 0, 43, 42, 16, 16, 189, 0, 47, 181, 0, 49, 42, 16, 16, 189, 0, 47]
abbrev dktX0_init_1 : List UInt8 := dkwX0_init_1 ++ dktX0_init_2
def dkwX0_init_0 : List UInt8 := [42, 183, 0, 30, 42, 16, 7, 188, 10, 181, 0, 7, 42, 187, 0, 36, 89, 183, 0, 38, 181, 0, 39, 42]
abbrev dktX0_init_0 : List UInt8 := dkwX0_init_0 ++ dktX0_init_1
theorem dksX0_init_0 : cX0_init.data.toList.drop 0 = dktX0_init_0 := by decide +kernel
theorem dksX0_init_1 : cX0_init.data.toList.drop 24 = dktX0_init_1 := dk_seg dksX0_init_0 24 rfl rfl
theorem dksX0_init_2 : cX0_init.data.toList.drop 46 = dktX0_init_2 := dk_seg dksX0_init_1 22 rfl rfl
theorem dksX0_init_3 : cX0_init.data.toList.drop 70 = dktX0_init_3 := dk_seg dksX0_init_2 24 rfl rfl
theorem dksX0_init_4 : cX0_init.data.toList.drop 93 = dktX0_init_4 := dk_seg dksX0_init_3 23 rfl rfl
theorem dksX0_init_5 : cX0_init.data.toList.drop 117 = dktX0_init_5 := dk_seg dksX0_init_4 24 rfl rfl
theorem dksX0_init_6 : cX0_init.data.toList.drop 141 = dktX0_init_6 := dk_seg dksX0_init_5 24 rfl rfl
theorem dksX0_init_7 : cX0_init.data.toList.drop 165 = dktX0_init_7 := dk_seg dksX0_init_6 24 rfl rfl
theorem dksX0_init_8 : cX0_init.data.toList.drop 189 = dktX0_init_8 := dk_seg dksX0_init_7 24 rfl rfl
theorem dksX0_init_9 : cX0_init.data.toList.drop 213 = dktX0_init_9 := dk_seg dksX0_init_8 24 rfl rfl
theorem dksX0_init_10 : cX0_init.data.toList.drop 237 = dktX0_init_10 := dk_seg dksX0_init_9 24 rfl rfl
theorem dX0_init_0 : decode cX0_init 0 = .ok (.aload_n 0, 1) := dk_42 (dk_at dksX0_init_0 0 rfl rfl)
theorem dX0_init_1 : decode cX0_init 1 = .ok (.invokespecial 30, 3) := dk_183 0 30 (dk_at dksX0_init_0 1 rfl rfl)
theorem dX0_init_4 : decode cX0_init 4 = .ok (.aload_n 0, 1) := dk_42 (dk_at dksX0_init_0 4 rfl rfl)
theorem dX0_init_5 : decode cX0_init 5 = .ok (.bipush 7, 2) := dk_16 7 (dk_at dksX0_init_0 5 rfl rfl)
theorem dX0_init_7 : decode cX0_init 7 = .ok (.newarray .int, 2) := dk_188_10 (dk_at dksX0_init_0 7 rfl rfl)
theorem dX0_init_9 : decode cX0_init 9 = .ok (.putfield 7, 3) := dk_181 0 7 (dk_at dksX0_init_0 9 rfl rfl)
theorem dX0_init_12 : decode cX0_init 12 = .ok (.aload_n 0, 1) := dk_42 (dk_at dksX0_init_0 12 rfl rfl)
theorem dX0_init_13 : decode cX0_init 13 = .ok (.new 36, 3) := dk_187 0 36 (dk_at dksX0_init_0 13 rfl rfl)
theorem dX0_init_16 : decode cX0_init 16 = .ok (.dup, 1) := dk_89 (dk_at dksX0_init_0 16 rfl rfl)
theorem dX0_init_17 : decode cX0_init 17 = .ok (.invokespecial 38, 3) := dk_183 0 38 (dk_at dksX0_init_0 17 rfl rfl)
theorem dX0_init_20 : decode cX0_init 20 = .ok (.putfield 39, 3) := dk_181 0 39 (dk_at dksX0_init_0 20 rfl rfl)
theorem dX0_init_23 : decode cX0_init 23 = .ok (.aload_n 0, 1) := dk_42 (dk_at dksX0_init_0 23 rfl rfl)
theorem dX0_init_24 : decode cX0_init 24 = .ok (.iconst 2, 1) := dk_5 (dk_at dksX0_init_1 0 rfl rfl)
theorem dX0_init_25 : decode cX0_init 25 = .ok (.anewarray 36, 3) := dk_189 0 36 (dk_at dksX0_init_1 1 rfl rfl)
theorem dX0_init_28 : decode cX0_init 28 = .ok (.putfield 43, 3) := dk_181 0 43 (dk_at dksX0_init_1 4 rfl rfl)
theorem dX0_init_31 : decode cX0_init 31 = .ok (.aload_n 0, 1) := dk_42 (dk_at dksX0_init_1 7 rfl rfl)
theorem dX0_init_32 : decode cX0_init 32 = .ok (.bipush 16, 2) := dk_16 16 (dk_at dksX0_init_1 8 rfl rfl)
theorem dX0_init_34 : decode cX0_init 34 = .ok (.anewarray 47, 3) := dk_189 0 47 (dk_at dksX0_init_1 10 rfl rfl)
theorem dX0_init_37 : decode cX0_init 37 = .ok (.putfield 49, 3) := dk_181 0 49 (dk_at dksX0_init_1 13 rfl rfl)
theorem dX0_init_40 : decode cX0_init 40 = .ok (.aload_n 0, 1) := dk_42 (dk_at dksX0_init_1 16 rfl rfl)
theorem dX0_init_41 : decode cX0_init 41 = .ok (.bipush 16, 2) := dk_16 16 (dk_at dksX0_init_1 17 rfl rfl)
theorem dX0_init_43 : decode cX0_init 43 = .ok (.anewarray 47, 3) := dk_189 0 47 (dk_at dksX0_init_1 19 rfl rfl)
theorem dX0_init_46 : decode cX0_init 46 = .ok (.putfield 53, 3) := dk_181 0 53 (dk_at dksX0_init_2 0 rfl rfl)
theorem dX0_init_49 : decode cX0_init 49 = .ok (.aload_n 0, 1) := dk_42 (dk_at dksX0_init_2 3 rfl rfl)
theorem dX0_init_50 : decode cX0_init 50 = .ok (.bipush 16, 2) := dk_16 16 (dk_at dksX0_init_2 4 rfl rfl)
theorem dX0_init_52 : decode cX0_init 52 = .ok (.newarray .int, 2) := dk_188_10 (dk_at dksX0_init_2 6 rfl rfl)
theorem dX0_init_54 : decode cX0_init 54 = .ok (.putfield 56, 3) := dk_181 0 56 (dk_at dksX0_init_2 8 rfl rfl)
theorem dX0_init_57 : decode cX0_init 57 = .ok (.aload_n 0, 1) := dk_42 (dk_at dksX0_init_2 11 rfl rfl)
theorem dX0_init_58 : decode cX0_init 58 = .ok (.bipush 16, 2) := dk_16 16 (dk_at dksX0_init_2 12 rfl rfl)
theorem dX0_init_60 : decode cX0_init 60 = .ok (.newarray .int, 2) := dk_188_10 (dk_at dksX0_init_2 14 rfl rfl)
theorem dX0_init_62 : decode cX0_init 62 = .ok (.putfield 59, 3) := dk_181 0 59 (dk_at dksX0_init_2 16 rfl rfl)
theorem dX0_init_65 : decode cX0_init 65 = .ok (.aload_n 0, 1) := dk_42 (dk_at dksX0_init_2 19 rfl rfl)
theorem dX0_init_66 : decode cX0_init 66 = .ok (.new 47, 3) := dk_187 0 47 (dk_at dksX0_init_2 20 rfl rfl)
theorem dX0_init_69 : decode cX0_init 69 = .ok (.dup, 1) := dk_89 (dk_at dksX0_init_2 23 rfl rfl)
theorem dX0_init_70 : decode cX0_init 70 = .ok (.invokespecial 62, 3) := dk_183 0 62 (dk_at dksX0_init_3 0 rfl rfl)
theorem dX0_init_73 : decode cX0_init 73 = .ok (.putfield 63, 3) := dk_181 0 63 (dk_at dksX0_init_3 3 rfl rfl)
theorem dX0_init_76 : decode cX0_init 76 = .ok (.aload_n 0, 1) := dk_42 (dk_at dksX0_init_3 6 rfl rfl)
theorem dX0_init_77 : decode cX0_init 77 = .ok (.new 47, 3) := dk_187 0 47 (dk_at dksX0_init_3 7 rfl rfl)
theorem dX0_init_80 : decode cX0_init 80 = .ok (.dup, 1) := dk_89 (dk_at dksX0_init_3 10 rfl rfl)
theorem dX0_init_81 : decode cX0_init 81 = .ok (.invokespecial 62, 3) := dk_183 0 62 (dk_at dksX0_init_3 11 rfl rfl)
theorem dX0_init_84 : decode cX0_init 84 = .ok (.putfield 67, 3) := dk_181 0 67 (dk_at dksX0_init_3 14 rfl rfl)
theorem dX0_init_87 : decode cX0_init 87 = .ok (.aload_n 0, 1) := dk_42 (dk_at dksX0_init_3 17 rfl rfl)
theorem dX0_init_88 : decode cX0_init 88 = .ok (.sipush 400, 3) := dk_17 1 144 (dk_at dksX0_init_3 18 rfl rfl)
theorem dX0_init_91 : decode cX0_init 91 = .ok (.newarray .byte, 2) := dk_188_8 (dk_at dksX0_init_3 21 rfl rfl)
theorem dX0_init_93 : decode cX0_init 93 = .ok (.putfield 70, 3) := dk_181 0 70 (dk_at dksX0_init_4 0 rfl rfl)
theorem dX0_init_96 : decode cX0_init 96 = .ok (.aload_n 0, 1) := dk_42 (dk_at dksX0_init_4 3 rfl rfl)
theorem dX0_init_97 : decode cX0_init 97 = .ok (.iconst (-1), 1) := dk_2 (dk_at dksX0_init_4 4 rfl rfl)
theorem dX0_init_98 : decode cX0_init 98 = .ok (.putfield 74, 3) := dk_181 0 74 (dk_at dksX0_init_4 5 rfl rfl)
theorem dX0_init_101 : decode cX0_init 101 = .ok (.aload_n 0, 1) := dk_42 (dk_at dksX0_init_4 8 rfl rfl)
theorem dX0_init_102 : decode cX0_init 102 = .ok (.iconst (-1), 1) := dk_2 (dk_at dksX0_init_4 9 rfl rfl)
theorem dX0_init_103 : decode cX0_init 103 = .ok (.putfield 77, 3) := dk_181 0 77 (dk_at dksX0_init_4 10 rfl rfl)
theorem dX0_init_106 : decode cX0_init 106 = .ok (.aload_n 0, 1) := dk_42 (dk_at dksX0_init_4 13 rfl rfl)
theorem dX0_init_107 : decode cX0_init 107 = .ok (.new 80, 3) := dk_187 0 80 (dk_at dksX0_init_4 14 rfl rfl)
theorem dX0_init_110 : decode cX0_init 110 = .ok (.dup, 1) := dk_89 (dk_at dksX0_init_4 17 rfl rfl)
theorem dX0_init_111 : decode cX0_init 111 = .ok (.invokespecial 82, 3) := dk_183 0 82 (dk_at dksX0_init_4 18 rfl rfl)
theorem dX0_init_114 : decode cX0_init 114 = .ok (.putfield 83, 3) := dk_181 0 83 (dk_at dksX0_init_4 21 rfl rfl)
theorem dX0_init_117 : decode cX0_init 117 = .ok (.aload_n 0, 1) := dk_42 (dk_at dksX0_init_5 0 rfl rfl)
theorem dX0_init_118 : decode cX0_init 118 = .ok (.bipush 16, 2) := dk_16 16 (dk_at dksX0_init_5 1 rfl rfl)
theorem dX0_init_120 : decode cX0_init 120 = .ok (.newarray .int, 2) := dk_188_10 (dk_at dksX0_init_5 3 rfl rfl)
theorem dX0_init_122 : decode cX0_init 122 = .ok (.putfield 87, 3) := dk_181 0 87 (dk_at dksX0_init_5 5 rfl rfl)
theorem dX0_init_125 : decode cX0_init 125 = .ok (.aload_n 0, 1) := dk_42 (dk_at dksX0_init_5 8 rfl rfl)
theorem dX0_init_126 : decode cX0_init 126 = .ok (.bipush 16, 2) := dk_16 16 (dk_at dksX0_init_5 9 rfl rfl)
theorem dX0_init_128 : decode cX0_init 128 = .ok (.newarray .int, 2) := dk_188_10 (dk_at dksX0_init_5 11 rfl rfl)
theorem dX0_init_130 : decode cX0_init 130 = .ok (.putfield 90, 3) := dk_181 0 90 (dk_at dksX0_init_5 13 rfl rfl)
theorem dX0_init_133 : decode cX0_init 133 = .ok (.aload_n 0, 1) := dk_42 (dk_at dksX0_init_5 16 rfl rfl)
theorem dX0_init_134 : decode cX0_init 134 = .ok (.bipush 96, 2) := dk_16 96 (dk_at dksX0_init_5 17 rfl rfl)
theorem dX0_init_136 : decode cX0_init 136 = .ok (.newarray .int, 2) := dk_188_10 (dk_at dksX0_init_5 19 rfl rfl)
theorem dX0_init_138 : decode cX0_init 138 = .ok (.putfield 93, 3) := dk_181 0 93 (dk_at dksX0_init_5 21 rfl rfl)
theorem dX0_init_141 : decode cX0_init 141 = .ok (.aload_n 0, 1) := dk_42 (dk_at dksX0_init_6 0 rfl rfl)
theorem dX0_init_142 : decode cX0_init 142 = .ok (.bipush 64, 2) := dk_16 64 (dk_at dksX0_init_6 1 rfl rfl)
theorem dX0_init_144 : decode cX0_init 144 = .ok (.newarray .int, 2) := dk_188_10 (dk_at dksX0_init_6 3 rfl rfl)
theorem dX0_init_146 : decode cX0_init 146 = .ok (.putfield 96, 3) := dk_181 0 96 (dk_at dksX0_init_6 5 rfl rfl)
theorem dX0_init_149 : decode cX0_init 149 = .ok (.aload_n 0, 1) := dk_42 (dk_at dksX0_init_6 8 rfl rfl)
theorem dX0_init_150 : decode cX0_init 150 = .ok (.bipush 64, 2) := dk_16 64 (dk_at dksX0_init_6 9 rfl rfl)
theorem dX0_init_152 : decode cX0_init 152 = .ok (.newarray .int, 2) := dk_188_10 (dk_at dksX0_init_6 11 rfl rfl)
theorem dX0_init_154 : decode cX0_init 154 = .ok (.putfield 99, 3) := dk_181 0 99 (dk_at dksX0_init_6 13 rfl rfl)
theorem dX0_init_157 : decode cX0_init 157 = .ok (.aload_n 0, 1) := dk_42 (dk_at dksX0_init_6 16 rfl rfl)
theorem dX0_init_158 : decode cX0_init 158 = .ok (.bipush 96, 2) := dk_16 96 (dk_at dksX0_init_6 17 rfl rfl)
theorem dX0_init_160 : decode cX0_init 160 = .ok (.newarray .int, 2) := dk_188_10 (dk_at dksX0_init_6 19 rfl rfl)
theorem dX0_init_162 : decode cX0_init 162 = .ok (.putfield 102, 3) := dk_181 0 102 (dk_at dksX0_init_6 21 rfl rfl)
theorem dX0_init_165 : decode cX0_init 165 = .ok (.aload_n 0, 1) := dk_42 (dk_at dksX0_init_7 0 rfl rfl)
theorem dX0_init_166 : decode cX0_init 166 = .ok (.bipush 112, 2) := dk_16 112 (dk_at dksX0_init_7 1 rfl rfl)
theorem dX0_init_168 : decode cX0_init 168 = .ok (.newarray .int, 2) := dk_188_10 (dk_at dksX0_init_7 3 rfl rfl)
theorem dX0_init_170 : decode cX0_init 170 = .ok (.putfield 105, 3) := dk_181 0 105 (dk_at dksX0_init_7 5 rfl rfl)
theorem dX0_init_173 : decode cX0_init 173 = .ok (.aload_n 0, 1) := dk_42 (dk_at dksX0_init_7 8 rfl rfl)
theorem dX0_init_174 : decode cX0_init 174 = .ok (.bipush 16, 2) := dk_16 16 (dk_at dksX0_init_7 9 rfl rfl)
theorem dX0_init_176 : decode cX0_init 176 = .ok (.newarray .int, 2) := dk_188_10 (dk_at dksX0_init_7 11 rfl rfl)
theorem dX0_init_178 : decode cX0_init 178 = .ok (.putfield 108, 3) := dk_181 0 108 (dk_at dksX0_init_7 13 rfl rfl)
theorem dX0_init_181 : decode cX0_init 181 = .ok (.aload_n 0, 1) := dk_42 (dk_at dksX0_init_7 16 rfl rfl)
theorem dX0_init_182 : decode cX0_init 182 = .ok (.bipush 16, 2) := dk_16 16 (dk_at dksX0_init_7 17 rfl rfl)
theorem dX0_init_184 : decode cX0_init 184 = .ok (.newarray .long, 2) := dk_188_11 (dk_at dksX0_init_7 19 rfl rfl)
theorem dX0_init_186 : decode cX0_init 186 = .ok (.putfield 111, 3) := dk_181 0 111 (dk_at dksX0_init_7 21 rfl rfl)
theorem dX0_init_189 : decode cX0_init 189 = .ok (.aload_n 0, 1) := dk_42 (dk_at dksX0_init_8 0 rfl rfl)
theorem dX0_init_190 : decode cX0_init 190 = .ok (.new 47, 3) := dk_187 0 47 (dk_at dksX0_init_8 1 rfl rfl)
theorem dX0_init_193 : decode cX0_init 193 = .ok (.dup, 1) := dk_89 (dk_at dksX0_init_8 4 rfl rfl)
theorem dX0_init_194 : decode cX0_init 194 = .ok (.invokespecial 62, 3) := dk_183 0 62 (dk_at dksX0_init_8 5 rfl rfl)
theorem dX0_init_197 : decode cX0_init 197 = .ok (.putfield 115, 3) := dk_181 0 115 (dk_at dksX0_init_8 8 rfl rfl)
theorem dX0_init_200 : decode cX0_init 200 = .ok (.iconst 0, 1) := dk_3 (dk_at dksX0_init_8 11 rfl rfl)
theorem dX0_init_201 : decode cX0_init 201 = .ok (.istore_n 1, 1) := dk_60 (dk_at dksX0_init_8 12 rfl rfl)
theorem dX0_init_202 : decode cX0_init 202 = .ok (.iload_n 1, 1) := dk_27 (dk_at dksX0_init_8 13 rfl rfl)
theorem dX0_init_203 : decode cX0_init 203 = .ok (.bipush 16, 2) := dk_16 16 (dk_at dksX0_init_8 14 rfl rfl)
theorem dX0_init_205 : decode cX0_init 205 = .ok (.if_icmp .ge 35, 3) := dk_162 0 35 (dk_at dksX0_init_8 16 rfl rfl)
theorem dX0_init_208 : decode cX0_init 208 = .ok (.aload_n 0, 1) := dk_42 (dk_at dksX0_init_8 19 rfl rfl)
theorem dX0_init_209 : decode cX0_init 209 = .ok (.getfield 49, 3) := dk_180 0 49 (dk_at dksX0_init_8 20 rfl rfl)
theorem dX0_init_212 : decode cX0_init 212 = .ok (.iload_n 1, 1) := dk_27 (dk_at dksX0_init_8 23 rfl rfl)
theorem dX0_init_213 : decode cX0_init 213 = .ok (.new 47, 3) := dk_187 0 47 (dk_at dksX0_init_9 0 rfl rfl)
theorem dX0_init_216 : decode cX0_init 216 = .ok (.dup, 1) := dk_89 (dk_at dksX0_init_9 3 rfl rfl)
theorem dX0_init_217 : decode cX0_init 217 = .ok (.invokespecial 62, 3) := dk_183 0 62 (dk_at dksX0_init_9 4 rfl rfl)
theorem dX0_init_220 : decode cX0_init 220 = .ok (.aastore, 1) := dk_83 (dk_at dksX0_init_9 7 rfl rfl)
theorem dX0_init_221 : decode cX0_init 221 = .ok (.aload_n 0, 1) := dk_42 (dk_at dksX0_init_9 8 rfl rfl)
theorem dX0_init_222 : decode cX0_init 222 = .ok (.getfield 53, 3) := dk_180 0 53 (dk_at dksX0_init_9 9 rfl rfl)
theorem dX0_init_225 : decode cX0_init 225 = .ok (.iload_n 1, 1) := dk_27 (dk_at dksX0_init_9 12 rfl rfl)
theorem dX0_init_226 : decode cX0_init 226 = .ok (.new 47, 3) := dk_187 0 47 (dk_at dksX0_init_9 13 rfl rfl)
theorem dX0_init_229 : decode cX0_init 229 = .ok (.dup, 1) := dk_89 (dk_at dksX0_init_9 16 rfl rfl)
theorem dX0_init_230 : decode cX0_init 230 = .ok (.invokespecial 62, 3) := dk_183 0 62 (dk_at dksX0_init_9 17 rfl rfl)
theorem dX0_init_233 : decode cX0_init 233 = .ok (.aastore, 1) := dk_83 (dk_at dksX0_init_9 20 rfl rfl)
theorem dX0_init_234 : decode cX0_init 234 = .ok (.iinc 1 1, 3) := dk_132 1 1 (dk_at dksX0_init_9 21 rfl rfl)
theorem dX0_init_237 : decode cX0_init 237 = .ok (.goto (-35), 3) := dk_167 255 221 (dk_at dksX0_init_10 0 rfl rfl)
theorem dX0_init_240 : decode cX0_init 240 = .ok (.return_, 1) := dk_177 (dk_at dksX0_init_10 3 rfl rfl)
abbrev cX0_image : ByteArray := prog_1_method_15_code
def yX0_image : MethodName := ⟨RX0, "image", "(I)I"⟩
def dkwX0_image_2 : List UInt8 := [182, 0, 133, 42, 3, 182, 0, 124, 172]
abbrev dktX0_image_2 : List UInt8 := dkwX0_image_2 ++ []
def dkwX0_image_1 : List UInt8 := [42, 180, 0, 43, 27, 187, 0, 36, 89, 183, 0, 38, 83, 42, 180, 0, 43, 27, 50, 42, 180, 0, 39]
abbrev dktX0_image_1 : List UInt8 := dkwX0_image_1 ++ dktX0_image_2
def dkwX0_image_0 : List UInt8 := [27, 3, 4, 184, 0, 26, 154, 0, 9, 42, 2, 182, 0, 130, 172, 42, 180, 0, 43, 27, 50, 199, 0, 16]
abbrev dktX0_image_0 : List UInt8 := dkwX0_image_0 ++ dktX0_image_1
theorem dksX0_image_0 : cX0_image.data.toList.drop 0 = dktX0_image_0 := by decide +kernel
theorem dksX0_image_1 : cX0_image.data.toList.drop 24 = dktX0_image_1 := dk_seg dksX0_image_0 24 rfl rfl
theorem dksX0_image_2 : cX0_image.data.toList.drop 47 = dktX0_image_2 := dk_seg dksX0_image_1 23 rfl rfl
theorem dX0_image_0 : decode cX0_image 0 = .ok (.iload_n 1, 1) := dk_27 (dk_at dksX0_image_0 0 rfl rfl)
theorem dX0_image_1 : decode cX0_image 1 = .ok (.iconst 0, 1) := dk_3 (dk_at dksX0_image_0 1 rfl rfl)
theorem dX0_image_2 : decode cX0_image 2 = .ok (.iconst 1, 1) := dk_4 (dk_at dksX0_image_0 2 rfl rfl)
theorem dX0_image_3 : decode cX0_image 3 = .ok (.invokestatic 26, 3) := dk_184 0 26 (dk_at dksX0_image_0 3 rfl rfl)
theorem dX0_image_6 : decode cX0_image 6 = .ok (.ifCond .ne 9, 3) := dk_154 0 9 (dk_at dksX0_image_0 6 rfl rfl)
theorem dX0_image_9 : decode cX0_image 9 = .ok (.aload_n 0, 1) := dk_42 (dk_at dksX0_image_0 9 rfl rfl)
theorem dX0_image_10 : decode cX0_image 10 = .ok (.iconst (-1), 1) := dk_2 (dk_at dksX0_image_0 10 rfl rfl)
theorem dX0_image_11 : decode cX0_image 11 = .ok (.invokevirtual 130, 3) := dk_182 0 130 (dk_at dksX0_image_0 11 rfl rfl)
theorem dX0_image_14 : decode cX0_image 14 = .ok (.ireturn, 1) := dk_172 (dk_at dksX0_image_0 14 rfl rfl)
theorem dX0_image_15 : decode cX0_image 15 = .ok (.aload_n 0, 1) := dk_42 (dk_at dksX0_image_0 15 rfl rfl)
theorem dX0_image_16 : decode cX0_image 16 = .ok (.getfield 43, 3) := dk_180 0 43 (dk_at dksX0_image_0 16 rfl rfl)
theorem dX0_image_19 : decode cX0_image 19 = .ok (.iload_n 1, 1) := dk_27 (dk_at dksX0_image_0 19 rfl rfl)
theorem dX0_image_20 : decode cX0_image 20 = .ok (.aaload, 1) := dk_50 (dk_at dksX0_image_0 20 rfl rfl)
theorem dX0_image_21 : decode cX0_image 21 = .ok (.ifnonnull 16, 3) := dk_199 0 16 (dk_at dksX0_image_0 21 rfl rfl)
theorem dX0_image_24 : decode cX0_image 24 = .ok (.aload_n 0, 1) := dk_42 (dk_at dksX0_image_1 0 rfl rfl)
theorem dX0_image_25 : decode cX0_image 25 = .ok (.getfield 43, 3) := dk_180 0 43 (dk_at dksX0_image_1 1 rfl rfl)
theorem dX0_image_28 : decode cX0_image 28 = .ok (.iload_n 1, 1) := dk_27 (dk_at dksX0_image_1 4 rfl rfl)
theorem dX0_image_29 : decode cX0_image 29 = .ok (.new 36, 3) := dk_187 0 36 (dk_at dksX0_image_1 5 rfl rfl)
theorem dX0_image_32 : decode cX0_image 32 = .ok (.dup, 1) := dk_89 (dk_at dksX0_image_1 8 rfl rfl)
theorem dX0_image_33 : decode cX0_image 33 = .ok (.invokespecial 38, 3) := dk_183 0 38 (dk_at dksX0_image_1 9 rfl rfl)
theorem dX0_image_36 : decode cX0_image 36 = .ok (.aastore, 1) := dk_83 (dk_at dksX0_image_1 12 rfl rfl)
theorem dX0_image_37 : decode cX0_image 37 = .ok (.aload_n 0, 1) := dk_42 (dk_at dksX0_image_1 13 rfl rfl)
theorem dX0_image_38 : decode cX0_image 38 = .ok (.getfield 43, 3) := dk_180 0 43 (dk_at dksX0_image_1 14 rfl rfl)
theorem dX0_image_41 : decode cX0_image 41 = .ok (.iload_n 1, 1) := dk_27 (dk_at dksX0_image_1 17 rfl rfl)
theorem dX0_image_42 : decode cX0_image 42 = .ok (.aaload, 1) := dk_50 (dk_at dksX0_image_1 18 rfl rfl)
theorem dX0_image_43 : decode cX0_image 43 = .ok (.aload_n 0, 1) := dk_42 (dk_at dksX0_image_1 19 rfl rfl)
theorem dX0_image_44 : decode cX0_image 44 = .ok (.getfield 39, 3) := dk_180 0 39 (dk_at dksX0_image_1 20 rfl rfl)
theorem dX0_image_47 : decode cX0_image 47 = .ok (.invokevirtual 133, 3) := dk_182 0 133 (dk_at dksX0_image_2 0 rfl rfl)
theorem dX0_image_50 : decode cX0_image 50 = .ok (.aload_n 0, 1) := dk_42 (dk_at dksX0_image_2 3 rfl rfl)
theorem dX0_image_51 : decode cX0_image 51 = .ok (.iconst 0, 1) := dk_3 (dk_at dksX0_image_2 4 rfl rfl)
theorem dX0_image_52 : decode cX0_image 52 = .ok (.invokevirtual 124, 3) := dk_182 0 124 (dk_at dksX0_image_2 5 rfl rfl)
theorem dX0_image_55 : decode cX0_image 55 = .ok (.ireturn, 1) := dk_172 (dk_at dksX0_image_2 8 rfl rfl)
abbrev cX0_in : ByteArray := prog_1_method_3_code
def yX0_in : MethodName := ⟨RX0, "in", "(III)Z"⟩
def dkwX0_in_0 : List UInt8 := [26, 27, 161, 0, 12, 26, 28, 163, 0, 7, 4, 167, 0, 4, 3, 172]
abbrev dktX0_in_0 : List UInt8 := dkwX0_in_0 ++ []
theorem dksX0_in_0 : cX0_in.data.toList.drop 0 = dktX0_in_0 := by decide +kernel
theorem dX0_in_0 : decode cX0_in 0 = .ok (.iload_n 0, 1) := dk_26 (dk_at dksX0_in_0 0 rfl rfl)
theorem dX0_in_1 : decode cX0_in 1 = .ok (.iload_n 1, 1) := dk_27 (dk_at dksX0_in_0 1 rfl rfl)
theorem dX0_in_2 : decode cX0_in 2 = .ok (.if_icmp .lt 12, 3) := dk_161 0 12 (dk_at dksX0_in_0 2 rfl rfl)
theorem dX0_in_5 : decode cX0_in 5 = .ok (.iload_n 0, 1) := dk_26 (dk_at dksX0_in_0 5 rfl rfl)
theorem dX0_in_6 : decode cX0_in 6 = .ok (.iload_n 2, 1) := dk_28 (dk_at dksX0_in_0 6 rfl rfl)
theorem dX0_in_7 : decode cX0_in 7 = .ok (.if_icmp .gt 7, 3) := dk_163 0 7 (dk_at dksX0_in_0 7 rfl rfl)
theorem dX0_in_10 : decode cX0_in 10 = .ok (.iconst 1, 1) := dk_4 (dk_at dksX0_in_0 10 rfl rfl)
theorem dX0_in_11 : decode cX0_in 11 = .ok (.goto 4, 3) := dk_167 0 4 (dk_at dksX0_in_0 11 rfl rfl)
theorem dX0_in_14 : decode cX0_in 14 = .ok (.iconst 0, 1) := dk_3 (dk_at dksX0_in_0 14 rfl rfl)
theorem dX0_in_15 : decode cX0_in 15 = .ok (.ireturn, 1) := dk_172 (dk_at dksX0_in_0 15 rfl rfl)
abbrev cX0_refuse : ByteArray := prog_1_method_1_code
def yX0_refuse : MethodName := ⟨RX0, "refuse", "(I)I"⟩
def dkwX0_refuse_0 : List UInt8 := [42, 27, 181, 0, 1, 42, 180, 0, 7, 27, 116, 92, 46, 4, 96, 79, 27, 172]
abbrev dktX0_refuse_0 : List UInt8 := dkwX0_refuse_0 ++ []
theorem dksX0_refuse_0 : cX0_refuse.data.toList.drop 0 = dktX0_refuse_0 := by decide +kernel
theorem dX0_refuse_0 : decode cX0_refuse 0 = .ok (.aload_n 0, 1) := dk_42 (dk_at dksX0_refuse_0 0 rfl rfl)
theorem dX0_refuse_1 : decode cX0_refuse 1 = .ok (.iload_n 1, 1) := dk_27 (dk_at dksX0_refuse_0 1 rfl rfl)
theorem dX0_refuse_2 : decode cX0_refuse 2 = .ok (.putfield 1, 3) := dk_181 0 1 (dk_at dksX0_refuse_0 2 rfl rfl)
theorem dX0_refuse_5 : decode cX0_refuse 5 = .ok (.aload_n 0, 1) := dk_42 (dk_at dksX0_refuse_0 5 rfl rfl)
theorem dX0_refuse_6 : decode cX0_refuse 6 = .ok (.getfield 7, 3) := dk_180 0 7 (dk_at dksX0_refuse_0 6 rfl rfl)
theorem dX0_refuse_9 : decode cX0_refuse 9 = .ok (.iload_n 1, 1) := dk_27 (dk_at dksX0_refuse_0 9 rfl rfl)
theorem dX0_refuse_10 : decode cX0_refuse 10 = .ok (.ineg, 1) := dk_116 (dk_at dksX0_refuse_0 10 rfl rfl)
theorem dX0_refuse_11 : decode cX0_refuse 11 = .ok (.dup2, 1) := dk_92 (dk_at dksX0_refuse_0 11 rfl rfl)
theorem dX0_refuse_12 : decode cX0_refuse 12 = .ok (.iaload, 1) := dk_46 (dk_at dksX0_refuse_0 12 rfl rfl)
theorem dX0_refuse_13 : decode cX0_refuse 13 = .ok (.iconst 1, 1) := dk_4 (dk_at dksX0_refuse_0 13 rfl rfl)
theorem dX0_refuse_14 : decode cX0_refuse 14 = .ok (.iadd, 1) := dk_96 (dk_at dksX0_refuse_0 14 rfl rfl)
theorem dX0_refuse_15 : decode cX0_refuse 15 = .ok (.iastore, 1) := dk_79 (dk_at dksX0_refuse_0 15 rfl rfl)
theorem dX0_refuse_16 : decode cX0_refuse 16 = .ok (.iload_n 1, 1) := dk_27 (dk_at dksX0_refuse_0 16 rfl rfl)
theorem dX0_refuse_17 : decode cX0_refuse 17 = .ok (.ireturn, 1) := dk_172 (dk_at dksX0_refuse_0 17 rfl rfl)
abbrev cX0_done : ByteArray := prog_1_method_2_code
def yX0_done : MethodName := ⟨RX0, "done", "(I)I"⟩
def dkwX0_done_0 : List UInt8 := [42, 3, 181, 0, 1, 27, 172]
abbrev dktX0_done_0 : List UInt8 := dkwX0_done_0 ++ []
theorem dksX0_done_0 : cX0_done.data.toList.drop 0 = dktX0_done_0 := by decide +kernel
theorem dX0_done_0 : decode cX0_done 0 = .ok (.aload_n 0, 1) := dk_42 (dk_at dksX0_done_0 0 rfl rfl)
theorem dX0_done_1 : decode cX0_done 1 = .ok (.iconst 0, 1) := dk_3 (dk_at dksX0_done_0 1 rfl rfl)
theorem dX0_done_2 : decode cX0_done 2 = .ok (.putfield 1, 3) := dk_181 0 1 (dk_at dksX0_done_0 2 rfl rfl)
theorem dX0_done_5 : decode cX0_done 5 = .ok (.iload_n 1, 1) := dk_27 (dk_at dksX0_done_0 5 rfl rfl)
theorem dX0_done_6 : decode cX0_done 6 = .ok (.ireturn, 1) := dk_172 (dk_at dksX0_done_0 6 rfl rfl)
abbrev cX0_back : ByteArray := prog_1_method_16_code
def yX0_back : MethodName := ⟨RX0, "back", "(I)I"⟩
def dkwX0_back_2 : List UInt8 := [182, 0, 137, 172]
abbrev dktX0_back_2 : List UInt8 := dkwX0_back_2 ++ []
def dkwX0_back_1 : List UInt8 := [42, 16, 254, 182, 0, 130, 172, 42, 180, 0, 39, 42, 180, 0, 43, 27, 50, 182, 0, 133, 42, 3]
abbrev dktX0_back_1 : List UInt8 := dkwX0_back_1 ++ dktX0_back_2
def dkwX0_back_0 : List UInt8 := [27, 3, 4, 184, 0, 26, 154, 0, 9, 42, 2, 182, 0, 130, 172, 42, 180, 0, 43, 27, 50, 199, 0, 10]
abbrev dktX0_back_0 : List UInt8 := dkwX0_back_0 ++ dktX0_back_1
theorem dksX0_back_0 : cX0_back.data.toList.drop 0 = dktX0_back_0 := by decide +kernel
theorem dksX0_back_1 : cX0_back.data.toList.drop 24 = dktX0_back_1 := dk_seg dksX0_back_0 24 rfl rfl
theorem dksX0_back_2 : cX0_back.data.toList.drop 46 = dktX0_back_2 := dk_seg dksX0_back_1 22 rfl rfl
theorem dX0_back_0 : decode cX0_back 0 = .ok (.iload_n 1, 1) := dk_27 (dk_at dksX0_back_0 0 rfl rfl)
theorem dX0_back_1 : decode cX0_back 1 = .ok (.iconst 0, 1) := dk_3 (dk_at dksX0_back_0 1 rfl rfl)
theorem dX0_back_2 : decode cX0_back 2 = .ok (.iconst 1, 1) := dk_4 (dk_at dksX0_back_0 2 rfl rfl)
theorem dX0_back_3 : decode cX0_back 3 = .ok (.invokestatic 26, 3) := dk_184 0 26 (dk_at dksX0_back_0 3 rfl rfl)
theorem dX0_back_6 : decode cX0_back 6 = .ok (.ifCond .ne 9, 3) := dk_154 0 9 (dk_at dksX0_back_0 6 rfl rfl)
theorem dX0_back_9 : decode cX0_back 9 = .ok (.aload_n 0, 1) := dk_42 (dk_at dksX0_back_0 9 rfl rfl)
theorem dX0_back_10 : decode cX0_back 10 = .ok (.iconst (-1), 1) := dk_2 (dk_at dksX0_back_0 10 rfl rfl)
theorem dX0_back_11 : decode cX0_back 11 = .ok (.invokevirtual 130, 3) := dk_182 0 130 (dk_at dksX0_back_0 11 rfl rfl)
theorem dX0_back_14 : decode cX0_back 14 = .ok (.ireturn, 1) := dk_172 (dk_at dksX0_back_0 14 rfl rfl)
theorem dX0_back_15 : decode cX0_back 15 = .ok (.aload_n 0, 1) := dk_42 (dk_at dksX0_back_0 15 rfl rfl)
theorem dX0_back_16 : decode cX0_back 16 = .ok (.getfield 43, 3) := dk_180 0 43 (dk_at dksX0_back_0 16 rfl rfl)
theorem dX0_back_19 : decode cX0_back 19 = .ok (.iload_n 1, 1) := dk_27 (dk_at dksX0_back_0 19 rfl rfl)
theorem dX0_back_20 : decode cX0_back 20 = .ok (.aaload, 1) := dk_50 (dk_at dksX0_back_0 20 rfl rfl)
theorem dX0_back_21 : decode cX0_back 21 = .ok (.ifnonnull 10, 3) := dk_199 0 10 (dk_at dksX0_back_0 21 rfl rfl)
theorem dX0_back_24 : decode cX0_back 24 = .ok (.aload_n 0, 1) := dk_42 (dk_at dksX0_back_1 0 rfl rfl)
theorem dX0_back_25 : decode cX0_back 25 = .ok (.bipush (-2), 2) := dk_16 254 (dk_at dksX0_back_1 1 rfl rfl)
theorem dX0_back_27 : decode cX0_back 27 = .ok (.invokevirtual 130, 3) := dk_182 0 130 (dk_at dksX0_back_1 3 rfl rfl)
theorem dX0_back_30 : decode cX0_back 30 = .ok (.ireturn, 1) := dk_172 (dk_at dksX0_back_1 6 rfl rfl)
theorem dX0_back_31 : decode cX0_back 31 = .ok (.aload_n 0, 1) := dk_42 (dk_at dksX0_back_1 7 rfl rfl)
theorem dX0_back_32 : decode cX0_back 32 = .ok (.getfield 39, 3) := dk_180 0 39 (dk_at dksX0_back_1 8 rfl rfl)
theorem dX0_back_35 : decode cX0_back 35 = .ok (.aload_n 0, 1) := dk_42 (dk_at dksX0_back_1 11 rfl rfl)
theorem dX0_back_36 : decode cX0_back 36 = .ok (.getfield 43, 3) := dk_180 0 43 (dk_at dksX0_back_1 12 rfl rfl)
theorem dX0_back_39 : decode cX0_back 39 = .ok (.iload_n 1, 1) := dk_27 (dk_at dksX0_back_1 15 rfl rfl)
theorem dX0_back_40 : decode cX0_back 40 = .ok (.aaload, 1) := dk_50 (dk_at dksX0_back_1 16 rfl rfl)
theorem dX0_back_41 : decode cX0_back 41 = .ok (.invokevirtual 133, 3) := dk_182 0 133 (dk_at dksX0_back_1 17 rfl rfl)
theorem dX0_back_44 : decode cX0_back 44 = .ok (.aload_n 0, 1) := dk_42 (dk_at dksX0_back_1 20 rfl rfl)
theorem dX0_back_45 : decode cX0_back 45 = .ok (.iconst 0, 1) := dk_3 (dk_at dksX0_back_1 21 rfl rfl)
theorem dX0_back_46 : decode cX0_back 46 = .ok (.invokevirtual 137, 3) := dk_182 0 137 (dk_at dksX0_back_2 0 rfl rfl)
theorem dX0_back_49 : decode cX0_back 49 = .ok (.ireturn, 1) := dk_172 (dk_at dksX0_back_2 3 rfl rfl)
abbrev cX0_settled : ByteArray := prog_1_method_13_code
def yX0_settled : MethodName := ⟨RX0, "settled", "(I)I"⟩
def dkwX0_settled_0 : List UInt8 := [42, 3, 181, 0, 121, 42, 27, 182, 0, 124, 172]
abbrev dktX0_settled_0 : List UInt8 := dkwX0_settled_0 ++ []
theorem dksX0_settled_0 : cX0_settled.data.toList.drop 0 = dktX0_settled_0 := by decide +kernel
theorem dX0_settled_0 : decode cX0_settled 0 = .ok (.aload_n 0, 1) := dk_42 (dk_at dksX0_settled_0 0 rfl rfl)
theorem dX0_settled_1 : decode cX0_settled 1 = .ok (.iconst 0, 1) := dk_3 (dk_at dksX0_settled_0 1 rfl rfl)
theorem dX0_settled_2 : decode cX0_settled 2 = .ok (.putfield 121, 3) := dk_181 0 121 (dk_at dksX0_settled_0 2 rfl rfl)
theorem dX0_settled_5 : decode cX0_settled 5 = .ok (.aload_n 0, 1) := dk_42 (dk_at dksX0_settled_0 5 rfl rfl)
theorem dX0_settled_6 : decode cX0_settled 6 = .ok (.iload_n 1, 1) := dk_27 (dk_at dksX0_settled_0 6 rfl rfl)
theorem dX0_settled_7 : decode cX0_settled 7 = .ok (.invokevirtual 124, 3) := dk_182 0 124 (dk_at dksX0_settled_0 7 rfl rfl)
theorem dX0_settled_10 : decode cX0_settled 10 = .ok (.ireturn, 1) := dk_172 (dk_at dksX0_settled_0 10 rfl rfl)
abbrev cX0_put : ByteArray := prog_1_method_19_code
def yX0_put : MethodName := ⟨RX0, "put", "(III)I"⟩
def dkwX0_put_1 : List UInt8 := [182, 0, 157, 27, 46, 54, 4, 42, 28, 182, 0, 157, 27, 29, 79, 42, 21, 4, 182, 0, 137, 172]
abbrev dktX0_put_1 : List UInt8 := dkwX0_put_1 ++ []
def dkwX0_put_0 : List UInt8 := [27, 184, 0, 149, 153, 0, 11, 28, 29, 184, 0, 153, 154, 0, 9, 42, 2, 182, 0, 130, 172, 42, 28]
abbrev dktX0_put_0 : List UInt8 := dkwX0_put_0 ++ dktX0_put_1
theorem dksX0_put_0 : cX0_put.data.toList.drop 0 = dktX0_put_0 := by decide +kernel
theorem dksX0_put_1 : cX0_put.data.toList.drop 23 = dktX0_put_1 := dk_seg dksX0_put_0 23 rfl rfl
theorem dX0_put_0 : decode cX0_put 0 = .ok (.iload_n 1, 1) := dk_27 (dk_at dksX0_put_0 0 rfl rfl)
theorem dX0_put_1 : decode cX0_put 1 = .ok (.invokestatic 149, 3) := dk_184 0 149 (dk_at dksX0_put_0 1 rfl rfl)
theorem dX0_put_4 : decode cX0_put 4 = .ok (.ifCond .eq 11, 3) := dk_153 0 11 (dk_at dksX0_put_0 4 rfl rfl)
theorem dX0_put_7 : decode cX0_put 7 = .ok (.iload_n 2, 1) := dk_28 (dk_at dksX0_put_0 7 rfl rfl)
theorem dX0_put_8 : decode cX0_put 8 = .ok (.iload_n 3, 1) := dk_29 (dk_at dksX0_put_0 8 rfl rfl)
theorem dX0_put_9 : decode cX0_put 9 = .ok (.invokestatic 153, 3) := dk_184 0 153 (dk_at dksX0_put_0 9 rfl rfl)
theorem dX0_put_12 : decode cX0_put 12 = .ok (.ifCond .ne 9, 3) := dk_154 0 9 (dk_at dksX0_put_0 12 rfl rfl)
theorem dX0_put_15 : decode cX0_put 15 = .ok (.aload_n 0, 1) := dk_42 (dk_at dksX0_put_0 15 rfl rfl)
theorem dX0_put_16 : decode cX0_put 16 = .ok (.iconst (-1), 1) := dk_2 (dk_at dksX0_put_0 16 rfl rfl)
theorem dX0_put_17 : decode cX0_put 17 = .ok (.invokevirtual 130, 3) := dk_182 0 130 (dk_at dksX0_put_0 17 rfl rfl)
theorem dX0_put_20 : decode cX0_put 20 = .ok (.ireturn, 1) := dk_172 (dk_at dksX0_put_0 20 rfl rfl)
theorem dX0_put_21 : decode cX0_put 21 = .ok (.aload_n 0, 1) := dk_42 (dk_at dksX0_put_0 21 rfl rfl)
theorem dX0_put_22 : decode cX0_put 22 = .ok (.iload_n 2, 1) := dk_28 (dk_at dksX0_put_0 22 rfl rfl)
theorem dX0_put_23 : decode cX0_put 23 = .ok (.invokevirtual 157, 3) := dk_182 0 157 (dk_at dksX0_put_1 0 rfl rfl)
theorem dX0_put_26 : decode cX0_put 26 = .ok (.iload_n 1, 1) := dk_27 (dk_at dksX0_put_1 3 rfl rfl)
theorem dX0_put_27 : decode cX0_put 27 = .ok (.iaload, 1) := dk_46 (dk_at dksX0_put_1 4 rfl rfl)
theorem dX0_put_28 : decode cX0_put 28 = .ok (.istore 4, 2) := dk_54 4 (dk_at dksX0_put_1 5 rfl rfl)
theorem dX0_put_30 : decode cX0_put 30 = .ok (.aload_n 0, 1) := dk_42 (dk_at dksX0_put_1 7 rfl rfl)
theorem dX0_put_31 : decode cX0_put 31 = .ok (.iload_n 2, 1) := dk_28 (dk_at dksX0_put_1 8 rfl rfl)
theorem dX0_put_32 : decode cX0_put 32 = .ok (.invokevirtual 157, 3) := dk_182 0 157 (dk_at dksX0_put_1 9 rfl rfl)
theorem dX0_put_35 : decode cX0_put 35 = .ok (.iload_n 1, 1) := dk_27 (dk_at dksX0_put_1 12 rfl rfl)
theorem dX0_put_36 : decode cX0_put 36 = .ok (.iload_n 3, 1) := dk_29 (dk_at dksX0_put_1 13 rfl rfl)
theorem dX0_put_37 : decode cX0_put 37 = .ok (.iastore, 1) := dk_79 (dk_at dksX0_put_1 14 rfl rfl)
theorem dX0_put_38 : decode cX0_put 38 = .ok (.aload_n 0, 1) := dk_42 (dk_at dksX0_put_1 15 rfl rfl)
theorem dX0_put_39 : decode cX0_put 39 = .ok (.iload 4, 2) := dk_21 4 (dk_at dksX0_put_1 16 rfl rfl)
theorem dX0_put_41 : decode cX0_put 41 = .ok (.invokevirtual 137, 3) := dk_182 0 137 (dk_at dksX0_put_1 18 rfl rfl)
theorem dX0_put_44 : decode cX0_put 44 = .ok (.ireturn, 1) := dk_172 (dk_at dksX0_put_1 21 rfl rfl)
abbrev cX0_isRoom : ByteArray := prog_1_method_7_code
def yX0_isRoom : MethodName := ⟨RX0, "isRoom", "(I)Z"⟩
def dkwX0_isRoom_0 : List UInt8 := [26, 3, 16, 15, 184, 0, 26, 172]
abbrev dktX0_isRoom_0 : List UInt8 := dkwX0_isRoom_0 ++ []
theorem dksX0_isRoom_0 : cX0_isRoom.data.toList.drop 0 = dktX0_isRoom_0 := by decide +kernel
theorem dX0_isRoom_0 : decode cX0_isRoom 0 = .ok (.iload_n 0, 1) := dk_26 (dk_at dksX0_isRoom_0 0 rfl rfl)
theorem dX0_isRoom_1 : decode cX0_isRoom 1 = .ok (.iconst 0, 1) := dk_3 (dk_at dksX0_isRoom_0 1 rfl rfl)
theorem dX0_isRoom_2 : decode cX0_isRoom 2 = .ok (.bipush 15, 2) := dk_16 15 (dk_at dksX0_isRoom_0 2 rfl rfl)
theorem dX0_isRoom_4 : decode cX0_isRoom 4 = .ok (.invokestatic 26, 3) := dk_184 0 26 (dk_at dksX0_isRoom_0 4 rfl rfl)
theorem dX0_isRoom_7 : decode cX0_isRoom 7 = .ok (.ireturn, 1) := dk_172 (dk_at dksX0_isRoom_0 7 rfl rfl)
abbrev cX0_isPut : ByteArray := prog_1_method_17_code
def yX0_isPut : MethodName := ⟨RX0, "isPut", "(II)Z"⟩
def dkwX0_isPut_1 : List UInt8 := [184, 0, 26, 153, 0, 7, 4, 167, 0, 4, 3, 172]
abbrev dktX0_isPut_1 : List UInt8 := dkwX0_isPut_1 ++ []
def dkwX0_isPut_0 : List UInt8 := [26, 3, 5, 184, 0, 26, 153, 0, 26, 27, 26, 5, 160, 0, 7, 4, 167, 0, 4, 3, 16, 9]
abbrev dktX0_isPut_0 : List UInt8 := dkwX0_isPut_0 ++ dktX0_isPut_1
theorem dksX0_isPut_0 : cX0_isPut.data.toList.drop 0 = dktX0_isPut_0 := by decide +kernel
theorem dksX0_isPut_1 : cX0_isPut.data.toList.drop 22 = dktX0_isPut_1 := dk_seg dksX0_isPut_0 22 rfl rfl
theorem dX0_isPut_0 : decode cX0_isPut 0 = .ok (.iload_n 0, 1) := dk_26 (dk_at dksX0_isPut_0 0 rfl rfl)
theorem dX0_isPut_1 : decode cX0_isPut 1 = .ok (.iconst 0, 1) := dk_3 (dk_at dksX0_isPut_0 1 rfl rfl)
theorem dX0_isPut_2 : decode cX0_isPut 2 = .ok (.iconst 2, 1) := dk_5 (dk_at dksX0_isPut_0 2 rfl rfl)
theorem dX0_isPut_3 : decode cX0_isPut 3 = .ok (.invokestatic 26, 3) := dk_184 0 26 (dk_at dksX0_isPut_0 3 rfl rfl)
theorem dX0_isPut_6 : decode cX0_isPut 6 = .ok (.ifCond .eq 26, 3) := dk_153 0 26 (dk_at dksX0_isPut_0 6 rfl rfl)
theorem dX0_isPut_9 : decode cX0_isPut 9 = .ok (.iload_n 1, 1) := dk_27 (dk_at dksX0_isPut_0 9 rfl rfl)
theorem dX0_isPut_10 : decode cX0_isPut 10 = .ok (.iload_n 0, 1) := dk_26 (dk_at dksX0_isPut_0 10 rfl rfl)
theorem dX0_isPut_11 : decode cX0_isPut 11 = .ok (.iconst 2, 1) := dk_5 (dk_at dksX0_isPut_0 11 rfl rfl)
theorem dX0_isPut_12 : decode cX0_isPut 12 = .ok (.if_icmp .ne 7, 3) := dk_160 0 7 (dk_at dksX0_isPut_0 12 rfl rfl)
theorem dX0_isPut_15 : decode cX0_isPut 15 = .ok (.iconst 1, 1) := dk_4 (dk_at dksX0_isPut_0 15 rfl rfl)
theorem dX0_isPut_16 : decode cX0_isPut 16 = .ok (.goto 4, 3) := dk_167 0 4 (dk_at dksX0_isPut_0 16 rfl rfl)
theorem dX0_isPut_19 : decode cX0_isPut 19 = .ok (.iconst 0, 1) := dk_3 (dk_at dksX0_isPut_0 19 rfl rfl)
theorem dX0_isPut_20 : decode cX0_isPut 20 = .ok (.bipush 9, 2) := dk_16 9 (dk_at dksX0_isPut_0 20 rfl rfl)
theorem dX0_isPut_22 : decode cX0_isPut 22 = .ok (.invokestatic 26, 3) := dk_184 0 26 (dk_at dksX0_isPut_1 0 rfl rfl)
theorem dX0_isPut_25 : decode cX0_isPut 25 = .ok (.ifCond .eq 7, 3) := dk_153 0 7 (dk_at dksX0_isPut_1 3 rfl rfl)
theorem dX0_isPut_28 : decode cX0_isPut 28 = .ok (.iconst 1, 1) := dk_4 (dk_at dksX0_isPut_1 6 rfl rfl)
theorem dX0_isPut_29 : decode cX0_isPut 29 = .ok (.goto 4, 3) := dk_167 0 4 (dk_at dksX0_isPut_1 7 rfl rfl)
theorem dX0_isPut_32 : decode cX0_isPut 32 = .ok (.iconst 0, 1) := dk_3 (dk_at dksX0_isPut_1 10 rfl rfl)
theorem dX0_isPut_33 : decode cX0_isPut 33 = .ok (.ireturn, 1) := dk_172 (dk_at dksX0_isPut_1 11 rfl rfl)
abbrev cX0_rowOf : ByteArray := prog_1_method_18_code
def yX0_rowOf : MethodName := ⟨RX0, "rowOf", "(I)[I"⟩
def dkwX0_rowOf_1 : List UInt8 := [180, 0, 143, 167, 0, 10, 42, 180, 0, 39, 180, 0, 146, 176]
abbrev dktX0_rowOf_1 : List UInt8 := dkwX0_rowOf_1 ++ []
def dkwX0_rowOf_0 : List UInt8 := [27, 154, 0, 13, 42, 180, 0, 39, 180, 0, 140, 167, 0, 25, 27, 4, 160, 0, 13, 42, 180, 0, 39]
abbrev dktX0_rowOf_0 : List UInt8 := dkwX0_rowOf_0 ++ dktX0_rowOf_1
theorem dksX0_rowOf_0 : cX0_rowOf.data.toList.drop 0 = dktX0_rowOf_0 := by decide +kernel
theorem dksX0_rowOf_1 : cX0_rowOf.data.toList.drop 23 = dktX0_rowOf_1 := dk_seg dksX0_rowOf_0 23 rfl rfl
theorem dX0_rowOf_0 : decode cX0_rowOf 0 = .ok (.iload_n 1, 1) := dk_27 (dk_at dksX0_rowOf_0 0 rfl rfl)
theorem dX0_rowOf_1 : decode cX0_rowOf 1 = .ok (.ifCond .ne 13, 3) := dk_154 0 13 (dk_at dksX0_rowOf_0 1 rfl rfl)
theorem dX0_rowOf_4 : decode cX0_rowOf 4 = .ok (.aload_n 0, 1) := dk_42 (dk_at dksX0_rowOf_0 4 rfl rfl)
theorem dX0_rowOf_5 : decode cX0_rowOf 5 = .ok (.getfield 39, 3) := dk_180 0 39 (dk_at dksX0_rowOf_0 5 rfl rfl)
theorem dX0_rowOf_8 : decode cX0_rowOf 8 = .ok (.getfield 140, 3) := dk_180 0 140 (dk_at dksX0_rowOf_0 8 rfl rfl)
theorem dX0_rowOf_11 : decode cX0_rowOf 11 = .ok (.goto 25, 3) := dk_167 0 25 (dk_at dksX0_rowOf_0 11 rfl rfl)
theorem dX0_rowOf_14 : decode cX0_rowOf 14 = .ok (.iload_n 1, 1) := dk_27 (dk_at dksX0_rowOf_0 14 rfl rfl)
theorem dX0_rowOf_15 : decode cX0_rowOf 15 = .ok (.iconst 1, 1) := dk_4 (dk_at dksX0_rowOf_0 15 rfl rfl)
theorem dX0_rowOf_16 : decode cX0_rowOf 16 = .ok (.if_icmp .ne 13, 3) := dk_160 0 13 (dk_at dksX0_rowOf_0 16 rfl rfl)
theorem dX0_rowOf_19 : decode cX0_rowOf 19 = .ok (.aload_n 0, 1) := dk_42 (dk_at dksX0_rowOf_0 19 rfl rfl)
theorem dX0_rowOf_20 : decode cX0_rowOf 20 = .ok (.getfield 39, 3) := dk_180 0 39 (dk_at dksX0_rowOf_0 20 rfl rfl)
theorem dX0_rowOf_23 : decode cX0_rowOf 23 = .ok (.getfield 143, 3) := dk_180 0 143 (dk_at dksX0_rowOf_1 0 rfl rfl)
theorem dX0_rowOf_26 : decode cX0_rowOf 26 = .ok (.goto 10, 3) := dk_167 0 10 (dk_at dksX0_rowOf_1 3 rfl rfl)
theorem dX0_rowOf_29 : decode cX0_rowOf 29 = .ok (.aload_n 0, 1) := dk_42 (dk_at dksX0_rowOf_1 6 rfl rfl)
theorem dX0_rowOf_30 : decode cX0_rowOf 30 = .ok (.getfield 39, 3) := dk_180 0 39 (dk_at dksX0_rowOf_1 7 rfl rfl)
theorem dX0_rowOf_33 : decode cX0_rowOf 33 = .ok (.getfield 146, 3) := dk_180 0 146 (dk_at dksX0_rowOf_1 10 rfl rfl)
theorem dX0_rowOf_36 : decode cX0_rowOf 36 = .ok (.areturn, 1) := dk_176 (dk_at dksX0_rowOf_1 13 rfl rfl)
abbrev cX0_at : ByteArray := prog_1_method_20_code
def yX0_at : MethodName := ⟨RX0, "at", "(II)I"⟩
def dkwX0_at_5 : List UInt8 := [153, 0, 12, 42, 45, 27, 182, 0, 184, 167, 0, 4, 3, 172, 2, 172]
abbrev dktX0_at_5 : List UInt8 := dkwX0_at_5 ++ []
def dkwX0_at_4 : List UInt8 := [45, 27, 182, 0, 177, 153, 0, 12, 42, 45, 27, 182, 0, 180, 167, 0, 4, 2, 172, 45, 27, 182, 0, 177]
abbrev dktX0_at_4 : List UInt8 := dkwX0_at_4 ++ dktX0_at_5
def dkwX0_at_3 : List UInt8 := [180, 0, 170, 27, 46, 172, 42, 180, 0, 39, 45, 27, 182, 0, 173, 153, 0, 7, 4, 167, 0, 4, 3, 172]
abbrev dktX0_at_3 : List UInt8 := dkwX0_at_3 ++ dktX0_at_4
def dkwX0_at_2 : List UInt8 := [42, 28, 182, 0, 157, 27, 46, 172, 45, 180, 0, 164, 27, 46, 172, 45, 180, 0, 167, 27, 46, 172, 45]
abbrev dktX0_at_2 : List UInt8 := dkwX0_at_2 ++ dktX0_at_3
def dkwX0_at_1 : List UInt8 := [170, 0, 0, 0, 134, 0, 0, 0, 0, 0, 0, 0, 8, 0, 0, 0, 49, 0, 0, 0, 49, 0, 0, 0, 49, 0, 0, 0, 57, 0, 0, 0, 64, 0, 0, 0, 71, 0, 0, 0, 78, 0, 0, 0, 96, 0, 0, 0, 115]
abbrev dktX0_at_1 : List UInt8 := dkwX0_at_1 ++ dktX0_at_2
def dkwX0_at_0 : List UInt8 := [27, 184, 0, 149, 154, 0, 5, 2, 172, 42, 182, 0, 161, 78, 28]
abbrev dktX0_at_0 : List UInt8 := dkwX0_at_0 ++ dktX0_at_1
theorem dksX0_at_0 : cX0_at.data.toList.drop 0 = dktX0_at_0 := by decide +kernel
theorem dksX0_at_1 : cX0_at.data.toList.drop 15 = dktX0_at_1 := dk_seg dksX0_at_0 15 rfl rfl
theorem dksX0_at_2 : cX0_at.data.toList.drop 64 = dktX0_at_2 := dk_seg dksX0_at_1 49 rfl rfl
theorem dksX0_at_3 : cX0_at.data.toList.drop 87 = dktX0_at_3 := dk_seg dksX0_at_2 23 rfl rfl
theorem dksX0_at_4 : cX0_at.data.toList.drop 111 = dktX0_at_4 := dk_seg dksX0_at_3 24 rfl rfl
theorem dksX0_at_5 : cX0_at.data.toList.drop 135 = dktX0_at_5 := dk_seg dksX0_at_4 24 rfl rfl
theorem dX0_at_0 : decode cX0_at 0 = .ok (.iload_n 1, 1) := dk_27 (dk_at dksX0_at_0 0 rfl rfl)
theorem dX0_at_1 : decode cX0_at 1 = .ok (.invokestatic 149, 3) := dk_184 0 149 (dk_at dksX0_at_0 1 rfl rfl)
theorem dX0_at_4 : decode cX0_at 4 = .ok (.ifCond .ne 5, 3) := dk_154 0 5 (dk_at dksX0_at_0 4 rfl rfl)
theorem dX0_at_7 : decode cX0_at 7 = .ok (.iconst (-1), 1) := dk_2 (dk_at dksX0_at_0 7 rfl rfl)
theorem dX0_at_8 : decode cX0_at 8 = .ok (.ireturn, 1) := dk_172 (dk_at dksX0_at_0 8 rfl rfl)
theorem dX0_at_9 : decode cX0_at 9 = .ok (.aload_n 0, 1) := dk_42 (dk_at dksX0_at_0 9 rfl rfl)
theorem dX0_at_10 : decode cX0_at 10 = .ok (.invokevirtual 161, 3) := dk_182 0 161 (dk_at dksX0_at_0 10 rfl rfl)
theorem dX0_at_13 : decode cX0_at 13 = .ok (.astore_n 3, 1) := dk_78 (dk_at dksX0_at_0 13 rfl rfl)
theorem dX0_at_14 : decode cX0_at 14 = .ok (.iload_n 2, 1) := dk_28 (dk_at dksX0_at_0 14 rfl rfl)
theorem dX0_at_15 : decode cX0_at 15 = .ok (.tableswitch 134 0 8 #[49, 49, 49, 57, 64, 71, 78, 96, 115], 49) := by decide +kernel
theorem dX0_at_64 : decode cX0_at 64 = .ok (.aload_n 0, 1) := dk_42 (dk_at dksX0_at_2 0 rfl rfl)
theorem dX0_at_65 : decode cX0_at 65 = .ok (.iload_n 2, 1) := dk_28 (dk_at dksX0_at_2 1 rfl rfl)
theorem dX0_at_66 : decode cX0_at 66 = .ok (.invokevirtual 157, 3) := dk_182 0 157 (dk_at dksX0_at_2 2 rfl rfl)
theorem dX0_at_69 : decode cX0_at 69 = .ok (.iload_n 1, 1) := dk_27 (dk_at dksX0_at_2 5 rfl rfl)
theorem dX0_at_70 : decode cX0_at 70 = .ok (.iaload, 1) := dk_46 (dk_at dksX0_at_2 6 rfl rfl)
theorem dX0_at_71 : decode cX0_at 71 = .ok (.ireturn, 1) := dk_172 (dk_at dksX0_at_2 7 rfl rfl)
theorem dX0_at_72 : decode cX0_at 72 = .ok (.aload_n 3, 1) := dk_45 (dk_at dksX0_at_2 8 rfl rfl)
theorem dX0_at_73 : decode cX0_at 73 = .ok (.getfield 164, 3) := dk_180 0 164 (dk_at dksX0_at_2 9 rfl rfl)
theorem dX0_at_76 : decode cX0_at 76 = .ok (.iload_n 1, 1) := dk_27 (dk_at dksX0_at_2 12 rfl rfl)
theorem dX0_at_77 : decode cX0_at 77 = .ok (.iaload, 1) := dk_46 (dk_at dksX0_at_2 13 rfl rfl)
theorem dX0_at_78 : decode cX0_at 78 = .ok (.ireturn, 1) := dk_172 (dk_at dksX0_at_2 14 rfl rfl)
theorem dX0_at_79 : decode cX0_at 79 = .ok (.aload_n 3, 1) := dk_45 (dk_at dksX0_at_2 15 rfl rfl)
theorem dX0_at_80 : decode cX0_at 80 = .ok (.getfield 167, 3) := dk_180 0 167 (dk_at dksX0_at_2 16 rfl rfl)
theorem dX0_at_83 : decode cX0_at 83 = .ok (.iload_n 1, 1) := dk_27 (dk_at dksX0_at_2 19 rfl rfl)
theorem dX0_at_84 : decode cX0_at 84 = .ok (.iaload, 1) := dk_46 (dk_at dksX0_at_2 20 rfl rfl)
theorem dX0_at_85 : decode cX0_at 85 = .ok (.ireturn, 1) := dk_172 (dk_at dksX0_at_2 21 rfl rfl)
theorem dX0_at_86 : decode cX0_at 86 = .ok (.aload_n 3, 1) := dk_45 (dk_at dksX0_at_2 22 rfl rfl)
theorem dX0_at_87 : decode cX0_at 87 = .ok (.getfield 170, 3) := dk_180 0 170 (dk_at dksX0_at_3 0 rfl rfl)
theorem dX0_at_90 : decode cX0_at 90 = .ok (.iload_n 1, 1) := dk_27 (dk_at dksX0_at_3 3 rfl rfl)
theorem dX0_at_91 : decode cX0_at 91 = .ok (.iaload, 1) := dk_46 (dk_at dksX0_at_3 4 rfl rfl)
theorem dX0_at_92 : decode cX0_at 92 = .ok (.ireturn, 1) := dk_172 (dk_at dksX0_at_3 5 rfl rfl)
theorem dX0_at_93 : decode cX0_at 93 = .ok (.aload_n 0, 1) := dk_42 (dk_at dksX0_at_3 6 rfl rfl)
theorem dX0_at_94 : decode cX0_at 94 = .ok (.getfield 39, 3) := dk_180 0 39 (dk_at dksX0_at_3 7 rfl rfl)
theorem dX0_at_97 : decode cX0_at 97 = .ok (.aload_n 3, 1) := dk_45 (dk_at dksX0_at_3 10 rfl rfl)
theorem dX0_at_98 : decode cX0_at 98 = .ok (.iload_n 1, 1) := dk_27 (dk_at dksX0_at_3 11 rfl rfl)
theorem dX0_at_99 : decode cX0_at 99 = .ok (.invokevirtual 173, 3) := dk_182 0 173 (dk_at dksX0_at_3 12 rfl rfl)
theorem dX0_at_102 : decode cX0_at 102 = .ok (.ifCond .eq 7, 3) := dk_153 0 7 (dk_at dksX0_at_3 15 rfl rfl)
theorem dX0_at_105 : decode cX0_at 105 = .ok (.iconst 1, 1) := dk_4 (dk_at dksX0_at_3 18 rfl rfl)
theorem dX0_at_106 : decode cX0_at 106 = .ok (.goto 4, 3) := dk_167 0 4 (dk_at dksX0_at_3 19 rfl rfl)
theorem dX0_at_109 : decode cX0_at 109 = .ok (.iconst 0, 1) := dk_3 (dk_at dksX0_at_3 22 rfl rfl)
theorem dX0_at_110 : decode cX0_at 110 = .ok (.ireturn, 1) := dk_172 (dk_at dksX0_at_3 23 rfl rfl)
theorem dX0_at_111 : decode cX0_at 111 = .ok (.aload_n 3, 1) := dk_45 (dk_at dksX0_at_4 0 rfl rfl)
theorem dX0_at_112 : decode cX0_at 112 = .ok (.iload_n 1, 1) := dk_27 (dk_at dksX0_at_4 1 rfl rfl)
theorem dX0_at_113 : decode cX0_at 113 = .ok (.invokevirtual 177, 3) := dk_182 0 177 (dk_at dksX0_at_4 2 rfl rfl)
theorem dX0_at_116 : decode cX0_at 116 = .ok (.ifCond .eq 12, 3) := dk_153 0 12 (dk_at dksX0_at_4 5 rfl rfl)
theorem dX0_at_119 : decode cX0_at 119 = .ok (.aload_n 0, 1) := dk_42 (dk_at dksX0_at_4 8 rfl rfl)
theorem dX0_at_120 : decode cX0_at 120 = .ok (.aload_n 3, 1) := dk_45 (dk_at dksX0_at_4 9 rfl rfl)
theorem dX0_at_121 : decode cX0_at 121 = .ok (.iload_n 1, 1) := dk_27 (dk_at dksX0_at_4 10 rfl rfl)
theorem dX0_at_122 : decode cX0_at 122 = .ok (.invokevirtual 180, 3) := dk_182 0 180 (dk_at dksX0_at_4 11 rfl rfl)
theorem dX0_at_125 : decode cX0_at 125 = .ok (.goto 4, 3) := dk_167 0 4 (dk_at dksX0_at_4 14 rfl rfl)
theorem dX0_at_128 : decode cX0_at 128 = .ok (.iconst (-1), 1) := dk_2 (dk_at dksX0_at_4 17 rfl rfl)
theorem dX0_at_129 : decode cX0_at 129 = .ok (.ireturn, 1) := dk_172 (dk_at dksX0_at_4 18 rfl rfl)
theorem dX0_at_130 : decode cX0_at 130 = .ok (.aload_n 3, 1) := dk_45 (dk_at dksX0_at_4 19 rfl rfl)
theorem dX0_at_131 : decode cX0_at 131 = .ok (.iload_n 1, 1) := dk_27 (dk_at dksX0_at_4 20 rfl rfl)
theorem dX0_at_132 : decode cX0_at 132 = .ok (.invokevirtual 177, 3) := dk_182 0 177 (dk_at dksX0_at_4 21 rfl rfl)
theorem dX0_at_135 : decode cX0_at 135 = .ok (.ifCond .eq 12, 3) := dk_153 0 12 (dk_at dksX0_at_5 0 rfl rfl)
theorem dX0_at_138 : decode cX0_at 138 = .ok (.aload_n 0, 1) := dk_42 (dk_at dksX0_at_5 3 rfl rfl)
theorem dX0_at_139 : decode cX0_at 139 = .ok (.aload_n 3, 1) := dk_45 (dk_at dksX0_at_5 4 rfl rfl)
theorem dX0_at_140 : decode cX0_at 140 = .ok (.iload_n 1, 1) := dk_27 (dk_at dksX0_at_5 5 rfl rfl)
theorem dX0_at_141 : decode cX0_at 141 = .ok (.invokevirtual 184, 3) := dk_182 0 184 (dk_at dksX0_at_5 6 rfl rfl)
theorem dX0_at_144 : decode cX0_at 144 = .ok (.goto 4, 3) := dk_167 0 4 (dk_at dksX0_at_5 9 rfl rfl)
theorem dX0_at_147 : decode cX0_at 147 = .ok (.iconst 0, 1) := dk_3 (dk_at dksX0_at_5 12 rfl rfl)
theorem dX0_at_148 : decode cX0_at 148 = .ok (.ireturn, 1) := dk_172 (dk_at dksX0_at_5 13 rfl rfl)
theorem dX0_at_149 : decode cX0_at 149 = .ok (.iconst (-1), 1) := dk_2 (dk_at dksX0_at_5 14 rfl rfl)
theorem dX0_at_150 : decode cX0_at 150 = .ok (.ireturn, 1) := dk_172 (dk_at dksX0_at_5 15 rfl rfl)
abbrev cX0_table : ByteArray := prog_1_method_12_code
def yX0_table : MethodName := ⟨RX0, "table", "()LForestRooms$Table;"⟩
def dkwX0_table_0 : List UInt8 := [42, 180, 0, 39, 180, 0, 118, 176]
abbrev dktX0_table_0 : List UInt8 := dkwX0_table_0 ++ []
theorem dksX0_table_0 : cX0_table.data.toList.drop 0 = dktX0_table_0 := by decide +kernel
theorem dX0_table_0 : decode cX0_table 0 = .ok (.aload_n 0, 1) := dk_42 (dk_at dksX0_table_0 0 rfl rfl)
theorem dX0_table_1 : decode cX0_table 1 = .ok (.getfield 39, 3) := dk_180 0 39 (dk_at dksX0_table_0 1 rfl rfl)
theorem dX0_table_4 : decode cX0_table 4 = .ok (.getfield 118, 3) := dk_180 0 118 (dk_at dksX0_table_0 4 rfl rfl)
theorem dX0_table_7 : decode cX0_table 7 = .ok (.areturn, 1) := dk_176 (dk_at dksX0_table_0 7 rfl rfl)
abbrev cX0_grows : ByteArray := prog_1_method_36_code
def yX0_grows : MethodName := ⟨RX0, "grows", "(LForestRooms$Table;I)I"⟩
def dkwX0_grows_2 : List UInt8 := [172]
abbrev dktX0_grows_2 : List UInt8 := dkwX0_grows_2 ++ []
def dkwX0_grows_1 : List UInt8 := [180, 0, 39, 28, 43, 180, 0, 164, 28, 46, 182, 1, 32, 153, 0, 7, 6, 167, 0, 4, 3, 184, 1, 35]
abbrev dktX0_grows_1 : List UInt8 := dkwX0_grows_1 ++ dktX0_grows_2
def dkwX0_grows_0 : List UInt8 := [42, 3, 43, 28, 43, 180, 0, 164, 28, 46, 43, 180, 0, 167, 28, 46, 2, 182, 1, 28, 16, 20, 42]
abbrev dktX0_grows_0 : List UInt8 := dkwX0_grows_0 ++ dktX0_grows_1
theorem dksX0_grows_0 : cX0_grows.data.toList.drop 0 = dktX0_grows_0 := by decide +kernel
theorem dksX0_grows_1 : cX0_grows.data.toList.drop 23 = dktX0_grows_1 := dk_seg dksX0_grows_0 23 rfl rfl
theorem dksX0_grows_2 : cX0_grows.data.toList.drop 47 = dktX0_grows_2 := dk_seg dksX0_grows_1 24 rfl rfl
theorem dX0_grows_0 : decode cX0_grows 0 = .ok (.aload_n 0, 1) := dk_42 (dk_at dksX0_grows_0 0 rfl rfl)
theorem dX0_grows_1 : decode cX0_grows 1 = .ok (.iconst 0, 1) := dk_3 (dk_at dksX0_grows_0 1 rfl rfl)
theorem dX0_grows_2 : decode cX0_grows 2 = .ok (.aload_n 1, 1) := dk_43 (dk_at dksX0_grows_0 2 rfl rfl)
theorem dX0_grows_3 : decode cX0_grows 3 = .ok (.iload_n 2, 1) := dk_28 (dk_at dksX0_grows_0 3 rfl rfl)
theorem dX0_grows_4 : decode cX0_grows 4 = .ok (.aload_n 1, 1) := dk_43 (dk_at dksX0_grows_0 4 rfl rfl)
theorem dX0_grows_5 : decode cX0_grows 5 = .ok (.getfield 164, 3) := dk_180 0 164 (dk_at dksX0_grows_0 5 rfl rfl)
theorem dX0_grows_8 : decode cX0_grows 8 = .ok (.iload_n 2, 1) := dk_28 (dk_at dksX0_grows_0 8 rfl rfl)
theorem dX0_grows_9 : decode cX0_grows 9 = .ok (.iaload, 1) := dk_46 (dk_at dksX0_grows_0 9 rfl rfl)
theorem dX0_grows_10 : decode cX0_grows 10 = .ok (.aload_n 1, 1) := dk_43 (dk_at dksX0_grows_0 10 rfl rfl)
theorem dX0_grows_11 : decode cX0_grows 11 = .ok (.getfield 167, 3) := dk_180 0 167 (dk_at dksX0_grows_0 11 rfl rfl)
theorem dX0_grows_14 : decode cX0_grows 14 = .ok (.iload_n 2, 1) := dk_28 (dk_at dksX0_grows_0 14 rfl rfl)
theorem dX0_grows_15 : decode cX0_grows 15 = .ok (.iaload, 1) := dk_46 (dk_at dksX0_grows_0 15 rfl rfl)
theorem dX0_grows_16 : decode cX0_grows 16 = .ok (.iconst (-1), 1) := dk_2 (dk_at dksX0_grows_0 16 rfl rfl)
theorem dX0_grows_17 : decode cX0_grows 17 = .ok (.invokevirtual 284, 3) := dk_182 1 28 (dk_at dksX0_grows_0 17 rfl rfl)
theorem dX0_grows_20 : decode cX0_grows 20 = .ok (.bipush 20, 2) := dk_16 20 (dk_at dksX0_grows_0 20 rfl rfl)
theorem dX0_grows_22 : decode cX0_grows 22 = .ok (.aload_n 0, 1) := dk_42 (dk_at dksX0_grows_0 22 rfl rfl)
theorem dX0_grows_23 : decode cX0_grows 23 = .ok (.getfield 39, 3) := dk_180 0 39 (dk_at dksX0_grows_1 0 rfl rfl)
theorem dX0_grows_26 : decode cX0_grows 26 = .ok (.iload_n 2, 1) := dk_28 (dk_at dksX0_grows_1 3 rfl rfl)
theorem dX0_grows_27 : decode cX0_grows 27 = .ok (.aload_n 1, 1) := dk_43 (dk_at dksX0_grows_1 4 rfl rfl)
theorem dX0_grows_28 : decode cX0_grows 28 = .ok (.getfield 164, 3) := dk_180 0 164 (dk_at dksX0_grows_1 5 rfl rfl)
theorem dX0_grows_31 : decode cX0_grows 31 = .ok (.iload_n 2, 1) := dk_28 (dk_at dksX0_grows_1 8 rfl rfl)
theorem dX0_grows_32 : decode cX0_grows 32 = .ok (.iaload, 1) := dk_46 (dk_at dksX0_grows_1 9 rfl rfl)
theorem dX0_grows_33 : decode cX0_grows 33 = .ok (.invokevirtual 288, 3) := dk_182 1 32 (dk_at dksX0_grows_1 10 rfl rfl)
theorem dX0_grows_36 : decode cX0_grows 36 = .ok (.ifCond .eq 7, 3) := dk_153 0 7 (dk_at dksX0_grows_1 13 rfl rfl)
theorem dX0_grows_39 : decode cX0_grows 39 = .ok (.iconst 3, 1) := dk_6 (dk_at dksX0_grows_1 16 rfl rfl)
theorem dX0_grows_40 : decode cX0_grows 40 = .ok (.goto 4, 3) := dk_167 0 4 (dk_at dksX0_grows_1 17 rfl rfl)
theorem dX0_grows_43 : decode cX0_grows 43 = .ok (.iconst 0, 1) := dk_3 (dk_at dksX0_grows_1 20 rfl rfl)
theorem dX0_grows_44 : decode cX0_grows 44 = .ok (.invokestatic 291, 3) := dk_184 1 35 (dk_at dksX0_grows_1 21 rfl rfl)
theorem dX0_grows_47 : decode cX0_grows 47 = .ok (.ireturn, 1) := dk_172 (dk_at dksX0_grows_2 0 rfl rfl)
abbrev cX0_says : ByteArray := prog_1_method_34_code
def yX0_says : MethodName := ⟨RX0, "says", "(ILForestRooms$Table;IIII)J"⟩
def dkwX0_says_8 : List UInt8 := [192, 0, 250, 27, 42, 180, 0, 83, 182, 1, 20, 173]
abbrev dktX0_says_8 : List UInt8 := dkwX0_says_8 ++ []
def dkwX0_says_7 : List UInt8 := [21, 4, 46, 133, 80, 42, 180, 0, 39, 180, 0, 225, 42, 180, 0, 39, 180, 1, 6, 182, 1, 16]
abbrev dktX0_says_7 : List UInt8 := dkwX0_says_7 ++ dktX0_says_8
def dkwX0_says_6 : List UInt8 := [25, 7, 16, 10, 21, 4, 2, 160, 0, 9, 20, 1, 14, 167, 0, 14, 42, 180, 0, 39, 180, 0, 193]
abbrev dktX0_says_6 : List UInt8 := dkwX0_says_6 ++ dktX0_says_7
def dkwX0_says_5 : List UInt8 := [21, 4, 2, 160, 0, 9, 20, 1, 14, 167, 0, 14, 42, 180, 0, 39, 180, 0, 190, 21, 4, 46, 133, 80]
abbrev dktX0_says_5 : List UInt8 := dkwX0_says_5 ++ dktX0_says_6
def dkwX0_says_4 : List UInt8 := [16, 7, 44, 180, 0, 199, 133, 80, 25, 7, 16, 8, 42, 7, 182, 0, 202, 133, 80, 25, 7, 16, 9]
abbrev dktX0_says_4 : List UInt8 := dkwX0_says_4 ++ dktX0_says_5
def dkwX0_says_3 : List UInt8 := [25, 7, 7, 21, 4, 133, 80, 25, 7, 8, 21, 5, 133, 80, 25, 7, 16, 6, 21, 6, 133, 80, 25, 7]
abbrev dktX0_says_3 : List UInt8 := dkwX0_says_3 ++ dktX0_says_4
def dkwX0_says_2 : List UInt8 := [180, 0, 39, 180, 0, 143, 29, 46, 133, 80, 25, 7, 6, 42, 180, 0, 39, 180, 0, 146, 29, 46, 133, 80]
abbrev dktX0_says_2 : List UInt8 := dkwX0_says_2 ++ dktX0_says_3
def dkwX0_says_1 : List UInt8 := [25, 7, 3, 29, 133, 80, 25, 7, 4, 42, 180, 0, 39, 180, 0, 140, 29, 46, 133, 80, 25, 7, 5, 42]
abbrev dktX0_says_1 : List UInt8 := dkwX0_says_1 ++ dktX0_says_2
def dkwX0_says_0 : List UInt8 := [42, 180, 0, 39, 180, 1, 6, 2, 160, 0, 7, 20, 1, 9, 173, 42, 180, 0, 83, 180, 1, 11, 58, 7]
abbrev dktX0_says_0 : List UInt8 := dkwX0_says_0 ++ dktX0_says_1
theorem dksX0_says_0 : cX0_says.data.toList.drop 0 = dktX0_says_0 := by decide +kernel
theorem dksX0_says_1 : cX0_says.data.toList.drop 24 = dktX0_says_1 := dk_seg dksX0_says_0 24 rfl rfl
theorem dksX0_says_2 : cX0_says.data.toList.drop 48 = dktX0_says_2 := dk_seg dksX0_says_1 24 rfl rfl
theorem dksX0_says_3 : cX0_says.data.toList.drop 72 = dktX0_says_3 := dk_seg dksX0_says_2 24 rfl rfl
theorem dksX0_says_4 : cX0_says.data.toList.drop 96 = dktX0_says_4 := dk_seg dksX0_says_3 24 rfl rfl
theorem dksX0_says_5 : cX0_says.data.toList.drop 119 = dktX0_says_5 := dk_seg dksX0_says_4 23 rfl rfl
theorem dksX0_says_6 : cX0_says.data.toList.drop 143 = dktX0_says_6 := dk_seg dksX0_says_5 24 rfl rfl
theorem dksX0_says_7 : cX0_says.data.toList.drop 166 = dktX0_says_7 := dk_seg dksX0_says_6 23 rfl rfl
theorem dksX0_says_8 : cX0_says.data.toList.drop 188 = dktX0_says_8 := dk_seg dksX0_says_7 22 rfl rfl
theorem dX0_says_0 : decode cX0_says 0 = .ok (.aload_n 0, 1) := dk_42 (dk_at dksX0_says_0 0 rfl rfl)
theorem dX0_says_1 : decode cX0_says 1 = .ok (.getfield 39, 3) := dk_180 0 39 (dk_at dksX0_says_0 1 rfl rfl)
theorem dX0_says_4 : decode cX0_says 4 = .ok (.getfield 262, 3) := dk_180 1 6 (dk_at dksX0_says_0 4 rfl rfl)
theorem dX0_says_7 : decode cX0_says 7 = .ok (.iconst (-1), 1) := dk_2 (dk_at dksX0_says_0 7 rfl rfl)
theorem dX0_says_8 : decode cX0_says 8 = .ok (.if_icmp .ne 7, 3) := dk_160 0 7 (dk_at dksX0_says_0 8 rfl rfl)
theorem dX0_says_11 : decode cX0_says 11 = .ok (.ldc2_w 265, 3) := dk_20 1 9 (dk_at dksX0_says_0 11 rfl rfl)
theorem dX0_says_14 : decode cX0_says 14 = .ok (.lreturn, 1) := dk_173 (dk_at dksX0_says_0 14 rfl rfl)
theorem dX0_says_15 : decode cX0_says 15 = .ok (.aload_n 0, 1) := dk_42 (dk_at dksX0_says_0 15 rfl rfl)
theorem dX0_says_16 : decode cX0_says 16 = .ok (.getfield 83, 3) := dk_180 0 83 (dk_at dksX0_says_0 16 rfl rfl)
theorem dX0_says_19 : decode cX0_says 19 = .ok (.getfield 267, 3) := dk_180 1 11 (dk_at dksX0_says_0 19 rfl rfl)
theorem dX0_says_22 : decode cX0_says 22 = .ok (.astore 7, 2) := dk_58 7 (dk_at dksX0_says_0 22 rfl rfl)
theorem dX0_says_24 : decode cX0_says 24 = .ok (.aload 7, 2) := dk_25 7 (dk_at dksX0_says_1 0 rfl rfl)
theorem dX0_says_26 : decode cX0_says 26 = .ok (.iconst 0, 1) := dk_3 (dk_at dksX0_says_1 2 rfl rfl)
theorem dX0_says_27 : decode cX0_says 27 = .ok (.iload_n 3, 1) := dk_29 (dk_at dksX0_says_1 3 rfl rfl)
theorem dX0_says_28 : decode cX0_says 28 = .ok (.i2l, 1) := dk_133 (dk_at dksX0_says_1 4 rfl rfl)
theorem dX0_says_29 : decode cX0_says 29 = .ok (.lastore, 1) := dk_80 (dk_at dksX0_says_1 5 rfl rfl)
theorem dX0_says_30 : decode cX0_says 30 = .ok (.aload 7, 2) := dk_25 7 (dk_at dksX0_says_1 6 rfl rfl)
theorem dX0_says_32 : decode cX0_says 32 = .ok (.iconst 1, 1) := dk_4 (dk_at dksX0_says_1 8 rfl rfl)
theorem dX0_says_33 : decode cX0_says 33 = .ok (.aload_n 0, 1) := dk_42 (dk_at dksX0_says_1 9 rfl rfl)
theorem dX0_says_34 : decode cX0_says 34 = .ok (.getfield 39, 3) := dk_180 0 39 (dk_at dksX0_says_1 10 rfl rfl)
theorem dX0_says_37 : decode cX0_says 37 = .ok (.getfield 140, 3) := dk_180 0 140 (dk_at dksX0_says_1 13 rfl rfl)
theorem dX0_says_40 : decode cX0_says 40 = .ok (.iload_n 3, 1) := dk_29 (dk_at dksX0_says_1 16 rfl rfl)
theorem dX0_says_41 : decode cX0_says 41 = .ok (.iaload, 1) := dk_46 (dk_at dksX0_says_1 17 rfl rfl)
theorem dX0_says_42 : decode cX0_says 42 = .ok (.i2l, 1) := dk_133 (dk_at dksX0_says_1 18 rfl rfl)
theorem dX0_says_43 : decode cX0_says 43 = .ok (.lastore, 1) := dk_80 (dk_at dksX0_says_1 19 rfl rfl)
theorem dX0_says_44 : decode cX0_says 44 = .ok (.aload 7, 2) := dk_25 7 (dk_at dksX0_says_1 20 rfl rfl)
theorem dX0_says_46 : decode cX0_says 46 = .ok (.iconst 2, 1) := dk_5 (dk_at dksX0_says_1 22 rfl rfl)
theorem dX0_says_47 : decode cX0_says 47 = .ok (.aload_n 0, 1) := dk_42 (dk_at dksX0_says_1 23 rfl rfl)
theorem dX0_says_48 : decode cX0_says 48 = .ok (.getfield 39, 3) := dk_180 0 39 (dk_at dksX0_says_2 0 rfl rfl)
theorem dX0_says_51 : decode cX0_says 51 = .ok (.getfield 143, 3) := dk_180 0 143 (dk_at dksX0_says_2 3 rfl rfl)
theorem dX0_says_54 : decode cX0_says 54 = .ok (.iload_n 3, 1) := dk_29 (dk_at dksX0_says_2 6 rfl rfl)
theorem dX0_says_55 : decode cX0_says 55 = .ok (.iaload, 1) := dk_46 (dk_at dksX0_says_2 7 rfl rfl)
theorem dX0_says_56 : decode cX0_says 56 = .ok (.i2l, 1) := dk_133 (dk_at dksX0_says_2 8 rfl rfl)
theorem dX0_says_57 : decode cX0_says 57 = .ok (.lastore, 1) := dk_80 (dk_at dksX0_says_2 9 rfl rfl)
theorem dX0_says_58 : decode cX0_says 58 = .ok (.aload 7, 2) := dk_25 7 (dk_at dksX0_says_2 10 rfl rfl)
theorem dX0_says_60 : decode cX0_says 60 = .ok (.iconst 3, 1) := dk_6 (dk_at dksX0_says_2 12 rfl rfl)
theorem dX0_says_61 : decode cX0_says 61 = .ok (.aload_n 0, 1) := dk_42 (dk_at dksX0_says_2 13 rfl rfl)
theorem dX0_says_62 : decode cX0_says 62 = .ok (.getfield 39, 3) := dk_180 0 39 (dk_at dksX0_says_2 14 rfl rfl)
theorem dX0_says_65 : decode cX0_says 65 = .ok (.getfield 146, 3) := dk_180 0 146 (dk_at dksX0_says_2 17 rfl rfl)
theorem dX0_says_68 : decode cX0_says 68 = .ok (.iload_n 3, 1) := dk_29 (dk_at dksX0_says_2 20 rfl rfl)
theorem dX0_says_69 : decode cX0_says 69 = .ok (.iaload, 1) := dk_46 (dk_at dksX0_says_2 21 rfl rfl)
theorem dX0_says_70 : decode cX0_says 70 = .ok (.i2l, 1) := dk_133 (dk_at dksX0_says_2 22 rfl rfl)
theorem dX0_says_71 : decode cX0_says 71 = .ok (.lastore, 1) := dk_80 (dk_at dksX0_says_2 23 rfl rfl)
theorem dX0_says_72 : decode cX0_says 72 = .ok (.aload 7, 2) := dk_25 7 (dk_at dksX0_says_3 0 rfl rfl)
theorem dX0_says_74 : decode cX0_says 74 = .ok (.iconst 4, 1) := dk_7 (dk_at dksX0_says_3 2 rfl rfl)
theorem dX0_says_75 : decode cX0_says 75 = .ok (.iload 4, 2) := dk_21 4 (dk_at dksX0_says_3 3 rfl rfl)
theorem dX0_says_77 : decode cX0_says 77 = .ok (.i2l, 1) := dk_133 (dk_at dksX0_says_3 5 rfl rfl)
theorem dX0_says_78 : decode cX0_says 78 = .ok (.lastore, 1) := dk_80 (dk_at dksX0_says_3 6 rfl rfl)
theorem dX0_says_79 : decode cX0_says 79 = .ok (.aload 7, 2) := dk_25 7 (dk_at dksX0_says_3 7 rfl rfl)
theorem dX0_says_81 : decode cX0_says 81 = .ok (.iconst 5, 1) := dk_8 (dk_at dksX0_says_3 9 rfl rfl)
theorem dX0_says_82 : decode cX0_says 82 = .ok (.iload 5, 2) := dk_21 5 (dk_at dksX0_says_3 10 rfl rfl)
theorem dX0_says_84 : decode cX0_says 84 = .ok (.i2l, 1) := dk_133 (dk_at dksX0_says_3 12 rfl rfl)
theorem dX0_says_85 : decode cX0_says 85 = .ok (.lastore, 1) := dk_80 (dk_at dksX0_says_3 13 rfl rfl)
theorem dX0_says_86 : decode cX0_says 86 = .ok (.aload 7, 2) := dk_25 7 (dk_at dksX0_says_3 14 rfl rfl)
theorem dX0_says_88 : decode cX0_says 88 = .ok (.bipush 6, 2) := dk_16 6 (dk_at dksX0_says_3 16 rfl rfl)
theorem dX0_says_90 : decode cX0_says 90 = .ok (.iload 6, 2) := dk_21 6 (dk_at dksX0_says_3 18 rfl rfl)
theorem dX0_says_92 : decode cX0_says 92 = .ok (.i2l, 1) := dk_133 (dk_at dksX0_says_3 20 rfl rfl)
theorem dX0_says_93 : decode cX0_says 93 = .ok (.lastore, 1) := dk_80 (dk_at dksX0_says_3 21 rfl rfl)
theorem dX0_says_94 : decode cX0_says 94 = .ok (.aload 7, 2) := dk_25 7 (dk_at dksX0_says_3 22 rfl rfl)
theorem dX0_says_96 : decode cX0_says 96 = .ok (.bipush 7, 2) := dk_16 7 (dk_at dksX0_says_4 0 rfl rfl)
theorem dX0_says_98 : decode cX0_says 98 = .ok (.aload_n 2, 1) := dk_44 (dk_at dksX0_says_4 2 rfl rfl)
theorem dX0_says_99 : decode cX0_says 99 = .ok (.getfield 199, 3) := dk_180 0 199 (dk_at dksX0_says_4 3 rfl rfl)
theorem dX0_says_102 : decode cX0_says 102 = .ok (.i2l, 1) := dk_133 (dk_at dksX0_says_4 6 rfl rfl)
theorem dX0_says_103 : decode cX0_says 103 = .ok (.lastore, 1) := dk_80 (dk_at dksX0_says_4 7 rfl rfl)
theorem dX0_says_104 : decode cX0_says 104 = .ok (.aload 7, 2) := dk_25 7 (dk_at dksX0_says_4 8 rfl rfl)
theorem dX0_says_106 : decode cX0_says 106 = .ok (.bipush 8, 2) := dk_16 8 (dk_at dksX0_says_4 10 rfl rfl)
theorem dX0_says_108 : decode cX0_says 108 = .ok (.aload_n 0, 1) := dk_42 (dk_at dksX0_says_4 12 rfl rfl)
theorem dX0_says_109 : decode cX0_says 109 = .ok (.iconst 4, 1) := dk_7 (dk_at dksX0_says_4 13 rfl rfl)
theorem dX0_says_110 : decode cX0_says 110 = .ok (.invokevirtual 202, 3) := dk_182 0 202 (dk_at dksX0_says_4 14 rfl rfl)
theorem dX0_says_113 : decode cX0_says 113 = .ok (.i2l, 1) := dk_133 (dk_at dksX0_says_4 17 rfl rfl)
theorem dX0_says_114 : decode cX0_says 114 = .ok (.lastore, 1) := dk_80 (dk_at dksX0_says_4 18 rfl rfl)
theorem dX0_says_115 : decode cX0_says 115 = .ok (.aload 7, 2) := dk_25 7 (dk_at dksX0_says_4 19 rfl rfl)
theorem dX0_says_117 : decode cX0_says 117 = .ok (.bipush 9, 2) := dk_16 9 (dk_at dksX0_says_4 21 rfl rfl)
theorem dX0_says_119 : decode cX0_says 119 = .ok (.iload 4, 2) := dk_21 4 (dk_at dksX0_says_5 0 rfl rfl)
theorem dX0_says_121 : decode cX0_says 121 = .ok (.iconst (-1), 1) := dk_2 (dk_at dksX0_says_5 2 rfl rfl)
theorem dX0_says_122 : decode cX0_says 122 = .ok (.if_icmp .ne 9, 3) := dk_160 0 9 (dk_at dksX0_says_5 3 rfl rfl)
theorem dX0_says_125 : decode cX0_says 125 = .ok (.ldc2_w 270, 3) := dk_20 1 14 (dk_at dksX0_says_5 6 rfl rfl)
theorem dX0_says_128 : decode cX0_says 128 = .ok (.goto 14, 3) := dk_167 0 14 (dk_at dksX0_says_5 9 rfl rfl)
theorem dX0_says_131 : decode cX0_says 131 = .ok (.aload_n 0, 1) := dk_42 (dk_at dksX0_says_5 12 rfl rfl)
theorem dX0_says_132 : decode cX0_says 132 = .ok (.getfield 39, 3) := dk_180 0 39 (dk_at dksX0_says_5 13 rfl rfl)
theorem dX0_says_135 : decode cX0_says 135 = .ok (.getfield 190, 3) := dk_180 0 190 (dk_at dksX0_says_5 16 rfl rfl)
theorem dX0_says_138 : decode cX0_says 138 = .ok (.iload 4, 2) := dk_21 4 (dk_at dksX0_says_5 19 rfl rfl)
theorem dX0_says_140 : decode cX0_says 140 = .ok (.iaload, 1) := dk_46 (dk_at dksX0_says_5 21 rfl rfl)
theorem dX0_says_141 : decode cX0_says 141 = .ok (.i2l, 1) := dk_133 (dk_at dksX0_says_5 22 rfl rfl)
theorem dX0_says_142 : decode cX0_says 142 = .ok (.lastore, 1) := dk_80 (dk_at dksX0_says_5 23 rfl rfl)
theorem dX0_says_143 : decode cX0_says 143 = .ok (.aload 7, 2) := dk_25 7 (dk_at dksX0_says_6 0 rfl rfl)
theorem dX0_says_145 : decode cX0_says 145 = .ok (.bipush 10, 2) := dk_16 10 (dk_at dksX0_says_6 2 rfl rfl)
theorem dX0_says_147 : decode cX0_says 147 = .ok (.iload 4, 2) := dk_21 4 (dk_at dksX0_says_6 4 rfl rfl)
theorem dX0_says_149 : decode cX0_says 149 = .ok (.iconst (-1), 1) := dk_2 (dk_at dksX0_says_6 6 rfl rfl)
theorem dX0_says_150 : decode cX0_says 150 = .ok (.if_icmp .ne 9, 3) := dk_160 0 9 (dk_at dksX0_says_6 7 rfl rfl)
theorem dX0_says_153 : decode cX0_says 153 = .ok (.ldc2_w 270, 3) := dk_20 1 14 (dk_at dksX0_says_6 10 rfl rfl)
theorem dX0_says_156 : decode cX0_says 156 = .ok (.goto 14, 3) := dk_167 0 14 (dk_at dksX0_says_6 13 rfl rfl)
theorem dX0_says_159 : decode cX0_says 159 = .ok (.aload_n 0, 1) := dk_42 (dk_at dksX0_says_6 16 rfl rfl)
theorem dX0_says_160 : decode cX0_says 160 = .ok (.getfield 39, 3) := dk_180 0 39 (dk_at dksX0_says_6 17 rfl rfl)
theorem dX0_says_163 : decode cX0_says 163 = .ok (.getfield 193, 3) := dk_180 0 193 (dk_at dksX0_says_6 20 rfl rfl)
theorem dX0_says_166 : decode cX0_says 166 = .ok (.iload 4, 2) := dk_21 4 (dk_at dksX0_says_7 0 rfl rfl)
theorem dX0_says_168 : decode cX0_says 168 = .ok (.iaload, 1) := dk_46 (dk_at dksX0_says_7 2 rfl rfl)
theorem dX0_says_169 : decode cX0_says 169 = .ok (.i2l, 1) := dk_133 (dk_at dksX0_says_7 3 rfl rfl)
theorem dX0_says_170 : decode cX0_says 170 = .ok (.lastore, 1) := dk_80 (dk_at dksX0_says_7 4 rfl rfl)
theorem dX0_says_171 : decode cX0_says 171 = .ok (.aload_n 0, 1) := dk_42 (dk_at dksX0_says_7 5 rfl rfl)
theorem dX0_says_172 : decode cX0_says 172 = .ok (.getfield 39, 3) := dk_180 0 39 (dk_at dksX0_says_7 6 rfl rfl)
theorem dX0_says_175 : decode cX0_says 175 = .ok (.getfield 225, 3) := dk_180 0 225 (dk_at dksX0_says_7 9 rfl rfl)
theorem dX0_says_178 : decode cX0_says 178 = .ok (.aload_n 0, 1) := dk_42 (dk_at dksX0_says_7 12 rfl rfl)
theorem dX0_says_179 : decode cX0_says 179 = .ok (.getfield 39, 3) := dk_180 0 39 (dk_at dksX0_says_7 13 rfl rfl)
theorem dX0_says_182 : decode cX0_says 182 = .ok (.getfield 262, 3) := dk_180 1 6 (dk_at dksX0_says_7 16 rfl rfl)
theorem dX0_says_185 : decode cX0_says 185 = .ok (.invokevirtual 272, 3) := dk_182 1 16 (dk_at dksX0_says_7 19 rfl rfl)
theorem dX0_says_188 : decode cX0_says 188 = .ok (.checkcast 250, 3) := dk_192 0 250 (dk_at dksX0_says_8 0 rfl rfl)
theorem dX0_says_191 : decode cX0_says 191 = .ok (.iload_n 1, 1) := dk_27 (dk_at dksX0_says_8 3 rfl rfl)
theorem dX0_says_192 : decode cX0_says 192 = .ok (.aload_n 0, 1) := dk_42 (dk_at dksX0_says_8 4 rfl rfl)
theorem dX0_says_193 : decode cX0_says 193 = .ok (.getfield 83, 3) := dk_180 0 83 (dk_at dksX0_says_8 5 rfl rfl)
theorem dX0_says_196 : decode cX0_says 196 = .ok (.invokevirtual 276, 3) := dk_182 1 20 (dk_at dksX0_says_8 8 rfl rfl)
theorem dX0_says_199 : decode cX0_says 199 = .ok (.lreturn, 1) := dk_173 (dk_at dksX0_says_8 11 rfl rfl)
abbrev cX0_term : ByteArray := prog_1_method_14_code
def yX0_term : MethodName := ⟨RX0, "term", "(I)I"⟩
def dkwX0_term_0 : List UInt8 := [42, 180, 0, 39, 180, 0, 127, 27, 46, 172]
abbrev dktX0_term_0 : List UInt8 := dkwX0_term_0 ++ []
theorem dksX0_term_0 : cX0_term.data.toList.drop 0 = dktX0_term_0 := by decide +kernel
theorem dX0_term_0 : decode cX0_term 0 = .ok (.aload_n 0, 1) := dk_42 (dk_at dksX0_term_0 0 rfl rfl)
theorem dX0_term_1 : decode cX0_term 1 = .ok (.getfield 39, 3) := dk_180 0 39 (dk_at dksX0_term_0 1 rfl rfl)
theorem dX0_term_4 : decode cX0_term 4 = .ok (.getfield 127, 3) := dk_180 0 127 (dk_at dksX0_term_0 4 rfl rfl)
theorem dX0_term_7 : decode cX0_term 7 = .ok (.iload_n 1, 1) := dk_27 (dk_at dksX0_term_0 7 rfl rfl)
theorem dX0_term_8 : decode cX0_term 8 = .ok (.iaload, 1) := dk_46 (dk_at dksX0_term_0 8 rfl rfl)
theorem dX0_term_9 : decode cX0_term 9 = .ok (.ireturn, 1) := dk_172 (dk_at dksX0_term_0 9 rfl rfl)
abbrev cX0_or : ByteArray := prog_1_method_35_code
def yX0_or : MethodName := ⟨RX0, "or", "(JII)I"⟩
def dkwX0_or_0 : List UInt8 := [30, 20, 1, 9, 148, 154, 0, 7, 29, 167, 0, 9, 30, 3, 28, 184, 1, 24, 172]
abbrev dktX0_or_0 : List UInt8 := dkwX0_or_0 ++ []
theorem dksX0_or_0 : cX0_or.data.toList.drop 0 = dktX0_or_0 := by decide +kernel
theorem dX0_or_0 : decode cX0_or 0 = .ok (.lload_n 0, 1) := dk_30 (dk_at dksX0_or_0 0 rfl rfl)
theorem dX0_or_1 : decode cX0_or 1 = .ok (.ldc2_w 265, 3) := dk_20 1 9 (dk_at dksX0_or_0 1 rfl rfl)
theorem dX0_or_4 : decode cX0_or 4 = .ok (.lcmp, 1) := dk_148 (dk_at dksX0_or_0 4 rfl rfl)
theorem dX0_or_5 : decode cX0_or 5 = .ok (.ifCond .ne 7, 3) := dk_154 0 7 (dk_at dksX0_or_0 5 rfl rfl)
theorem dX0_or_8 : decode cX0_or 8 = .ok (.iload_n 3, 1) := dk_29 (dk_at dksX0_or_0 8 rfl rfl)
theorem dX0_or_9 : decode cX0_or 9 = .ok (.goto 9, 3) := dk_167 0 9 (dk_at dksX0_or_0 9 rfl rfl)
theorem dX0_or_12 : decode cX0_or 12 = .ok (.lload_n 0, 1) := dk_30 (dk_at dksX0_or_0 12 rfl rfl)
theorem dX0_or_13 : decode cX0_or 13 = .ok (.iconst 0, 1) := dk_3 (dk_at dksX0_or_0 13 rfl rfl)
theorem dX0_or_14 : decode cX0_or 14 = .ok (.iload_n 2, 1) := dk_28 (dk_at dksX0_or_0 14 rfl rfl)
theorem dX0_or_15 : decode cX0_or 15 = .ok (.invokestatic 280, 3) := dk_184 1 24 (dk_at dksX0_or_0 15 rfl rfl)
theorem dX0_or_18 : decode cX0_or 18 = .ok (.ireturn, 1) := dk_172 (dk_at dksX0_or_0 18 rfl rfl)
abbrev cX0_near : ByteArray := prog_1_method_6_code
def yX0_near : MethodName := ⟨RX0, "near", "(JII)I"⟩
def dkwX0_near_0 : List UInt8 := [28, 133, 29, 133, 30, 184, 0, 17, 184, 0, 23, 136, 172]
abbrev dktX0_near_0 : List UInt8 := dkwX0_near_0 ++ []
theorem dksX0_near_0 : cX0_near.data.toList.drop 0 = dktX0_near_0 := by decide +kernel
theorem dX0_near_0 : decode cX0_near 0 = .ok (.iload_n 2, 1) := dk_28 (dk_at dksX0_near_0 0 rfl rfl)
theorem dX0_near_1 : decode cX0_near 1 = .ok (.i2l, 1) := dk_133 (dk_at dksX0_near_0 1 rfl rfl)
theorem dX0_near_2 : decode cX0_near 2 = .ok (.iload_n 3, 1) := dk_29 (dk_at dksX0_near_0 2 rfl rfl)
theorem dX0_near_3 : decode cX0_near 3 = .ok (.i2l, 1) := dk_133 (dk_at dksX0_near_0 3 rfl rfl)
theorem dX0_near_4 : decode cX0_near 4 = .ok (.lload_n 0, 1) := dk_30 (dk_at dksX0_near_0 4 rfl rfl)
theorem dX0_near_5 : decode cX0_near 5 = .ok (.invokestatic 17, 3) := dk_184 0 17 (dk_at dksX0_near_0 5 rfl rfl)
theorem dX0_near_8 : decode cX0_near 8 = .ok (.invokestatic 23, 3) := dk_184 0 23 (dk_at dksX0_near_0 8 rfl rfl)
theorem dX0_near_11 : decode cX0_near 11 = .ok (.l2i, 1) := dk_136 (dk_at dksX0_near_0 11 rfl rfl)
theorem dX0_near_12 : decode cX0_near 12 = .ok (.ireturn, 1) := dk_172 (dk_at dksX0_near_0 12 rfl rfl)
abbrev cX0_leaves : ByteArray := prog_1_method_37_code
def yX0_leaves : MethodName := ⟨RX0, "leaves", "(LForestRooms$Table;I)I"⟩
def dkwX0_leaves_1 : List UInt8 := [180, 0, 167, 28, 46, 184, 1, 35, 172]
abbrev dktX0_leaves_1 : List UInt8 := dkwX0_leaves_1 ++ []
def dkwX0_leaves_0 : List UInt8 := [42, 5, 43, 28, 43, 180, 0, 164, 28, 46, 43, 180, 0, 167, 28, 46, 2, 182, 1, 28, 17, 3, 231, 43]
abbrev dktX0_leaves_0 : List UInt8 := dkwX0_leaves_0 ++ dktX0_leaves_1
theorem dksX0_leaves_0 : cX0_leaves.data.toList.drop 0 = dktX0_leaves_0 := by decide +kernel
theorem dksX0_leaves_1 : cX0_leaves.data.toList.drop 24 = dktX0_leaves_1 := dk_seg dksX0_leaves_0 24 rfl rfl
theorem dX0_leaves_0 : decode cX0_leaves 0 = .ok (.aload_n 0, 1) := dk_42 (dk_at dksX0_leaves_0 0 rfl rfl)
theorem dX0_leaves_1 : decode cX0_leaves 1 = .ok (.iconst 2, 1) := dk_5 (dk_at dksX0_leaves_0 1 rfl rfl)
theorem dX0_leaves_2 : decode cX0_leaves 2 = .ok (.aload_n 1, 1) := dk_43 (dk_at dksX0_leaves_0 2 rfl rfl)
theorem dX0_leaves_3 : decode cX0_leaves 3 = .ok (.iload_n 2, 1) := dk_28 (dk_at dksX0_leaves_0 3 rfl rfl)
theorem dX0_leaves_4 : decode cX0_leaves 4 = .ok (.aload_n 1, 1) := dk_43 (dk_at dksX0_leaves_0 4 rfl rfl)
theorem dX0_leaves_5 : decode cX0_leaves 5 = .ok (.getfield 164, 3) := dk_180 0 164 (dk_at dksX0_leaves_0 5 rfl rfl)
theorem dX0_leaves_8 : decode cX0_leaves 8 = .ok (.iload_n 2, 1) := dk_28 (dk_at dksX0_leaves_0 8 rfl rfl)
theorem dX0_leaves_9 : decode cX0_leaves 9 = .ok (.iaload, 1) := dk_46 (dk_at dksX0_leaves_0 9 rfl rfl)
theorem dX0_leaves_10 : decode cX0_leaves 10 = .ok (.aload_n 1, 1) := dk_43 (dk_at dksX0_leaves_0 10 rfl rfl)
theorem dX0_leaves_11 : decode cX0_leaves 11 = .ok (.getfield 167, 3) := dk_180 0 167 (dk_at dksX0_leaves_0 11 rfl rfl)
theorem dX0_leaves_14 : decode cX0_leaves 14 = .ok (.iload_n 2, 1) := dk_28 (dk_at dksX0_leaves_0 14 rfl rfl)
theorem dX0_leaves_15 : decode cX0_leaves 15 = .ok (.iaload, 1) := dk_46 (dk_at dksX0_leaves_0 15 rfl rfl)
theorem dX0_leaves_16 : decode cX0_leaves 16 = .ok (.iconst (-1), 1) := dk_2 (dk_at dksX0_leaves_0 16 rfl rfl)
theorem dX0_leaves_17 : decode cX0_leaves 17 = .ok (.invokevirtual 284, 3) := dk_182 1 28 (dk_at dksX0_leaves_0 17 rfl rfl)
theorem dX0_leaves_20 : decode cX0_leaves 20 = .ok (.sipush 999, 3) := dk_17 3 231 (dk_at dksX0_leaves_0 20 rfl rfl)
theorem dX0_leaves_23 : decode cX0_leaves 23 = .ok (.aload_n 1, 1) := dk_43 (dk_at dksX0_leaves_0 23 rfl rfl)
theorem dX0_leaves_24 : decode cX0_leaves 24 = .ok (.getfield 167, 3) := dk_180 0 167 (dk_at dksX0_leaves_1 0 rfl rfl)
theorem dX0_leaves_27 : decode cX0_leaves 27 = .ok (.iload_n 2, 1) := dk_28 (dk_at dksX0_leaves_1 3 rfl rfl)
theorem dX0_leaves_28 : decode cX0_leaves 28 = .ok (.iaload, 1) := dk_46 (dk_at dksX0_leaves_1 4 rfl rfl)
theorem dX0_leaves_29 : decode cX0_leaves 29 = .ok (.invokestatic 291, 3) := dk_184 1 35 (dk_at dksX0_leaves_1 5 rfl rfl)
theorem dX0_leaves_32 : decode cX0_leaves 32 = .ok (.ireturn, 1) := dk_172 (dk_at dksX0_leaves_1 8 rfl rfl)
abbrev cX0_needs : ByteArray := prog_1_method_21_code
def yX0_needs : MethodName := ⟨RX0, "needs", "(III)I"⟩
def dkwX0_needs_3 : List UInt8 := [182, 0, 137, 172]
abbrev dktX0_needs_3 : List UInt8 := dkwX0_needs_3 ++ []
def dkwX0_needs_2 : List UInt8 := [180, 0, 39, 180, 0, 193, 58, 4, 25, 4, 27, 46, 54, 5, 25, 4, 27, 29, 79, 42, 21, 5]
abbrev dktX0_needs_2 : List UInt8 := dkwX0_needs_2 ++ dktX0_needs_3
def dkwX0_needs_1 : List UInt8 := [154, 0, 9, 42, 2, 182, 0, 130, 172, 28, 154, 0, 13, 42, 180, 0, 39, 180, 0, 190, 167, 0, 10, 42]
abbrev dktX0_needs_1 : List UInt8 := dkwX0_needs_1 ++ dktX0_needs_2
def dkwX0_needs_0 : List UInt8 := [27, 184, 0, 187, 153, 0, 22, 28, 3, 4, 184, 0, 26, 153, 0, 13, 29, 3, 16, 9, 184, 0, 26]
abbrev dktX0_needs_0 : List UInt8 := dkwX0_needs_0 ++ dktX0_needs_1
theorem dksX0_needs_0 : cX0_needs.data.toList.drop 0 = dktX0_needs_0 := by decide +kernel
theorem dksX0_needs_1 : cX0_needs.data.toList.drop 23 = dktX0_needs_1 := dk_seg dksX0_needs_0 23 rfl rfl
theorem dksX0_needs_2 : cX0_needs.data.toList.drop 47 = dktX0_needs_2 := dk_seg dksX0_needs_1 24 rfl rfl
theorem dksX0_needs_3 : cX0_needs.data.toList.drop 69 = dktX0_needs_3 := dk_seg dksX0_needs_2 22 rfl rfl
theorem dX0_needs_0 : decode cX0_needs 0 = .ok (.iload_n 1, 1) := dk_27 (dk_at dksX0_needs_0 0 rfl rfl)
theorem dX0_needs_1 : decode cX0_needs 1 = .ok (.invokestatic 187, 3) := dk_184 0 187 (dk_at dksX0_needs_0 1 rfl rfl)
theorem dX0_needs_4 : decode cX0_needs 4 = .ok (.ifCond .eq 22, 3) := dk_153 0 22 (dk_at dksX0_needs_0 4 rfl rfl)
theorem dX0_needs_7 : decode cX0_needs 7 = .ok (.iload_n 2, 1) := dk_28 (dk_at dksX0_needs_0 7 rfl rfl)
theorem dX0_needs_8 : decode cX0_needs 8 = .ok (.iconst 0, 1) := dk_3 (dk_at dksX0_needs_0 8 rfl rfl)
theorem dX0_needs_9 : decode cX0_needs 9 = .ok (.iconst 1, 1) := dk_4 (dk_at dksX0_needs_0 9 rfl rfl)
theorem dX0_needs_10 : decode cX0_needs 10 = .ok (.invokestatic 26, 3) := dk_184 0 26 (dk_at dksX0_needs_0 10 rfl rfl)
theorem dX0_needs_13 : decode cX0_needs 13 = .ok (.ifCond .eq 13, 3) := dk_153 0 13 (dk_at dksX0_needs_0 13 rfl rfl)
theorem dX0_needs_16 : decode cX0_needs 16 = .ok (.iload_n 3, 1) := dk_29 (dk_at dksX0_needs_0 16 rfl rfl)
theorem dX0_needs_17 : decode cX0_needs 17 = .ok (.iconst 0, 1) := dk_3 (dk_at dksX0_needs_0 17 rfl rfl)
theorem dX0_needs_18 : decode cX0_needs 18 = .ok (.bipush 9, 2) := dk_16 9 (dk_at dksX0_needs_0 18 rfl rfl)
theorem dX0_needs_20 : decode cX0_needs 20 = .ok (.invokestatic 26, 3) := dk_184 0 26 (dk_at dksX0_needs_0 20 rfl rfl)
theorem dX0_needs_23 : decode cX0_needs 23 = .ok (.ifCond .ne 9, 3) := dk_154 0 9 (dk_at dksX0_needs_1 0 rfl rfl)
theorem dX0_needs_26 : decode cX0_needs 26 = .ok (.aload_n 0, 1) := dk_42 (dk_at dksX0_needs_1 3 rfl rfl)
theorem dX0_needs_27 : decode cX0_needs 27 = .ok (.iconst (-1), 1) := dk_2 (dk_at dksX0_needs_1 4 rfl rfl)
theorem dX0_needs_28 : decode cX0_needs 28 = .ok (.invokevirtual 130, 3) := dk_182 0 130 (dk_at dksX0_needs_1 5 rfl rfl)
theorem dX0_needs_31 : decode cX0_needs 31 = .ok (.ireturn, 1) := dk_172 (dk_at dksX0_needs_1 8 rfl rfl)
theorem dX0_needs_32 : decode cX0_needs 32 = .ok (.iload_n 2, 1) := dk_28 (dk_at dksX0_needs_1 9 rfl rfl)
theorem dX0_needs_33 : decode cX0_needs 33 = .ok (.ifCond .ne 13, 3) := dk_154 0 13 (dk_at dksX0_needs_1 10 rfl rfl)
theorem dX0_needs_36 : decode cX0_needs 36 = .ok (.aload_n 0, 1) := dk_42 (dk_at dksX0_needs_1 13 rfl rfl)
theorem dX0_needs_37 : decode cX0_needs 37 = .ok (.getfield 39, 3) := dk_180 0 39 (dk_at dksX0_needs_1 14 rfl rfl)
theorem dX0_needs_40 : decode cX0_needs 40 = .ok (.getfield 190, 3) := dk_180 0 190 (dk_at dksX0_needs_1 17 rfl rfl)
theorem dX0_needs_43 : decode cX0_needs 43 = .ok (.goto 10, 3) := dk_167 0 10 (dk_at dksX0_needs_1 20 rfl rfl)
theorem dX0_needs_46 : decode cX0_needs 46 = .ok (.aload_n 0, 1) := dk_42 (dk_at dksX0_needs_1 23 rfl rfl)
theorem dX0_needs_47 : decode cX0_needs 47 = .ok (.getfield 39, 3) := dk_180 0 39 (dk_at dksX0_needs_2 0 rfl rfl)
theorem dX0_needs_50 : decode cX0_needs 50 = .ok (.getfield 193, 3) := dk_180 0 193 (dk_at dksX0_needs_2 3 rfl rfl)
theorem dX0_needs_53 : decode cX0_needs 53 = .ok (.astore 4, 2) := dk_58 4 (dk_at dksX0_needs_2 6 rfl rfl)
theorem dX0_needs_55 : decode cX0_needs 55 = .ok (.aload 4, 2) := dk_25 4 (dk_at dksX0_needs_2 8 rfl rfl)
theorem dX0_needs_57 : decode cX0_needs 57 = .ok (.iload_n 1, 1) := dk_27 (dk_at dksX0_needs_2 10 rfl rfl)
theorem dX0_needs_58 : decode cX0_needs 58 = .ok (.iaload, 1) := dk_46 (dk_at dksX0_needs_2 11 rfl rfl)
theorem dX0_needs_59 : decode cX0_needs 59 = .ok (.istore 5, 2) := dk_54 5 (dk_at dksX0_needs_2 12 rfl rfl)
theorem dX0_needs_61 : decode cX0_needs 61 = .ok (.aload 4, 2) := dk_25 4 (dk_at dksX0_needs_2 14 rfl rfl)
theorem dX0_needs_63 : decode cX0_needs 63 = .ok (.iload_n 1, 1) := dk_27 (dk_at dksX0_needs_2 16 rfl rfl)
theorem dX0_needs_64 : decode cX0_needs 64 = .ok (.iload_n 3, 1) := dk_29 (dk_at dksX0_needs_2 17 rfl rfl)
theorem dX0_needs_65 : decode cX0_needs 65 = .ok (.iastore, 1) := dk_79 (dk_at dksX0_needs_2 18 rfl rfl)
theorem dX0_needs_66 : decode cX0_needs 66 = .ok (.aload_n 0, 1) := dk_42 (dk_at dksX0_needs_2 19 rfl rfl)
theorem dX0_needs_67 : decode cX0_needs 67 = .ok (.iload 5, 2) := dk_21 5 (dk_at dksX0_needs_2 20 rfl rfl)
theorem dX0_needs_69 : decode cX0_needs 69 = .ok (.invokevirtual 137, 3) := dk_182 0 137 (dk_at dksX0_needs_3 0 rfl rfl)
theorem dX0_needs_72 : decode cX0_needs 72 = .ok (.ireturn, 1) := dk_172 (dk_at dksX0_needs_3 3 rfl rfl)
abbrev cX0_isKind : ByteArray := prog_1_method_8_code
def yX0_isKind : MethodName := ⟨RX0, "isKind", "(I)Z"⟩
def dkwX0_isKind_0 : List UInt8 := [26, 3, 8, 184, 0, 26, 172]
abbrev dktX0_isKind_0 : List UInt8 := dkwX0_isKind_0 ++ []
theorem dksX0_isKind_0 : cX0_isKind.data.toList.drop 0 = dktX0_isKind_0 := by decide +kernel
theorem dX0_isKind_0 : decode cX0_isKind 0 = .ok (.iload_n 0, 1) := dk_26 (dk_at dksX0_isKind_0 0 rfl rfl)
theorem dX0_isKind_1 : decode cX0_isKind 1 = .ok (.iconst 0, 1) := dk_3 (dk_at dksX0_isKind_0 1 rfl rfl)
theorem dX0_isKind_2 : decode cX0_isKind 2 = .ok (.iconst 5, 1) := dk_8 (dk_at dksX0_isKind_0 2 rfl rfl)
theorem dX0_isKind_3 : decode cX0_isKind 3 = .ok (.invokestatic 26, 3) := dk_184 0 26 (dk_at dksX0_isKind_0 3 rfl rfl)
theorem dX0_isKind_6 : decode cX0_isKind 6 = .ok (.ireturn, 1) := dk_172 (dk_at dksX0_isKind_0 6 rfl rfl)
abbrev cX0_terms : ByteArray := prog_1_method_23_code
def yX0_terms : MethodName := ⟨RX0, "terms", "(II)I"⟩
def dkwX0_terms_2 : List UInt8 := [167, 0, 13, 42, 180, 0, 39, 180, 0, 127, 27, 28, 79, 42, 29, 182, 0, 137, 172]
abbrev dktX0_terms_2 : List UInt8 := dkwX0_terms_2 ++ []
def dkwX0_terms_1 : List UInt8 := [180, 0, 199, 167, 0, 8, 42, 27, 182, 0, 202, 62, 27, 154, 0, 14, 42, 182, 0, 161, 28, 181, 0, 199]
abbrev dktX0_terms_1 : List UInt8 := dkwX0_terms_1 ++ dktX0_terms_2
def dkwX0_terms_0 : List UInt8 := [27, 28, 184, 0, 196, 154, 0, 9, 42, 2, 182, 0, 130, 172, 27, 154, 0, 13, 42, 182, 0, 161]
abbrev dktX0_terms_0 : List UInt8 := dkwX0_terms_0 ++ dktX0_terms_1
theorem dksX0_terms_0 : cX0_terms.data.toList.drop 0 = dktX0_terms_0 := by decide +kernel
theorem dksX0_terms_1 : cX0_terms.data.toList.drop 22 = dktX0_terms_1 := dk_seg dksX0_terms_0 22 rfl rfl
theorem dksX0_terms_2 : cX0_terms.data.toList.drop 46 = dktX0_terms_2 := dk_seg dksX0_terms_1 24 rfl rfl
theorem dX0_terms_0 : decode cX0_terms 0 = .ok (.iload_n 1, 1) := dk_27 (dk_at dksX0_terms_0 0 rfl rfl)
theorem dX0_terms_1 : decode cX0_terms 1 = .ok (.iload_n 2, 1) := dk_28 (dk_at dksX0_terms_0 1 rfl rfl)
theorem dX0_terms_2 : decode cX0_terms 2 = .ok (.invokestatic 196, 3) := dk_184 0 196 (dk_at dksX0_terms_0 2 rfl rfl)
theorem dX0_terms_5 : decode cX0_terms 5 = .ok (.ifCond .ne 9, 3) := dk_154 0 9 (dk_at dksX0_terms_0 5 rfl rfl)
theorem dX0_terms_8 : decode cX0_terms 8 = .ok (.aload_n 0, 1) := dk_42 (dk_at dksX0_terms_0 8 rfl rfl)
theorem dX0_terms_9 : decode cX0_terms 9 = .ok (.iconst (-1), 1) := dk_2 (dk_at dksX0_terms_0 9 rfl rfl)
theorem dX0_terms_10 : decode cX0_terms 10 = .ok (.invokevirtual 130, 3) := dk_182 0 130 (dk_at dksX0_terms_0 10 rfl rfl)
theorem dX0_terms_13 : decode cX0_terms 13 = .ok (.ireturn, 1) := dk_172 (dk_at dksX0_terms_0 13 rfl rfl)
theorem dX0_terms_14 : decode cX0_terms 14 = .ok (.iload_n 1, 1) := dk_27 (dk_at dksX0_terms_0 14 rfl rfl)
theorem dX0_terms_15 : decode cX0_terms 15 = .ok (.ifCond .ne 13, 3) := dk_154 0 13 (dk_at dksX0_terms_0 15 rfl rfl)
theorem dX0_terms_18 : decode cX0_terms 18 = .ok (.aload_n 0, 1) := dk_42 (dk_at dksX0_terms_0 18 rfl rfl)
theorem dX0_terms_19 : decode cX0_terms 19 = .ok (.invokevirtual 161, 3) := dk_182 0 161 (dk_at dksX0_terms_0 19 rfl rfl)
theorem dX0_terms_22 : decode cX0_terms 22 = .ok (.getfield 199, 3) := dk_180 0 199 (dk_at dksX0_terms_1 0 rfl rfl)
theorem dX0_terms_25 : decode cX0_terms 25 = .ok (.goto 8, 3) := dk_167 0 8 (dk_at dksX0_terms_1 3 rfl rfl)
theorem dX0_terms_28 : decode cX0_terms 28 = .ok (.aload_n 0, 1) := dk_42 (dk_at dksX0_terms_1 6 rfl rfl)
theorem dX0_terms_29 : decode cX0_terms 29 = .ok (.iload_n 1, 1) := dk_27 (dk_at dksX0_terms_1 7 rfl rfl)
theorem dX0_terms_30 : decode cX0_terms 30 = .ok (.invokevirtual 202, 3) := dk_182 0 202 (dk_at dksX0_terms_1 8 rfl rfl)
theorem dX0_terms_33 : decode cX0_terms 33 = .ok (.istore_n 3, 1) := dk_62 (dk_at dksX0_terms_1 11 rfl rfl)
theorem dX0_terms_34 : decode cX0_terms 34 = .ok (.iload_n 1, 1) := dk_27 (dk_at dksX0_terms_1 12 rfl rfl)
theorem dX0_terms_35 : decode cX0_terms 35 = .ok (.ifCond .ne 14, 3) := dk_154 0 14 (dk_at dksX0_terms_1 13 rfl rfl)
theorem dX0_terms_38 : decode cX0_terms 38 = .ok (.aload_n 0, 1) := dk_42 (dk_at dksX0_terms_1 16 rfl rfl)
theorem dX0_terms_39 : decode cX0_terms 39 = .ok (.invokevirtual 161, 3) := dk_182 0 161 (dk_at dksX0_terms_1 17 rfl rfl)
theorem dX0_terms_42 : decode cX0_terms 42 = .ok (.iload_n 2, 1) := dk_28 (dk_at dksX0_terms_1 20 rfl rfl)
theorem dX0_terms_43 : decode cX0_terms 43 = .ok (.putfield 199, 3) := dk_181 0 199 (dk_at dksX0_terms_1 21 rfl rfl)
theorem dX0_terms_46 : decode cX0_terms 46 = .ok (.goto 13, 3) := dk_167 0 13 (dk_at dksX0_terms_2 0 rfl rfl)
theorem dX0_terms_49 : decode cX0_terms 49 = .ok (.aload_n 0, 1) := dk_42 (dk_at dksX0_terms_2 3 rfl rfl)
theorem dX0_terms_50 : decode cX0_terms 50 = .ok (.getfield 39, 3) := dk_180 0 39 (dk_at dksX0_terms_2 4 rfl rfl)
theorem dX0_terms_53 : decode cX0_terms 53 = .ok (.getfield 127, 3) := dk_180 0 127 (dk_at dksX0_terms_2 7 rfl rfl)
theorem dX0_terms_56 : decode cX0_terms 56 = .ok (.iload_n 1, 1) := dk_27 (dk_at dksX0_terms_2 10 rfl rfl)
theorem dX0_terms_57 : decode cX0_terms 57 = .ok (.iload_n 2, 1) := dk_28 (dk_at dksX0_terms_2 11 rfl rfl)
theorem dX0_terms_58 : decode cX0_terms 58 = .ok (.iastore, 1) := dk_79 (dk_at dksX0_terms_2 12 rfl rfl)
theorem dX0_terms_59 : decode cX0_terms 59 = .ok (.aload_n 0, 1) := dk_42 (dk_at dksX0_terms_2 13 rfl rfl)
theorem dX0_terms_60 : decode cX0_terms 60 = .ok (.iload_n 3, 1) := dk_29 (dk_at dksX0_terms_2 14 rfl rfl)
theorem dX0_terms_61 : decode cX0_terms 61 = .ok (.invokevirtual 137, 3) := dk_182 0 137 (dk_at dksX0_terms_2 15 rfl rfl)
theorem dX0_terms_64 : decode cX0_terms 64 = .ok (.ireturn, 1) := dk_172 (dk_at dksX0_terms_2 18 rfl rfl)
abbrev cX0_isTerm : ByteArray := prog_1_method_22_code
def yX0_isTerm : MethodName := ⟨RX0, "isTerm", "(II)Z"⟩
def dkwX0_isTerm_3 : List UInt8 := [172, 27, 3, 16, 10, 184, 0, 26, 172, 27, 3, 16, 9, 184, 0, 26, 172, 3, 172]
abbrev dktX0_isTerm_3 : List UInt8 := dkwX0_isTerm_3 ++ []
def dkwX0_isTerm_2 : List UInt8 := [27, 3, 17, 3, 231, 184, 0, 26, 172, 27, 4, 16, 99, 184, 0, 26, 172, 27, 3, 16, 99, 184, 0, 26]
abbrev dktX0_isTerm_2 : List UInt8 := dkwX0_isTerm_2 ++ dktX0_isTerm_3
def dkwX0_isTerm_1 : List UInt8 := [170, 0, 0, 0, 0, 0, 76, 0, 0, 0, 0, 0, 0, 0, 4, 0, 0, 0, 35, 0, 0, 0, 44, 0, 0, 0, 52, 0, 0, 0, 60, 0, 0, 0, 68]
abbrev dktX0_isTerm_1 : List UInt8 := dkwX0_isTerm_1 ++ dktX0_isTerm_2
def dkwX0_isTerm_0 : List UInt8 := [26]
abbrev dktX0_isTerm_0 : List UInt8 := dkwX0_isTerm_0 ++ dktX0_isTerm_1
theorem dksX0_isTerm_0 : cX0_isTerm.data.toList.drop 0 = dktX0_isTerm_0 := by decide +kernel
theorem dksX0_isTerm_1 : cX0_isTerm.data.toList.drop 1 = dktX0_isTerm_1 := dk_seg dksX0_isTerm_0 1 rfl rfl
theorem dksX0_isTerm_2 : cX0_isTerm.data.toList.drop 36 = dktX0_isTerm_2 := dk_seg dksX0_isTerm_1 35 rfl rfl
theorem dksX0_isTerm_3 : cX0_isTerm.data.toList.drop 60 = dktX0_isTerm_3 := dk_seg dksX0_isTerm_2 24 rfl rfl
theorem dX0_isTerm_0 : decode cX0_isTerm 0 = .ok (.iload_n 0, 1) := dk_26 (dk_at dksX0_isTerm_0 0 rfl rfl)
theorem dX0_isTerm_1 : decode cX0_isTerm 1 = .ok (.tableswitch 76 0 4 #[35, 44, 52, 60, 68], 35) := by decide +kernel
theorem dX0_isTerm_36 : decode cX0_isTerm 36 = .ok (.iload_n 1, 1) := dk_27 (dk_at dksX0_isTerm_2 0 rfl rfl)
theorem dX0_isTerm_37 : decode cX0_isTerm 37 = .ok (.iconst 0, 1) := dk_3 (dk_at dksX0_isTerm_2 1 rfl rfl)
theorem dX0_isTerm_38 : decode cX0_isTerm 38 = .ok (.sipush 999, 3) := dk_17 3 231 (dk_at dksX0_isTerm_2 2 rfl rfl)
theorem dX0_isTerm_41 : decode cX0_isTerm 41 = .ok (.invokestatic 26, 3) := dk_184 0 26 (dk_at dksX0_isTerm_2 5 rfl rfl)
theorem dX0_isTerm_44 : decode cX0_isTerm 44 = .ok (.ireturn, 1) := dk_172 (dk_at dksX0_isTerm_2 8 rfl rfl)
theorem dX0_isTerm_45 : decode cX0_isTerm 45 = .ok (.iload_n 1, 1) := dk_27 (dk_at dksX0_isTerm_2 9 rfl rfl)
theorem dX0_isTerm_46 : decode cX0_isTerm 46 = .ok (.iconst 1, 1) := dk_4 (dk_at dksX0_isTerm_2 10 rfl rfl)
theorem dX0_isTerm_47 : decode cX0_isTerm 47 = .ok (.bipush 99, 2) := dk_16 99 (dk_at dksX0_isTerm_2 11 rfl rfl)
theorem dX0_isTerm_49 : decode cX0_isTerm 49 = .ok (.invokestatic 26, 3) := dk_184 0 26 (dk_at dksX0_isTerm_2 13 rfl rfl)
theorem dX0_isTerm_52 : decode cX0_isTerm 52 = .ok (.ireturn, 1) := dk_172 (dk_at dksX0_isTerm_2 16 rfl rfl)
theorem dX0_isTerm_53 : decode cX0_isTerm 53 = .ok (.iload_n 1, 1) := dk_27 (dk_at dksX0_isTerm_2 17 rfl rfl)
theorem dX0_isTerm_54 : decode cX0_isTerm 54 = .ok (.iconst 0, 1) := dk_3 (dk_at dksX0_isTerm_2 18 rfl rfl)
theorem dX0_isTerm_55 : decode cX0_isTerm 55 = .ok (.bipush 99, 2) := dk_16 99 (dk_at dksX0_isTerm_2 19 rfl rfl)
theorem dX0_isTerm_57 : decode cX0_isTerm 57 = .ok (.invokestatic 26, 3) := dk_184 0 26 (dk_at dksX0_isTerm_2 21 rfl rfl)
theorem dX0_isTerm_60 : decode cX0_isTerm 60 = .ok (.ireturn, 1) := dk_172 (dk_at dksX0_isTerm_3 0 rfl rfl)
theorem dX0_isTerm_61 : decode cX0_isTerm 61 = .ok (.iload_n 1, 1) := dk_27 (dk_at dksX0_isTerm_3 1 rfl rfl)
theorem dX0_isTerm_62 : decode cX0_isTerm 62 = .ok (.iconst 0, 1) := dk_3 (dk_at dksX0_isTerm_3 2 rfl rfl)
theorem dX0_isTerm_63 : decode cX0_isTerm 63 = .ok (.bipush 10, 2) := dk_16 10 (dk_at dksX0_isTerm_3 3 rfl rfl)
theorem dX0_isTerm_65 : decode cX0_isTerm 65 = .ok (.invokestatic 26, 3) := dk_184 0 26 (dk_at dksX0_isTerm_3 5 rfl rfl)
theorem dX0_isTerm_68 : decode cX0_isTerm 68 = .ok (.ireturn, 1) := dk_172 (dk_at dksX0_isTerm_3 8 rfl rfl)
theorem dX0_isTerm_69 : decode cX0_isTerm 69 = .ok (.iload_n 1, 1) := dk_27 (dk_at dksX0_isTerm_3 9 rfl rfl)
theorem dX0_isTerm_70 : decode cX0_isTerm 70 = .ok (.iconst 0, 1) := dk_3 (dk_at dksX0_isTerm_3 10 rfl rfl)
theorem dX0_isTerm_71 : decode cX0_isTerm 71 = .ok (.bipush 9, 2) := dk_16 9 (dk_at dksX0_isTerm_3 11 rfl rfl)
theorem dX0_isTerm_73 : decode cX0_isTerm 73 = .ok (.invokestatic 26, 3) := dk_184 0 26 (dk_at dksX0_isTerm_3 13 rfl rfl)
theorem dX0_isTerm_76 : decode cX0_isTerm 76 = .ok (.ireturn, 1) := dk_172 (dk_at dksX0_isTerm_3 16 rfl rfl)
theorem dX0_isTerm_77 : decode cX0_isTerm 77 = .ok (.iconst 0, 1) := dk_3 (dk_at dksX0_isTerm_3 17 rfl rfl)
theorem dX0_isTerm_78 : decode cX0_isTerm 78 = .ok (.ireturn, 1) := dk_172 (dk_at dksX0_isTerm_3 18 rfl rfl)
abbrev cX0_feed : ByteArray := prog_1_method_24_code
def yX0_feed : MethodName := ⟨RX0, "feed", "(IIIII)I"⟩
def dkwX0_feed_2 : List UInt8 := [172]
abbrev dktX0_feed_2 : List UInt8 := dkwX0_feed_2 ++ []
def dkwX0_feed_1 : List UInt8 := [182, 0, 208, 42, 29, 182, 0, 208, 42, 21, 4, 182, 0, 208, 42, 21, 5, 182, 0, 208, 42, 180, 0, 205]
abbrev dktX0_feed_1 : List UInt8 := dkwX0_feed_1 ++ dktX0_feed_2
def dkwX0_feed_0 : List UInt8 := [42, 180, 0, 205, 16, 20, 96, 17, 1, 144, 164, 0, 5, 2, 172, 42, 27, 182, 0, 208, 42, 28]
abbrev dktX0_feed_0 : List UInt8 := dkwX0_feed_0 ++ dktX0_feed_1
theorem dksX0_feed_0 : cX0_feed.data.toList.drop 0 = dktX0_feed_0 := by decide +kernel
theorem dksX0_feed_1 : cX0_feed.data.toList.drop 22 = dktX0_feed_1 := dk_seg dksX0_feed_0 22 rfl rfl
theorem dksX0_feed_2 : cX0_feed.data.toList.drop 46 = dktX0_feed_2 := dk_seg dksX0_feed_1 24 rfl rfl
theorem dX0_feed_0 : decode cX0_feed 0 = .ok (.aload_n 0, 1) := dk_42 (dk_at dksX0_feed_0 0 rfl rfl)
theorem dX0_feed_1 : decode cX0_feed 1 = .ok (.getfield 205, 3) := dk_180 0 205 (dk_at dksX0_feed_0 1 rfl rfl)
theorem dX0_feed_4 : decode cX0_feed 4 = .ok (.bipush 20, 2) := dk_16 20 (dk_at dksX0_feed_0 4 rfl rfl)
theorem dX0_feed_6 : decode cX0_feed 6 = .ok (.iadd, 1) := dk_96 (dk_at dksX0_feed_0 6 rfl rfl)
theorem dX0_feed_7 : decode cX0_feed 7 = .ok (.sipush 400, 3) := dk_17 1 144 (dk_at dksX0_feed_0 7 rfl rfl)
theorem dX0_feed_10 : decode cX0_feed 10 = .ok (.if_icmp .le 5, 3) := dk_164 0 5 (dk_at dksX0_feed_0 10 rfl rfl)
theorem dX0_feed_13 : decode cX0_feed 13 = .ok (.iconst (-1), 1) := dk_2 (dk_at dksX0_feed_0 13 rfl rfl)
theorem dX0_feed_14 : decode cX0_feed 14 = .ok (.ireturn, 1) := dk_172 (dk_at dksX0_feed_0 14 rfl rfl)
theorem dX0_feed_15 : decode cX0_feed 15 = .ok (.aload_n 0, 1) := dk_42 (dk_at dksX0_feed_0 15 rfl rfl)
theorem dX0_feed_16 : decode cX0_feed 16 = .ok (.iload_n 1, 1) := dk_27 (dk_at dksX0_feed_0 16 rfl rfl)
theorem dX0_feed_17 : decode cX0_feed 17 = .ok (.invokevirtual 208, 3) := dk_182 0 208 (dk_at dksX0_feed_0 17 rfl rfl)
theorem dX0_feed_20 : decode cX0_feed 20 = .ok (.aload_n 0, 1) := dk_42 (dk_at dksX0_feed_0 20 rfl rfl)
theorem dX0_feed_21 : decode cX0_feed 21 = .ok (.iload_n 2, 1) := dk_28 (dk_at dksX0_feed_0 21 rfl rfl)
theorem dX0_feed_22 : decode cX0_feed 22 = .ok (.invokevirtual 208, 3) := dk_182 0 208 (dk_at dksX0_feed_1 0 rfl rfl)
theorem dX0_feed_25 : decode cX0_feed 25 = .ok (.aload_n 0, 1) := dk_42 (dk_at dksX0_feed_1 3 rfl rfl)
theorem dX0_feed_26 : decode cX0_feed 26 = .ok (.iload_n 3, 1) := dk_29 (dk_at dksX0_feed_1 4 rfl rfl)
theorem dX0_feed_27 : decode cX0_feed 27 = .ok (.invokevirtual 208, 3) := dk_182 0 208 (dk_at dksX0_feed_1 5 rfl rfl)
theorem dX0_feed_30 : decode cX0_feed 30 = .ok (.aload_n 0, 1) := dk_42 (dk_at dksX0_feed_1 8 rfl rfl)
theorem dX0_feed_31 : decode cX0_feed 31 = .ok (.iload 4, 2) := dk_21 4 (dk_at dksX0_feed_1 9 rfl rfl)
theorem dX0_feed_33 : decode cX0_feed 33 = .ok (.invokevirtual 208, 3) := dk_182 0 208 (dk_at dksX0_feed_1 11 rfl rfl)
theorem dX0_feed_36 : decode cX0_feed 36 = .ok (.aload_n 0, 1) := dk_42 (dk_at dksX0_feed_1 14 rfl rfl)
theorem dX0_feed_37 : decode cX0_feed 37 = .ok (.iload 5, 2) := dk_21 5 (dk_at dksX0_feed_1 15 rfl rfl)
theorem dX0_feed_39 : decode cX0_feed 39 = .ok (.invokevirtual 208, 3) := dk_182 0 208 (dk_at dksX0_feed_1 17 rfl rfl)
theorem dX0_feed_42 : decode cX0_feed 42 = .ok (.aload_n 0, 1) := dk_42 (dk_at dksX0_feed_1 20 rfl rfl)
theorem dX0_feed_43 : decode cX0_feed 43 = .ok (.getfield 205, 3) := dk_180 0 205 (dk_at dksX0_feed_1 21 rfl rfl)
theorem dX0_feed_46 : decode cX0_feed 46 = .ok (.ireturn, 1) := dk_172 (dk_at dksX0_feed_2 0 rfl rfl)
abbrev cX0_four : ByteArray := prog_1_method_25_code
def yX0_four : MethodName := ⟨RX0, "four", "(I)V"⟩
def dkwX0_four_1 : List UInt8 := [180, 0, 205, 4, 96, 181, 0, 205, 132, 2, 248, 167, 255, 226, 177]
abbrev dktX0_four_1 : List UInt8 := dkwX0_four_1 ++ []
def dkwX0_four_0 : List UInt8 := [16, 24, 61, 28, 155, 0, 32, 42, 180, 0, 70, 42, 180, 0, 205, 27, 28, 122, 145, 84, 42, 89]
abbrev dktX0_four_0 : List UInt8 := dkwX0_four_0 ++ dktX0_four_1
theorem dksX0_four_0 : cX0_four.data.toList.drop 0 = dktX0_four_0 := by decide +kernel
theorem dksX0_four_1 : cX0_four.data.toList.drop 22 = dktX0_four_1 := dk_seg dksX0_four_0 22 rfl rfl
theorem dX0_four_0 : decode cX0_four 0 = .ok (.bipush 24, 2) := dk_16 24 (dk_at dksX0_four_0 0 rfl rfl)
theorem dX0_four_2 : decode cX0_four 2 = .ok (.istore_n 2, 1) := dk_61 (dk_at dksX0_four_0 2 rfl rfl)
theorem dX0_four_3 : decode cX0_four 3 = .ok (.iload_n 2, 1) := dk_28 (dk_at dksX0_four_0 3 rfl rfl)
theorem dX0_four_4 : decode cX0_four 4 = .ok (.ifCond .lt 32, 3) := dk_155 0 32 (dk_at dksX0_four_0 4 rfl rfl)
theorem dX0_four_7 : decode cX0_four 7 = .ok (.aload_n 0, 1) := dk_42 (dk_at dksX0_four_0 7 rfl rfl)
theorem dX0_four_8 : decode cX0_four 8 = .ok (.getfield 70, 3) := dk_180 0 70 (dk_at dksX0_four_0 8 rfl rfl)
theorem dX0_four_11 : decode cX0_four 11 = .ok (.aload_n 0, 1) := dk_42 (dk_at dksX0_four_0 11 rfl rfl)
theorem dX0_four_12 : decode cX0_four 12 = .ok (.getfield 205, 3) := dk_180 0 205 (dk_at dksX0_four_0 12 rfl rfl)
theorem dX0_four_15 : decode cX0_four 15 = .ok (.iload_n 1, 1) := dk_27 (dk_at dksX0_four_0 15 rfl rfl)
theorem dX0_four_16 : decode cX0_four 16 = .ok (.iload_n 2, 1) := dk_28 (dk_at dksX0_four_0 16 rfl rfl)
theorem dX0_four_17 : decode cX0_four 17 = .ok (.ishr, 1) := dk_122 (dk_at dksX0_four_0 17 rfl rfl)
theorem dX0_four_18 : decode cX0_four 18 = .ok (.i2b, 1) := dk_145 (dk_at dksX0_four_0 18 rfl rfl)
theorem dX0_four_19 : decode cX0_four 19 = .ok (.bastore, 1) := dk_84 (dk_at dksX0_four_0 19 rfl rfl)
theorem dX0_four_20 : decode cX0_four 20 = .ok (.aload_n 0, 1) := dk_42 (dk_at dksX0_four_0 20 rfl rfl)
theorem dX0_four_21 : decode cX0_four 21 = .ok (.dup, 1) := dk_89 (dk_at dksX0_four_0 21 rfl rfl)
theorem dX0_four_22 : decode cX0_four 22 = .ok (.getfield 205, 3) := dk_180 0 205 (dk_at dksX0_four_1 0 rfl rfl)
theorem dX0_four_25 : decode cX0_four 25 = .ok (.iconst 1, 1) := dk_4 (dk_at dksX0_four_1 3 rfl rfl)
theorem dX0_four_26 : decode cX0_four 26 = .ok (.iadd, 1) := dk_96 (dk_at dksX0_four_1 4 rfl rfl)
theorem dX0_four_27 : decode cX0_four 27 = .ok (.putfield 205, 3) := dk_181 0 205 (dk_at dksX0_four_1 5 rfl rfl)
theorem dX0_four_30 : decode cX0_four 30 = .ok (.iinc 2 (-8), 3) := dk_132 2 248 (dk_at dksX0_four_1 8 rfl rfl)
theorem dX0_four_33 : decode cX0_four 33 = .ok (.goto (-30), 3) := dk_167 255 226 (dk_at dksX0_four_1 11 rfl rfl)
theorem dX0_four_36 : decode cX0_four 36 = .ok (.return_, 1) := dk_177 (dk_at dksX0_four_1 14 rfl rfl)
abbrev cX0_end : ByteArray := prog_1_method_26_code
def yX0_end : MethodName := ⟨RX0, "end", "(I)I"⟩
def dkwX0_end_0 : List UInt8 := [27, 155, 0, 11, 27, 42, 180, 0, 205, 164, 0, 5, 2, 172, 42, 27, 181, 0, 205, 27, 172]
abbrev dktX0_end_0 : List UInt8 := dkwX0_end_0 ++ []
theorem dksX0_end_0 : cX0_end.data.toList.drop 0 = dktX0_end_0 := by decide +kernel
theorem dX0_end_0 : decode cX0_end 0 = .ok (.iload_n 1, 1) := dk_27 (dk_at dksX0_end_0 0 rfl rfl)
theorem dX0_end_1 : decode cX0_end 1 = .ok (.ifCond .lt 11, 3) := dk_155 0 11 (dk_at dksX0_end_0 1 rfl rfl)
theorem dX0_end_4 : decode cX0_end 4 = .ok (.iload_n 1, 1) := dk_27 (dk_at dksX0_end_0 4 rfl rfl)
theorem dX0_end_5 : decode cX0_end 5 = .ok (.aload_n 0, 1) := dk_42 (dk_at dksX0_end_0 5 rfl rfl)
theorem dX0_end_6 : decode cX0_end 6 = .ok (.getfield 205, 3) := dk_180 0 205 (dk_at dksX0_end_0 6 rfl rfl)
theorem dX0_end_9 : decode cX0_end 9 = .ok (.if_icmp .le 5, 3) := dk_164 0 5 (dk_at dksX0_end_0 9 rfl rfl)
theorem dX0_end_12 : decode cX0_end 12 = .ok (.iconst (-1), 1) := dk_2 (dk_at dksX0_end_0 12 rfl rfl)
theorem dX0_end_13 : decode cX0_end 13 = .ok (.ireturn, 1) := dk_172 (dk_at dksX0_end_0 13 rfl rfl)
theorem dX0_end_14 : decode cX0_end 14 = .ok (.aload_n 0, 1) := dk_42 (dk_at dksX0_end_0 14 rfl rfl)
theorem dX0_end_15 : decode cX0_end 15 = .ok (.iload_n 1, 1) := dk_27 (dk_at dksX0_end_0 15 rfl rfl)
theorem dX0_end_16 : decode cX0_end 16 = .ok (.putfield 205, 3) := dk_181 0 205 (dk_at dksX0_end_0 16 rfl rfl)
theorem dX0_end_19 : decode cX0_end 19 = .ok (.iload_n 1, 1) := dk_27 (dk_at dksX0_end_0 19 rfl rfl)
theorem dX0_end_20 : decode cX0_end 20 = .ok (.ireturn, 1) := dk_172 (dk_at dksX0_end_0 20 rfl rfl)
abbrev cX0_row : ByteArray := prog_1_method_27_code
def yX0_row : MethodName := ⟨RX0, "row", "()I"⟩
def dkwX0_row_7 : List UInt8 := [132, 3, 1, 167, 255, 131, 42, 28, 182, 0, 137, 172]
abbrev dktX0_row_7 : List UInt8 := dkwX0_row_7 ++ []
def dkwX0_row_6 : List UInt8 := [3, 96, 61, 42, 89, 180, 0, 212, 21, 4, 153, 0, 7, 3, 167, 0, 4, 4, 96, 181, 0, 212]
abbrev dktX0_row_6 : List UInt8 := dkwX0_row_6 ++ dktX0_row_7
def dkwX0_row_5 : List UInt8 := [6, 29, 104, 21, 5, 96, 51, 79, 132, 5, 1, 167, 255, 223, 28, 21, 4, 153, 0, 7, 4, 167, 0, 4]
abbrev dktX0_row_5 : List UInt8 := dkwX0_row_5 ++ dktX0_row_6
def dkwX0_row_4 : List UInt8 := [54, 5, 21, 5, 6, 162, 0, 33, 21, 4, 153, 0, 28, 42, 21, 5, 182, 0, 157, 29, 42, 180, 0, 70]
abbrev dktX0_row_4 : List UInt8 := dkwX0_row_4 ++ dktX0_row_5
def dkwX0_row_3 : List UInt8 := [180, 0, 70, 6, 29, 104, 21, 5, 96, 51, 184, 0, 153, 126, 54, 4, 132, 5, 1, 167, 255, 226, 3]
abbrev dktX0_row_3 : List UInt8 := dkwX0_row_3 ++ dktX0_row_4
def dkwX0_row_2 : List UInt8 := [163, 0, 122, 29, 184, 0, 149, 54, 4, 3, 54, 5, 21, 5, 6, 162, 0, 30, 21, 4, 21, 5, 42]
abbrev dktX0_row_2 : List UInt8 := dkwX0_row_2 ++ dktX0_row_3
def dkwX0_row_1 : List UInt8 := [27, 6, 112, 154, 0, 7, 3, 167, 0, 4, 4, 181, 0, 212, 3, 62, 6, 29, 104, 6, 96, 27]
abbrev dktX0_row_1 : List UInt8 := dkwX0_row_1 ++ dktX0_row_2
def dkwX0_row_0 : List UInt8 := [42, 180, 0, 205, 60, 42, 3, 181, 0, 205, 27, 154, 0, 10, 42, 16, 250, 182, 0, 130, 172, 3, 61, 42]
abbrev dktX0_row_0 : List UInt8 := dkwX0_row_0 ++ dktX0_row_1
theorem dksX0_row_0 : cX0_row.data.toList.drop 0 = dktX0_row_0 := by decide +kernel
theorem dksX0_row_1 : cX0_row.data.toList.drop 24 = dktX0_row_1 := dk_seg dksX0_row_0 24 rfl rfl
theorem dksX0_row_2 : cX0_row.data.toList.drop 46 = dktX0_row_2 := dk_seg dksX0_row_1 22 rfl rfl
theorem dksX0_row_3 : cX0_row.data.toList.drop 69 = dktX0_row_3 := dk_seg dksX0_row_2 23 rfl rfl
theorem dksX0_row_4 : cX0_row.data.toList.drop 92 = dktX0_row_4 := dk_seg dksX0_row_3 23 rfl rfl
theorem dksX0_row_5 : cX0_row.data.toList.drop 116 = dktX0_row_5 := dk_seg dksX0_row_4 24 rfl rfl
theorem dksX0_row_6 : cX0_row.data.toList.drop 140 = dktX0_row_6 := dk_seg dksX0_row_5 24 rfl rfl
theorem dksX0_row_7 : cX0_row.data.toList.drop 162 = dktX0_row_7 := dk_seg dksX0_row_6 22 rfl rfl
theorem dX0_row_0 : decode cX0_row 0 = .ok (.aload_n 0, 1) := dk_42 (dk_at dksX0_row_0 0 rfl rfl)
theorem dX0_row_1 : decode cX0_row 1 = .ok (.getfield 205, 3) := dk_180 0 205 (dk_at dksX0_row_0 1 rfl rfl)
theorem dX0_row_4 : decode cX0_row 4 = .ok (.istore_n 1, 1) := dk_60 (dk_at dksX0_row_0 4 rfl rfl)
theorem dX0_row_5 : decode cX0_row 5 = .ok (.aload_n 0, 1) := dk_42 (dk_at dksX0_row_0 5 rfl rfl)
theorem dX0_row_6 : decode cX0_row 6 = .ok (.iconst 0, 1) := dk_3 (dk_at dksX0_row_0 6 rfl rfl)
theorem dX0_row_7 : decode cX0_row 7 = .ok (.putfield 205, 3) := dk_181 0 205 (dk_at dksX0_row_0 7 rfl rfl)
theorem dX0_row_10 : decode cX0_row 10 = .ok (.iload_n 1, 1) := dk_27 (dk_at dksX0_row_0 10 rfl rfl)
theorem dX0_row_11 : decode cX0_row 11 = .ok (.ifCond .ne 10, 3) := dk_154 0 10 (dk_at dksX0_row_0 11 rfl rfl)
theorem dX0_row_14 : decode cX0_row 14 = .ok (.aload_n 0, 1) := dk_42 (dk_at dksX0_row_0 14 rfl rfl)
theorem dX0_row_15 : decode cX0_row 15 = .ok (.bipush (-6), 2) := dk_16 250 (dk_at dksX0_row_0 15 rfl rfl)
theorem dX0_row_17 : decode cX0_row 17 = .ok (.invokevirtual 130, 3) := dk_182 0 130 (dk_at dksX0_row_0 17 rfl rfl)
theorem dX0_row_20 : decode cX0_row 20 = .ok (.ireturn, 1) := dk_172 (dk_at dksX0_row_0 20 rfl rfl)
theorem dX0_row_21 : decode cX0_row 21 = .ok (.iconst 0, 1) := dk_3 (dk_at dksX0_row_0 21 rfl rfl)
theorem dX0_row_22 : decode cX0_row 22 = .ok (.istore_n 2, 1) := dk_61 (dk_at dksX0_row_0 22 rfl rfl)
theorem dX0_row_23 : decode cX0_row 23 = .ok (.aload_n 0, 1) := dk_42 (dk_at dksX0_row_0 23 rfl rfl)
theorem dX0_row_24 : decode cX0_row 24 = .ok (.iload_n 1, 1) := dk_27 (dk_at dksX0_row_1 0 rfl rfl)
theorem dX0_row_25 : decode cX0_row 25 = .ok (.iconst 3, 1) := dk_6 (dk_at dksX0_row_1 1 rfl rfl)
theorem dX0_row_26 : decode cX0_row 26 = .ok (.irem, 1) := dk_112 (dk_at dksX0_row_1 2 rfl rfl)
theorem dX0_row_27 : decode cX0_row 27 = .ok (.ifCond .ne 7, 3) := dk_154 0 7 (dk_at dksX0_row_1 3 rfl rfl)
theorem dX0_row_30 : decode cX0_row 30 = .ok (.iconst 0, 1) := dk_3 (dk_at dksX0_row_1 6 rfl rfl)
theorem dX0_row_31 : decode cX0_row 31 = .ok (.goto 4, 3) := dk_167 0 4 (dk_at dksX0_row_1 7 rfl rfl)
theorem dX0_row_34 : decode cX0_row 34 = .ok (.iconst 1, 1) := dk_4 (dk_at dksX0_row_1 10 rfl rfl)
theorem dX0_row_35 : decode cX0_row 35 = .ok (.putfield 212, 3) := dk_181 0 212 (dk_at dksX0_row_1 11 rfl rfl)
theorem dX0_row_38 : decode cX0_row 38 = .ok (.iconst 0, 1) := dk_3 (dk_at dksX0_row_1 14 rfl rfl)
theorem dX0_row_39 : decode cX0_row 39 = .ok (.istore_n 3, 1) := dk_62 (dk_at dksX0_row_1 15 rfl rfl)
theorem dX0_row_40 : decode cX0_row 40 = .ok (.iconst 3, 1) := dk_6 (dk_at dksX0_row_1 16 rfl rfl)
theorem dX0_row_41 : decode cX0_row 41 = .ok (.iload_n 3, 1) := dk_29 (dk_at dksX0_row_1 17 rfl rfl)
theorem dX0_row_42 : decode cX0_row 42 = .ok (.imul, 1) := dk_104 (dk_at dksX0_row_1 18 rfl rfl)
theorem dX0_row_43 : decode cX0_row 43 = .ok (.iconst 3, 1) := dk_6 (dk_at dksX0_row_1 19 rfl rfl)
theorem dX0_row_44 : decode cX0_row 44 = .ok (.iadd, 1) := dk_96 (dk_at dksX0_row_1 20 rfl rfl)
theorem dX0_row_45 : decode cX0_row 45 = .ok (.iload_n 1, 1) := dk_27 (dk_at dksX0_row_1 21 rfl rfl)
theorem dX0_row_46 : decode cX0_row 46 = .ok (.if_icmp .gt 122, 3) := dk_163 0 122 (dk_at dksX0_row_2 0 rfl rfl)
theorem dX0_row_49 : decode cX0_row 49 = .ok (.iload_n 3, 1) := dk_29 (dk_at dksX0_row_2 3 rfl rfl)
theorem dX0_row_50 : decode cX0_row 50 = .ok (.invokestatic 149, 3) := dk_184 0 149 (dk_at dksX0_row_2 4 rfl rfl)
theorem dX0_row_53 : decode cX0_row 53 = .ok (.istore 4, 2) := dk_54 4 (dk_at dksX0_row_2 7 rfl rfl)
theorem dX0_row_55 : decode cX0_row 55 = .ok (.iconst 0, 1) := dk_3 (dk_at dksX0_row_2 9 rfl rfl)
theorem dX0_row_56 : decode cX0_row 56 = .ok (.istore 5, 2) := dk_54 5 (dk_at dksX0_row_2 10 rfl rfl)
theorem dX0_row_58 : decode cX0_row 58 = .ok (.iload 5, 2) := dk_21 5 (dk_at dksX0_row_2 12 rfl rfl)
theorem dX0_row_60 : decode cX0_row 60 = .ok (.iconst 3, 1) := dk_6 (dk_at dksX0_row_2 14 rfl rfl)
theorem dX0_row_61 : decode cX0_row 61 = .ok (.if_icmp .ge 30, 3) := dk_162 0 30 (dk_at dksX0_row_2 15 rfl rfl)
theorem dX0_row_64 : decode cX0_row 64 = .ok (.iload 4, 2) := dk_21 4 (dk_at dksX0_row_2 18 rfl rfl)
theorem dX0_row_66 : decode cX0_row 66 = .ok (.iload 5, 2) := dk_21 5 (dk_at dksX0_row_2 20 rfl rfl)
theorem dX0_row_68 : decode cX0_row 68 = .ok (.aload_n 0, 1) := dk_42 (dk_at dksX0_row_2 22 rfl rfl)
theorem dX0_row_69 : decode cX0_row 69 = .ok (.getfield 70, 3) := dk_180 0 70 (dk_at dksX0_row_3 0 rfl rfl)
theorem dX0_row_72 : decode cX0_row 72 = .ok (.iconst 3, 1) := dk_6 (dk_at dksX0_row_3 3 rfl rfl)
theorem dX0_row_73 : decode cX0_row 73 = .ok (.iload_n 3, 1) := dk_29 (dk_at dksX0_row_3 4 rfl rfl)
theorem dX0_row_74 : decode cX0_row 74 = .ok (.imul, 1) := dk_104 (dk_at dksX0_row_3 5 rfl rfl)
theorem dX0_row_75 : decode cX0_row 75 = .ok (.iload 5, 2) := dk_21 5 (dk_at dksX0_row_3 6 rfl rfl)
theorem dX0_row_77 : decode cX0_row 77 = .ok (.iadd, 1) := dk_96 (dk_at dksX0_row_3 8 rfl rfl)
theorem dX0_row_78 : decode cX0_row 78 = .ok (.baload, 1) := dk_51 (dk_at dksX0_row_3 9 rfl rfl)
theorem dX0_row_79 : decode cX0_row 79 = .ok (.invokestatic 153, 3) := dk_184 0 153 (dk_at dksX0_row_3 10 rfl rfl)
theorem dX0_row_82 : decode cX0_row 82 = .ok (.iand, 1) := dk_126 (dk_at dksX0_row_3 13 rfl rfl)
theorem dX0_row_83 : decode cX0_row 83 = .ok (.istore 4, 2) := dk_54 4 (dk_at dksX0_row_3 14 rfl rfl)
theorem dX0_row_85 : decode cX0_row 85 = .ok (.iinc 5 1, 3) := dk_132 5 1 (dk_at dksX0_row_3 16 rfl rfl)
theorem dX0_row_88 : decode cX0_row 88 = .ok (.goto (-30), 3) := dk_167 255 226 (dk_at dksX0_row_3 19 rfl rfl)
theorem dX0_row_91 : decode cX0_row 91 = .ok (.iconst 0, 1) := dk_3 (dk_at dksX0_row_3 22 rfl rfl)
theorem dX0_row_92 : decode cX0_row 92 = .ok (.istore 5, 2) := dk_54 5 (dk_at dksX0_row_4 0 rfl rfl)
theorem dX0_row_94 : decode cX0_row 94 = .ok (.iload 5, 2) := dk_21 5 (dk_at dksX0_row_4 2 rfl rfl)
theorem dX0_row_96 : decode cX0_row 96 = .ok (.iconst 3, 1) := dk_6 (dk_at dksX0_row_4 4 rfl rfl)
theorem dX0_row_97 : decode cX0_row 97 = .ok (.if_icmp .ge 33, 3) := dk_162 0 33 (dk_at dksX0_row_4 5 rfl rfl)
theorem dX0_row_100 : decode cX0_row 100 = .ok (.iload 4, 2) := dk_21 4 (dk_at dksX0_row_4 8 rfl rfl)
theorem dX0_row_102 : decode cX0_row 102 = .ok (.ifCond .eq 28, 3) := dk_153 0 28 (dk_at dksX0_row_4 10 rfl rfl)
theorem dX0_row_105 : decode cX0_row 105 = .ok (.aload_n 0, 1) := dk_42 (dk_at dksX0_row_4 13 rfl rfl)
theorem dX0_row_106 : decode cX0_row 106 = .ok (.iload 5, 2) := dk_21 5 (dk_at dksX0_row_4 14 rfl rfl)
theorem dX0_row_108 : decode cX0_row 108 = .ok (.invokevirtual 157, 3) := dk_182 0 157 (dk_at dksX0_row_4 16 rfl rfl)
theorem dX0_row_111 : decode cX0_row 111 = .ok (.iload_n 3, 1) := dk_29 (dk_at dksX0_row_4 19 rfl rfl)
theorem dX0_row_112 : decode cX0_row 112 = .ok (.aload_n 0, 1) := dk_42 (dk_at dksX0_row_4 20 rfl rfl)
theorem dX0_row_113 : decode cX0_row 113 = .ok (.getfield 70, 3) := dk_180 0 70 (dk_at dksX0_row_4 21 rfl rfl)
theorem dX0_row_116 : decode cX0_row 116 = .ok (.iconst 3, 1) := dk_6 (dk_at dksX0_row_5 0 rfl rfl)
theorem dX0_row_117 : decode cX0_row 117 = .ok (.iload_n 3, 1) := dk_29 (dk_at dksX0_row_5 1 rfl rfl)
theorem dX0_row_118 : decode cX0_row 118 = .ok (.imul, 1) := dk_104 (dk_at dksX0_row_5 2 rfl rfl)
theorem dX0_row_119 : decode cX0_row 119 = .ok (.iload 5, 2) := dk_21 5 (dk_at dksX0_row_5 3 rfl rfl)
theorem dX0_row_121 : decode cX0_row 121 = .ok (.iadd, 1) := dk_96 (dk_at dksX0_row_5 5 rfl rfl)
theorem dX0_row_122 : decode cX0_row 122 = .ok (.baload, 1) := dk_51 (dk_at dksX0_row_5 6 rfl rfl)
theorem dX0_row_123 : decode cX0_row 123 = .ok (.iastore, 1) := dk_79 (dk_at dksX0_row_5 7 rfl rfl)
theorem dX0_row_124 : decode cX0_row 124 = .ok (.iinc 5 1, 3) := dk_132 5 1 (dk_at dksX0_row_5 8 rfl rfl)
theorem dX0_row_127 : decode cX0_row 127 = .ok (.goto (-33), 3) := dk_167 255 223 (dk_at dksX0_row_5 11 rfl rfl)
theorem dX0_row_130 : decode cX0_row 130 = .ok (.iload_n 2, 1) := dk_28 (dk_at dksX0_row_5 14 rfl rfl)
theorem dX0_row_131 : decode cX0_row 131 = .ok (.iload 4, 2) := dk_21 4 (dk_at dksX0_row_5 15 rfl rfl)
theorem dX0_row_133 : decode cX0_row 133 = .ok (.ifCond .eq 7, 3) := dk_153 0 7 (dk_at dksX0_row_5 17 rfl rfl)
theorem dX0_row_136 : decode cX0_row 136 = .ok (.iconst 1, 1) := dk_4 (dk_at dksX0_row_5 20 rfl rfl)
theorem dX0_row_137 : decode cX0_row 137 = .ok (.goto 4, 3) := dk_167 0 4 (dk_at dksX0_row_5 21 rfl rfl)
theorem dX0_row_140 : decode cX0_row 140 = .ok (.iconst 0, 1) := dk_3 (dk_at dksX0_row_6 0 rfl rfl)
theorem dX0_row_141 : decode cX0_row 141 = .ok (.iadd, 1) := dk_96 (dk_at dksX0_row_6 1 rfl rfl)
theorem dX0_row_142 : decode cX0_row 142 = .ok (.istore_n 2, 1) := dk_61 (dk_at dksX0_row_6 2 rfl rfl)
theorem dX0_row_143 : decode cX0_row 143 = .ok (.aload_n 0, 1) := dk_42 (dk_at dksX0_row_6 3 rfl rfl)
theorem dX0_row_144 : decode cX0_row 144 = .ok (.dup, 1) := dk_89 (dk_at dksX0_row_6 4 rfl rfl)
theorem dX0_row_145 : decode cX0_row 145 = .ok (.getfield 212, 3) := dk_180 0 212 (dk_at dksX0_row_6 5 rfl rfl)
theorem dX0_row_148 : decode cX0_row 148 = .ok (.iload 4, 2) := dk_21 4 (dk_at dksX0_row_6 8 rfl rfl)
theorem dX0_row_150 : decode cX0_row 150 = .ok (.ifCond .eq 7, 3) := dk_153 0 7 (dk_at dksX0_row_6 10 rfl rfl)
theorem dX0_row_153 : decode cX0_row 153 = .ok (.iconst 0, 1) := dk_3 (dk_at dksX0_row_6 13 rfl rfl)
theorem dX0_row_154 : decode cX0_row 154 = .ok (.goto 4, 3) := dk_167 0 4 (dk_at dksX0_row_6 14 rfl rfl)
theorem dX0_row_157 : decode cX0_row 157 = .ok (.iconst 1, 1) := dk_4 (dk_at dksX0_row_6 17 rfl rfl)
theorem dX0_row_158 : decode cX0_row 158 = .ok (.iadd, 1) := dk_96 (dk_at dksX0_row_6 18 rfl rfl)
theorem dX0_row_159 : decode cX0_row 159 = .ok (.putfield 212, 3) := dk_181 0 212 (dk_at dksX0_row_6 19 rfl rfl)
theorem dX0_row_162 : decode cX0_row 162 = .ok (.iinc 3 1, 3) := dk_132 3 1 (dk_at dksX0_row_7 0 rfl rfl)
theorem dX0_row_165 : decode cX0_row 165 = .ok (.goto (-125), 3) := dk_167 255 131 (dk_at dksX0_row_7 3 rfl rfl)
theorem dX0_row_168 : decode cX0_row 168 = .ok (.aload_n 0, 1) := dk_42 (dk_at dksX0_row_7 6 rfl rfl)
theorem dX0_row_169 : decode cX0_row 169 = .ok (.iload_n 2, 1) := dk_28 (dk_at dksX0_row_7 7 rfl rfl)
theorem dX0_row_170 : decode cX0_row 170 = .ok (.invokevirtual 137, 3) := dk_182 0 137 (dk_at dksX0_row_7 8 rfl rfl)
theorem dX0_row_173 : decode cX0_row 173 = .ok (.ireturn, 1) := dk_172 (dk_at dksX0_row_7 11 rfl rfl)
abbrev cX0_moss : ByteArray := prog_1_method_28_code
def yX0_moss : MethodName := ⟨RX0, "moss", "()I"⟩
theorem dX0_moss_0 : decode cX0_moss 0 = .ok (.aload_n 0, 1) := by decide +kernel
theorem dX0_moss_1 : decode cX0_moss 1 = .ok (.getfield 212, 3) := by decide +kernel
theorem dX0_moss_4 : decode cX0_moss 4 = .ok (.ireturn, 1) := by decide +kernel
abbrev cX0_law : ByteArray := prog_1_method_30_code
def yX0_law : MethodName := ⟨RX0, "law", "()I"⟩
def dkwX0_law_5 : List UInt8 := [89, 44, 180, 0, 252, 183, 0, 255, 182, 1, 2, 87, 42, 29, 182, 0, 124, 172]
abbrev dktX0_law_5 : List UInt8 := dkwX0_law_5 ++ []
def dkwX0_law_4 : List UInt8 := [153, 0, 9, 4, 29, 120, 167, 0, 4, 3, 128, 181, 0, 243, 42, 180, 0, 39, 180, 0, 225, 187, 0, 250]
abbrev dktX0_law_4 : List UInt8 := dkwX0_law_4 ++ dktX0_law_5
def dkwX0_law_3 : List UInt8 := [62, 42, 180, 0, 39, 42, 180, 0, 39, 180, 0, 243, 4, 29, 120, 2, 130, 126, 44, 180, 0, 246]
abbrev dktX0_law_3 : List UInt8 := dkwX0_law_3 ++ dktX0_law_4
def dkwX0_law_2 : List UInt8 := [44, 182, 0, 239, 154, 0, 10, 42, 16, 250, 182, 0, 130, 172, 42, 180, 0, 39, 180, 0, 225, 182, 0, 229]
abbrev dktX0_law_2 : List UInt8 := dkwX0_law_2 ++ dktX0_law_3
def dkwX0_law_1 : List UInt8 := [160, 0, 10, 42, 16, 251, 182, 0, 130, 172, 187, 0, 234, 89, 42, 180, 0, 70, 27, 183, 0, 236, 77, 42]
abbrev dktX0_law_1 : List UInt8 := dkwX0_law_1 ++ dktX0_law_2
def dkwX0_law_0 : List UInt8 := [42, 180, 0, 205, 60, 42, 3, 181, 0, 205, 42, 180, 0, 39, 180, 0, 225, 182, 0, 229, 16, 6]
abbrev dktX0_law_0 : List UInt8 := dkwX0_law_0 ++ dktX0_law_1
theorem dksX0_law_0 : cX0_law.data.toList.drop 0 = dktX0_law_0 := by decide +kernel
theorem dksX0_law_1 : cX0_law.data.toList.drop 22 = dktX0_law_1 := dk_seg dksX0_law_0 22 rfl rfl
theorem dksX0_law_2 : cX0_law.data.toList.drop 46 = dktX0_law_2 := dk_seg dksX0_law_1 24 rfl rfl
theorem dksX0_law_3 : cX0_law.data.toList.drop 70 = dktX0_law_3 := dk_seg dksX0_law_2 24 rfl rfl
theorem dksX0_law_4 : cX0_law.data.toList.drop 92 = dktX0_law_4 := dk_seg dksX0_law_3 22 rfl rfl
theorem dksX0_law_5 : cX0_law.data.toList.drop 116 = dktX0_law_5 := dk_seg dksX0_law_4 24 rfl rfl
theorem dX0_law_0 : decode cX0_law 0 = .ok (.aload_n 0, 1) := dk_42 (dk_at dksX0_law_0 0 rfl rfl)
theorem dX0_law_1 : decode cX0_law 1 = .ok (.getfield 205, 3) := dk_180 0 205 (dk_at dksX0_law_0 1 rfl rfl)
theorem dX0_law_4 : decode cX0_law 4 = .ok (.istore_n 1, 1) := dk_60 (dk_at dksX0_law_0 4 rfl rfl)
theorem dX0_law_5 : decode cX0_law 5 = .ok (.aload_n 0, 1) := dk_42 (dk_at dksX0_law_0 5 rfl rfl)
theorem dX0_law_6 : decode cX0_law 6 = .ok (.iconst 0, 1) := dk_3 (dk_at dksX0_law_0 6 rfl rfl)
theorem dX0_law_7 : decode cX0_law 7 = .ok (.putfield 205, 3) := dk_181 0 205 (dk_at dksX0_law_0 7 rfl rfl)
theorem dX0_law_10 : decode cX0_law 10 = .ok (.aload_n 0, 1) := dk_42 (dk_at dksX0_law_0 10 rfl rfl)
theorem dX0_law_11 : decode cX0_law 11 = .ok (.getfield 39, 3) := dk_180 0 39 (dk_at dksX0_law_0 11 rfl rfl)
theorem dX0_law_14 : decode cX0_law 14 = .ok (.getfield 225, 3) := dk_180 0 225 (dk_at dksX0_law_0 14 rfl rfl)
theorem dX0_law_17 : decode cX0_law 17 = .ok (.invokevirtual 229, 3) := dk_182 0 229 (dk_at dksX0_law_0 17 rfl rfl)
theorem dX0_law_20 : decode cX0_law 20 = .ok (.bipush 6, 2) := dk_16 6 (dk_at dksX0_law_0 20 rfl rfl)
theorem dX0_law_22 : decode cX0_law 22 = .ok (.if_icmp .ne 10, 3) := dk_160 0 10 (dk_at dksX0_law_1 0 rfl rfl)
theorem dX0_law_25 : decode cX0_law 25 = .ok (.aload_n 0, 1) := dk_42 (dk_at dksX0_law_1 3 rfl rfl)
theorem dX0_law_26 : decode cX0_law 26 = .ok (.bipush (-5), 2) := dk_16 251 (dk_at dksX0_law_1 4 rfl rfl)
theorem dX0_law_28 : decode cX0_law 28 = .ok (.invokevirtual 130, 3) := dk_182 0 130 (dk_at dksX0_law_1 6 rfl rfl)
theorem dX0_law_31 : decode cX0_law 31 = .ok (.ireturn, 1) := dk_172 (dk_at dksX0_law_1 9 rfl rfl)
theorem dX0_law_32 : decode cX0_law 32 = .ok (.new 234, 3) := dk_187 0 234 (dk_at dksX0_law_1 10 rfl rfl)
theorem dX0_law_35 : decode cX0_law 35 = .ok (.dup, 1) := dk_89 (dk_at dksX0_law_1 13 rfl rfl)
theorem dX0_law_36 : decode cX0_law 36 = .ok (.aload_n 0, 1) := dk_42 (dk_at dksX0_law_1 14 rfl rfl)
theorem dX0_law_37 : decode cX0_law 37 = .ok (.getfield 70, 3) := dk_180 0 70 (dk_at dksX0_law_1 15 rfl rfl)
theorem dX0_law_40 : decode cX0_law 40 = .ok (.iload_n 1, 1) := dk_27 (dk_at dksX0_law_1 18 rfl rfl)
theorem dX0_law_41 : decode cX0_law 41 = .ok (.invokespecial 236, 3) := dk_183 0 236 (dk_at dksX0_law_1 19 rfl rfl)
theorem dX0_law_44 : decode cX0_law 44 = .ok (.astore_n 2, 1) := dk_77 (dk_at dksX0_law_1 22 rfl rfl)
theorem dX0_law_45 : decode cX0_law 45 = .ok (.aload_n 0, 1) := dk_42 (dk_at dksX0_law_1 23 rfl rfl)
theorem dX0_law_46 : decode cX0_law 46 = .ok (.aload_n 2, 1) := dk_44 (dk_at dksX0_law_2 0 rfl rfl)
theorem dX0_law_47 : decode cX0_law 47 = .ok (.invokevirtual 239, 3) := dk_182 0 239 (dk_at dksX0_law_2 1 rfl rfl)
theorem dX0_law_50 : decode cX0_law 50 = .ok (.ifCond .ne 10, 3) := dk_154 0 10 (dk_at dksX0_law_2 4 rfl rfl)
theorem dX0_law_53 : decode cX0_law 53 = .ok (.aload_n 0, 1) := dk_42 (dk_at dksX0_law_2 7 rfl rfl)
theorem dX0_law_54 : decode cX0_law 54 = .ok (.bipush (-6), 2) := dk_16 250 (dk_at dksX0_law_2 8 rfl rfl)
theorem dX0_law_56 : decode cX0_law 56 = .ok (.invokevirtual 130, 3) := dk_182 0 130 (dk_at dksX0_law_2 10 rfl rfl)
theorem dX0_law_59 : decode cX0_law 59 = .ok (.ireturn, 1) := dk_172 (dk_at dksX0_law_2 13 rfl rfl)
theorem dX0_law_60 : decode cX0_law 60 = .ok (.aload_n 0, 1) := dk_42 (dk_at dksX0_law_2 14 rfl rfl)
theorem dX0_law_61 : decode cX0_law 61 = .ok (.getfield 39, 3) := dk_180 0 39 (dk_at dksX0_law_2 15 rfl rfl)
theorem dX0_law_64 : decode cX0_law 64 = .ok (.getfield 225, 3) := dk_180 0 225 (dk_at dksX0_law_2 18 rfl rfl)
theorem dX0_law_67 : decode cX0_law 67 = .ok (.invokevirtual 229, 3) := dk_182 0 229 (dk_at dksX0_law_2 21 rfl rfl)
theorem dX0_law_70 : decode cX0_law 70 = .ok (.istore_n 3, 1) := dk_62 (dk_at dksX0_law_3 0 rfl rfl)
theorem dX0_law_71 : decode cX0_law 71 = .ok (.aload_n 0, 1) := dk_42 (dk_at dksX0_law_3 1 rfl rfl)
theorem dX0_law_72 : decode cX0_law 72 = .ok (.getfield 39, 3) := dk_180 0 39 (dk_at dksX0_law_3 2 rfl rfl)
theorem dX0_law_75 : decode cX0_law 75 = .ok (.aload_n 0, 1) := dk_42 (dk_at dksX0_law_3 5 rfl rfl)
theorem dX0_law_76 : decode cX0_law 76 = .ok (.getfield 39, 3) := dk_180 0 39 (dk_at dksX0_law_3 6 rfl rfl)
theorem dX0_law_79 : decode cX0_law 79 = .ok (.getfield 243, 3) := dk_180 0 243 (dk_at dksX0_law_3 9 rfl rfl)
theorem dX0_law_82 : decode cX0_law 82 = .ok (.iconst 1, 1) := dk_4 (dk_at dksX0_law_3 12 rfl rfl)
theorem dX0_law_83 : decode cX0_law 83 = .ok (.iload_n 3, 1) := dk_29 (dk_at dksX0_law_3 13 rfl rfl)
theorem dX0_law_84 : decode cX0_law 84 = .ok (.ishl, 1) := dk_120 (dk_at dksX0_law_3 14 rfl rfl)
theorem dX0_law_85 : decode cX0_law 85 = .ok (.iconst (-1), 1) := dk_2 (dk_at dksX0_law_3 15 rfl rfl)
theorem dX0_law_86 : decode cX0_law 86 = .ok (.ixor, 1) := dk_130 (dk_at dksX0_law_3 16 rfl rfl)
theorem dX0_law_87 : decode cX0_law 87 = .ok (.iand, 1) := dk_126 (dk_at dksX0_law_3 17 rfl rfl)
theorem dX0_law_88 : decode cX0_law 88 = .ok (.aload_n 2, 1) := dk_44 (dk_at dksX0_law_3 18 rfl rfl)
theorem dX0_law_89 : decode cX0_law 89 = .ok (.getfield 246, 3) := dk_180 0 246 (dk_at dksX0_law_3 19 rfl rfl)
theorem dX0_law_92 : decode cX0_law 92 = .ok (.ifCond .eq 9, 3) := dk_153 0 9 (dk_at dksX0_law_4 0 rfl rfl)
theorem dX0_law_95 : decode cX0_law 95 = .ok (.iconst 1, 1) := dk_4 (dk_at dksX0_law_4 3 rfl rfl)
theorem dX0_law_96 : decode cX0_law 96 = .ok (.iload_n 3, 1) := dk_29 (dk_at dksX0_law_4 4 rfl rfl)
theorem dX0_law_97 : decode cX0_law 97 = .ok (.ishl, 1) := dk_120 (dk_at dksX0_law_4 5 rfl rfl)
theorem dX0_law_98 : decode cX0_law 98 = .ok (.goto 4, 3) := dk_167 0 4 (dk_at dksX0_law_4 6 rfl rfl)
theorem dX0_law_101 : decode cX0_law 101 = .ok (.iconst 0, 1) := dk_3 (dk_at dksX0_law_4 9 rfl rfl)
theorem dX0_law_102 : decode cX0_law 102 = .ok (.ior, 1) := dk_128 (dk_at dksX0_law_4 10 rfl rfl)
theorem dX0_law_103 : decode cX0_law 103 = .ok (.putfield 243, 3) := dk_181 0 243 (dk_at dksX0_law_4 11 rfl rfl)
theorem dX0_law_106 : decode cX0_law 106 = .ok (.aload_n 0, 1) := dk_42 (dk_at dksX0_law_4 14 rfl rfl)
theorem dX0_law_107 : decode cX0_law 107 = .ok (.getfield 39, 3) := dk_180 0 39 (dk_at dksX0_law_4 15 rfl rfl)
theorem dX0_law_110 : decode cX0_law 110 = .ok (.getfield 225, 3) := dk_180 0 225 (dk_at dksX0_law_4 18 rfl rfl)
theorem dX0_law_113 : decode cX0_law 113 = .ok (.new 250, 3) := dk_187 0 250 (dk_at dksX0_law_4 21 rfl rfl)
theorem dX0_law_116 : decode cX0_law 116 = .ok (.dup, 1) := dk_89 (dk_at dksX0_law_5 0 rfl rfl)
theorem dX0_law_117 : decode cX0_law 117 = .ok (.aload_n 2, 1) := dk_44 (dk_at dksX0_law_5 1 rfl rfl)
theorem dX0_law_118 : decode cX0_law 118 = .ok (.getfield 252, 3) := dk_180 0 252 (dk_at dksX0_law_5 2 rfl rfl)
theorem dX0_law_121 : decode cX0_law 121 = .ok (.invokespecial 255, 3) := dk_183 0 255 (dk_at dksX0_law_5 5 rfl rfl)
theorem dX0_law_124 : decode cX0_law 124 = .ok (.invokevirtual 258, 3) := dk_182 1 2 (dk_at dksX0_law_5 8 rfl rfl)
theorem dX0_law_127 : decode cX0_law 127 = .ok (.pop, 1) := dk_87 (dk_at dksX0_law_5 11 rfl rfl)
theorem dX0_law_128 : decode cX0_law 128 = .ok (.aload_n 0, 1) := dk_42 (dk_at dksX0_law_5 12 rfl rfl)
theorem dX0_law_129 : decode cX0_law 129 = .ok (.iload_n 3, 1) := dk_29 (dk_at dksX0_law_5 13 rfl rfl)
theorem dX0_law_130 : decode cX0_law 130 = .ok (.invokevirtual 124, 3) := dk_182 0 124 (dk_at dksX0_law_5 14 rfl rfl)
theorem dX0_law_133 : decode cX0_law 133 = .ok (.ireturn, 1) := dk_172 (dk_at dksX0_law_5 17 rfl rfl)
abbrev cX0_reads : ByteArray := prog_1_method_29_code
def yX0_reads : MethodName := ⟨RX0, "reads", "(LForestRooms$Reader;)Z"⟩
def dkwX0_reads_1 : List UInt8 := [172]
abbrev dktX0_reads_1 : List UInt8 := dkwX0_reads_1 ++ []
def dkwX0_reads_0 : List UInt8 := [43, 182, 0, 215, 167, 0, 14, 77, 42, 44, 180, 0, 222, 181, 0, 74, 3, 172, 42, 2, 181, 0, 74, 4]
abbrev dktX0_reads_0 : List UInt8 := dkwX0_reads_0 ++ dktX0_reads_1
theorem dksX0_reads_0 : cX0_reads.data.toList.drop 0 = dktX0_reads_0 := by decide +kernel
theorem dksX0_reads_1 : cX0_reads.data.toList.drop 24 = dktX0_reads_1 := dk_seg dksX0_reads_0 24 rfl rfl
theorem dX0_reads_0 : decode cX0_reads 0 = .ok (.aload_n 1, 1) := dk_43 (dk_at dksX0_reads_0 0 rfl rfl)
theorem dX0_reads_1 : decode cX0_reads 1 = .ok (.invokevirtual 215, 3) := dk_182 0 215 (dk_at dksX0_reads_0 1 rfl rfl)
theorem dX0_reads_4 : decode cX0_reads 4 = .ok (.goto 14, 3) := dk_167 0 14 (dk_at dksX0_reads_0 4 rfl rfl)
theorem dX0_reads_7 : decode cX0_reads 7 = .ok (.astore_n 2, 1) := dk_77 (dk_at dksX0_reads_0 7 rfl rfl)
theorem dX0_reads_8 : decode cX0_reads 8 = .ok (.aload_n 0, 1) := dk_42 (dk_at dksX0_reads_0 8 rfl rfl)
theorem dX0_reads_9 : decode cX0_reads 9 = .ok (.aload_n 2, 1) := dk_44 (dk_at dksX0_reads_0 9 rfl rfl)
theorem dX0_reads_10 : decode cX0_reads 10 = .ok (.getfield 222, 3) := dk_180 0 222 (dk_at dksX0_reads_0 10 rfl rfl)
theorem dX0_reads_13 : decode cX0_reads 13 = .ok (.putfield 74, 3) := dk_181 0 74 (dk_at dksX0_reads_0 13 rfl rfl)
theorem dX0_reads_16 : decode cX0_reads 16 = .ok (.iconst 0, 1) := dk_3 (dk_at dksX0_reads_0 16 rfl rfl)
theorem dX0_reads_17 : decode cX0_reads 17 = .ok (.ireturn, 1) := dk_172 (dk_at dksX0_reads_0 17 rfl rfl)
theorem dX0_reads_18 : decode cX0_reads 18 = .ok (.aload_n 0, 1) := dk_42 (dk_at dksX0_reads_0 18 rfl rfl)
theorem dX0_reads_19 : decode cX0_reads 19 = .ok (.iconst (-1), 1) := dk_2 (dk_at dksX0_reads_0 19 rfl rfl)
theorem dX0_reads_20 : decode cX0_reads 20 = .ok (.putfield 74, 3) := dk_181 0 74 (dk_at dksX0_reads_0 20 rfl rfl)
theorem dX0_reads_23 : decode cX0_reads 23 = .ok (.iconst 1, 1) := dk_4 (dk_at dksX0_reads_0 23 rfl rfl)
theorem dX0_reads_24 : decode cX0_reads 24 = .ok (.ireturn, 1) := dk_172 (dk_at dksX0_reads_1 0 rfl rfl)
abbrev cX0_fault : ByteArray := prog_1_method_31_code
def yX0_fault : MethodName := ⟨RX0, "fault", "()I"⟩
theorem dX0_fault_0 : decode cX0_fault 0 = .ok (.aload_n 0, 1) := by decide +kernel
theorem dX0_fault_1 : decode cX0_fault 1 = .ok (.getfield 74, 3) := by decide +kernel
theorem dX0_fault_4 : decode cX0_fault 4 = .ok (.ireturn, 1) := by decide +kernel
abbrev cX0_stopped : ByteArray := prog_1_method_32_code
def yX0_stopped : MethodName := ⟨RX0, "stopped", "()I"⟩
theorem dX0_stopped_0 : decode cX0_stopped 0 = .ok (.aload_n 0, 1) := by decide +kernel
theorem dX0_stopped_1 : decode cX0_stopped 1 = .ok (.getfield 77, 3) := by decide +kernel
theorem dX0_stopped_4 : decode cX0_stopped 4 = .ok (.ireturn, 1) := by decide +kernel
abbrev cX0_force : ByteArray := prog_1_method_33_code
def yX0_force : MethodName := ⟨RX0, "force", "(I)I"⟩
def dkwX0_force_2 : List UInt8 := [181, 1, 6, 42, 28, 182, 0, 124, 172]
abbrev dktX0_force_2 : List UInt8 := dkwX0_force_2 ++ []
def dkwX0_force_1 : List UInt8 := [154, 0, 10, 42, 16, 254, 182, 0, 130, 172, 42, 180, 0, 39, 180, 1, 6, 61, 42, 180, 0, 39, 27]
abbrev dktX0_force_1 : List UInt8 := dkwX0_force_1 ++ dktX0_force_2
def dkwX0_force_0 : List UInt8 := [27, 2, 159, 0, 30, 27, 3, 42, 180, 0, 39, 180, 0, 225, 182, 0, 229, 4, 100, 184, 0, 26]
abbrev dktX0_force_0 : List UInt8 := dkwX0_force_0 ++ dktX0_force_1
theorem dksX0_force_0 : cX0_force.data.toList.drop 0 = dktX0_force_0 := by decide +kernel
theorem dksX0_force_1 : cX0_force.data.toList.drop 22 = dktX0_force_1 := dk_seg dksX0_force_0 22 rfl rfl
theorem dksX0_force_2 : cX0_force.data.toList.drop 45 = dktX0_force_2 := dk_seg dksX0_force_1 23 rfl rfl
theorem dX0_force_0 : decode cX0_force 0 = .ok (.iload_n 1, 1) := dk_27 (dk_at dksX0_force_0 0 rfl rfl)
theorem dX0_force_1 : decode cX0_force 1 = .ok (.iconst (-1), 1) := dk_2 (dk_at dksX0_force_0 1 rfl rfl)
theorem dX0_force_2 : decode cX0_force 2 = .ok (.if_icmp .eq 30, 3) := dk_159 0 30 (dk_at dksX0_force_0 2 rfl rfl)
theorem dX0_force_5 : decode cX0_force 5 = .ok (.iload_n 1, 1) := dk_27 (dk_at dksX0_force_0 5 rfl rfl)
theorem dX0_force_6 : decode cX0_force 6 = .ok (.iconst 0, 1) := dk_3 (dk_at dksX0_force_0 6 rfl rfl)
theorem dX0_force_7 : decode cX0_force 7 = .ok (.aload_n 0, 1) := dk_42 (dk_at dksX0_force_0 7 rfl rfl)
theorem dX0_force_8 : decode cX0_force 8 = .ok (.getfield 39, 3) := dk_180 0 39 (dk_at dksX0_force_0 8 rfl rfl)
theorem dX0_force_11 : decode cX0_force 11 = .ok (.getfield 225, 3) := dk_180 0 225 (dk_at dksX0_force_0 11 rfl rfl)
theorem dX0_force_14 : decode cX0_force 14 = .ok (.invokevirtual 229, 3) := dk_182 0 229 (dk_at dksX0_force_0 14 rfl rfl)
theorem dX0_force_17 : decode cX0_force 17 = .ok (.iconst 1, 1) := dk_4 (dk_at dksX0_force_0 17 rfl rfl)
theorem dX0_force_18 : decode cX0_force 18 = .ok (.isub, 1) := dk_100 (dk_at dksX0_force_0 18 rfl rfl)
theorem dX0_force_19 : decode cX0_force 19 = .ok (.invokestatic 26, 3) := dk_184 0 26 (dk_at dksX0_force_0 19 rfl rfl)
theorem dX0_force_22 : decode cX0_force 22 = .ok (.ifCond .ne 10, 3) := dk_154 0 10 (dk_at dksX0_force_1 0 rfl rfl)
theorem dX0_force_25 : decode cX0_force 25 = .ok (.aload_n 0, 1) := dk_42 (dk_at dksX0_force_1 3 rfl rfl)
theorem dX0_force_26 : decode cX0_force 26 = .ok (.bipush (-2), 2) := dk_16 254 (dk_at dksX0_force_1 4 rfl rfl)
theorem dX0_force_28 : decode cX0_force 28 = .ok (.invokevirtual 130, 3) := dk_182 0 130 (dk_at dksX0_force_1 6 rfl rfl)
theorem dX0_force_31 : decode cX0_force 31 = .ok (.ireturn, 1) := dk_172 (dk_at dksX0_force_1 9 rfl rfl)
theorem dX0_force_32 : decode cX0_force 32 = .ok (.aload_n 0, 1) := dk_42 (dk_at dksX0_force_1 10 rfl rfl)
theorem dX0_force_33 : decode cX0_force 33 = .ok (.getfield 39, 3) := dk_180 0 39 (dk_at dksX0_force_1 11 rfl rfl)
theorem dX0_force_36 : decode cX0_force 36 = .ok (.getfield 262, 3) := dk_180 1 6 (dk_at dksX0_force_1 14 rfl rfl)
theorem dX0_force_39 : decode cX0_force 39 = .ok (.istore_n 2, 1) := dk_61 (dk_at dksX0_force_1 17 rfl rfl)
theorem dX0_force_40 : decode cX0_force 40 = .ok (.aload_n 0, 1) := dk_42 (dk_at dksX0_force_1 18 rfl rfl)
theorem dX0_force_41 : decode cX0_force 41 = .ok (.getfield 39, 3) := dk_180 0 39 (dk_at dksX0_force_1 19 rfl rfl)
theorem dX0_force_44 : decode cX0_force 44 = .ok (.iload_n 1, 1) := dk_27 (dk_at dksX0_force_1 22 rfl rfl)
theorem dX0_force_45 : decode cX0_force 45 = .ok (.putfield 262, 3) := dk_181 1 6 (dk_at dksX0_force_2 0 rfl rfl)
theorem dX0_force_48 : decode cX0_force 48 = .ok (.aload_n 0, 1) := dk_42 (dk_at dksX0_force_2 3 rfl rfl)
theorem dX0_force_49 : decode cX0_force 49 = .ok (.iload_n 2, 1) := dk_28 (dk_at dksX0_force_2 4 rfl rfl)
theorem dX0_force_50 : decode cX0_force 50 = .ok (.invokevirtual 124, 3) := dk_182 0 124 (dk_at dksX0_force_2 5 rfl rfl)
theorem dX0_force_53 : decode cX0_force 53 = .ok (.ireturn, 1) := dk_172 (dk_at dksX0_force_2 8 rfl rfl)
abbrev cX0_asks : ByteArray := prog_1_method_41_code
def yX0_asks : MethodName := ⟨RX0, "asks", "(III)I"⟩
def dkwX0_asks_3 : List UInt8 := [182, 0, 161, 27, 182, 1, 51, 172, 2, 172]
abbrev dktX0_asks_3 : List UInt8 := dkwX0_asks_3 ++ []
def dkwX0_asks_2 : List UInt8 := [42, 27, 28, 182, 1, 44, 172, 42, 27, 28, 182, 1, 48, 153, 0, 7, 4, 167, 0, 4, 3, 172, 42]
abbrev dktX0_asks_2 : List UInt8 := dkwX0_asks_2 ++ dktX0_asks_3
def dkwX0_asks_1 : List UInt8 := [170, 0, 0, 0, 0, 57, 0, 0, 0, 0, 0, 0, 0, 2, 0, 0, 0, 26, 0, 0, 0, 33, 0, 0, 0, 48]
abbrev dktX0_asks_1 : List UInt8 := dkwX0_asks_1 ++ dktX0_asks_2
def dkwX0_asks_0 : List UInt8 := [27, 184, 1, 41, 153, 0, 15, 29, 5, 159, 0, 12, 28, 184, 0, 149, 154, 0, 5, 2, 172, 29]
abbrev dktX0_asks_0 : List UInt8 := dkwX0_asks_0 ++ dktX0_asks_1
theorem dksX0_asks_0 : cX0_asks.data.toList.drop 0 = dktX0_asks_0 := by decide +kernel
theorem dksX0_asks_1 : cX0_asks.data.toList.drop 22 = dktX0_asks_1 := dk_seg dksX0_asks_0 22 rfl rfl
theorem dksX0_asks_2 : cX0_asks.data.toList.drop 48 = dktX0_asks_2 := dk_seg dksX0_asks_1 26 rfl rfl
theorem dksX0_asks_3 : cX0_asks.data.toList.drop 71 = dktX0_asks_3 := dk_seg dksX0_asks_2 23 rfl rfl
theorem dX0_asks_0 : decode cX0_asks 0 = .ok (.iload_n 1, 1) := dk_27 (dk_at dksX0_asks_0 0 rfl rfl)
theorem dX0_asks_1 : decode cX0_asks 1 = .ok (.invokestatic 297, 3) := dk_184 1 41 (dk_at dksX0_asks_0 1 rfl rfl)
theorem dX0_asks_4 : decode cX0_asks 4 = .ok (.ifCond .eq 15, 3) := dk_153 0 15 (dk_at dksX0_asks_0 4 rfl rfl)
theorem dX0_asks_7 : decode cX0_asks 7 = .ok (.iload_n 3, 1) := dk_29 (dk_at dksX0_asks_0 7 rfl rfl)
theorem dX0_asks_8 : decode cX0_asks 8 = .ok (.iconst 2, 1) := dk_5 (dk_at dksX0_asks_0 8 rfl rfl)
theorem dX0_asks_9 : decode cX0_asks 9 = .ok (.if_icmp .eq 12, 3) := dk_159 0 12 (dk_at dksX0_asks_0 9 rfl rfl)
theorem dX0_asks_12 : decode cX0_asks 12 = .ok (.iload_n 2, 1) := dk_28 (dk_at dksX0_asks_0 12 rfl rfl)
theorem dX0_asks_13 : decode cX0_asks 13 = .ok (.invokestatic 149, 3) := dk_184 0 149 (dk_at dksX0_asks_0 13 rfl rfl)
theorem dX0_asks_16 : decode cX0_asks 16 = .ok (.ifCond .ne 5, 3) := dk_154 0 5 (dk_at dksX0_asks_0 16 rfl rfl)
theorem dX0_asks_19 : decode cX0_asks 19 = .ok (.iconst (-1), 1) := dk_2 (dk_at dksX0_asks_0 19 rfl rfl)
theorem dX0_asks_20 : decode cX0_asks 20 = .ok (.ireturn, 1) := dk_172 (dk_at dksX0_asks_0 20 rfl rfl)
theorem dX0_asks_21 : decode cX0_asks 21 = .ok (.iload_n 3, 1) := dk_29 (dk_at dksX0_asks_0 21 rfl rfl)
theorem dX0_asks_22 : decode cX0_asks 22 = .ok (.tableswitch 57 0 2 #[26, 33, 48], 26) := by decide +kernel
theorem dX0_asks_48 : decode cX0_asks 48 = .ok (.aload_n 0, 1) := dk_42 (dk_at dksX0_asks_2 0 rfl rfl)
theorem dX0_asks_49 : decode cX0_asks 49 = .ok (.iload_n 1, 1) := dk_27 (dk_at dksX0_asks_2 1 rfl rfl)
theorem dX0_asks_50 : decode cX0_asks 50 = .ok (.iload_n 2, 1) := dk_28 (dk_at dksX0_asks_2 2 rfl rfl)
theorem dX0_asks_51 : decode cX0_asks 51 = .ok (.invokevirtual 300, 3) := dk_182 1 44 (dk_at dksX0_asks_2 3 rfl rfl)
theorem dX0_asks_54 : decode cX0_asks 54 = .ok (.ireturn, 1) := dk_172 (dk_at dksX0_asks_2 6 rfl rfl)
theorem dX0_asks_55 : decode cX0_asks 55 = .ok (.aload_n 0, 1) := dk_42 (dk_at dksX0_asks_2 7 rfl rfl)
theorem dX0_asks_56 : decode cX0_asks 56 = .ok (.iload_n 1, 1) := dk_27 (dk_at dksX0_asks_2 8 rfl rfl)
theorem dX0_asks_57 : decode cX0_asks 57 = .ok (.iload_n 2, 1) := dk_28 (dk_at dksX0_asks_2 9 rfl rfl)
theorem dX0_asks_58 : decode cX0_asks 58 = .ok (.invokevirtual 304, 3) := dk_182 1 48 (dk_at dksX0_asks_2 10 rfl rfl)
theorem dX0_asks_61 : decode cX0_asks 61 = .ok (.ifCond .eq 7, 3) := dk_153 0 7 (dk_at dksX0_asks_2 13 rfl rfl)
theorem dX0_asks_64 : decode cX0_asks 64 = .ok (.iconst 1, 1) := dk_4 (dk_at dksX0_asks_2 16 rfl rfl)
theorem dX0_asks_65 : decode cX0_asks 65 = .ok (.goto 4, 3) := dk_167 0 4 (dk_at dksX0_asks_2 17 rfl rfl)
theorem dX0_asks_68 : decode cX0_asks 68 = .ok (.iconst 0, 1) := dk_3 (dk_at dksX0_asks_2 20 rfl rfl)
theorem dX0_asks_69 : decode cX0_asks 69 = .ok (.ireturn, 1) := dk_172 (dk_at dksX0_asks_2 21 rfl rfl)
theorem dX0_asks_70 : decode cX0_asks 70 = .ok (.aload_n 0, 1) := dk_42 (dk_at dksX0_asks_2 22 rfl rfl)
theorem dX0_asks_71 : decode cX0_asks 71 = .ok (.invokevirtual 161, 3) := dk_182 0 161 (dk_at dksX0_asks_3 0 rfl rfl)
theorem dX0_asks_74 : decode cX0_asks 74 = .ok (.iload_n 1, 1) := dk_27 (dk_at dksX0_asks_3 3 rfl rfl)
theorem dX0_asks_75 : decode cX0_asks 75 = .ok (.invokevirtual 307, 3) := dk_182 1 51 (dk_at dksX0_asks_3 4 rfl rfl)
theorem dX0_asks_78 : decode cX0_asks 78 = .ok (.ireturn, 1) := dk_172 (dk_at dksX0_asks_3 7 rfl rfl)
theorem dX0_asks_79 : decode cX0_asks 79 = .ok (.iconst (-1), 1) := dk_2 (dk_at dksX0_asks_3 8 rfl rfl)
theorem dX0_asks_80 : decode cX0_asks 80 = .ok (.ireturn, 1) := dk_172 (dk_at dksX0_asks_3 9 rfl rfl)
abbrev cX0_isFamily : ByteArray := prog_1_method_9_code
def yX0_isFamily : MethodName := ⟨RX0, "isFamily", "(I)Z"⟩
def dkwX0_isFamily_0 : List UInt8 := [26, 3, 8, 184, 0, 26, 172]
abbrev dktX0_isFamily_0 : List UInt8 := dkwX0_isFamily_0 ++ []
theorem dksX0_isFamily_0 : cX0_isFamily.data.toList.drop 0 = dktX0_isFamily_0 := by decide +kernel
theorem dX0_isFamily_0 : decode cX0_isFamily 0 = .ok (.iload_n 0, 1) := dk_26 (dk_at dksX0_isFamily_0 0 rfl rfl)
theorem dX0_isFamily_1 : decode cX0_isFamily 1 = .ok (.iconst 0, 1) := dk_3 (dk_at dksX0_isFamily_0 1 rfl rfl)
theorem dX0_isFamily_2 : decode cX0_isFamily 2 = .ok (.iconst 5, 1) := dk_8 (dk_at dksX0_isFamily_0 2 rfl rfl)
theorem dX0_isFamily_3 : decode cX0_isFamily 3 = .ok (.invokestatic 26, 3) := dk_184 0 26 (dk_at dksX0_isFamily_0 3 rfl rfl)
theorem dX0_isFamily_6 : decode cX0_isFamily 6 = .ok (.ireturn, 1) := dk_172 (dk_at dksX0_isFamily_0 6 rfl rfl)
abbrev cX0_suits : ByteArray := prog_1_method_39_code
def yX0_suits : MethodName := ⟨RX0, "suits", "(II)I"⟩
def dkwX0_suits_2 : List UInt8 := [46, 96, 184, 1, 35, 172]
abbrev dktX0_suits_2 : List UInt8 := dkwX0_suits_2 ++ []
def dkwX0_suits_1 : List UInt8 := [46, 27, 182, 1, 28, 16, 99, 42, 180, 0, 39, 180, 0, 140, 28, 46, 42, 180, 0, 39, 180, 0, 146, 28]
abbrev dktX0_suits_1 : List UInt8 := dkwX0_suits_1 ++ dktX0_suits_2
def dkwX0_suits_0 : List UInt8 := [42, 4, 42, 182, 0, 161, 28, 42, 182, 0, 161, 180, 0, 164, 28, 46, 42, 182, 0, 161, 180, 0, 167, 28]
abbrev dktX0_suits_0 : List UInt8 := dkwX0_suits_0 ++ dktX0_suits_1
theorem dksX0_suits_0 : cX0_suits.data.toList.drop 0 = dktX0_suits_0 := by decide +kernel
theorem dksX0_suits_1 : cX0_suits.data.toList.drop 24 = dktX0_suits_1 := dk_seg dksX0_suits_0 24 rfl rfl
theorem dksX0_suits_2 : cX0_suits.data.toList.drop 48 = dktX0_suits_2 := dk_seg dksX0_suits_1 24 rfl rfl
theorem dX0_suits_0 : decode cX0_suits 0 = .ok (.aload_n 0, 1) := dk_42 (dk_at dksX0_suits_0 0 rfl rfl)
theorem dX0_suits_1 : decode cX0_suits 1 = .ok (.iconst 1, 1) := dk_4 (dk_at dksX0_suits_0 1 rfl rfl)
theorem dX0_suits_2 : decode cX0_suits 2 = .ok (.aload_n 0, 1) := dk_42 (dk_at dksX0_suits_0 2 rfl rfl)
theorem dX0_suits_3 : decode cX0_suits 3 = .ok (.invokevirtual 161, 3) := dk_182 0 161 (dk_at dksX0_suits_0 3 rfl rfl)
theorem dX0_suits_6 : decode cX0_suits 6 = .ok (.iload_n 2, 1) := dk_28 (dk_at dksX0_suits_0 6 rfl rfl)
theorem dX0_suits_7 : decode cX0_suits 7 = .ok (.aload_n 0, 1) := dk_42 (dk_at dksX0_suits_0 7 rfl rfl)
theorem dX0_suits_8 : decode cX0_suits 8 = .ok (.invokevirtual 161, 3) := dk_182 0 161 (dk_at dksX0_suits_0 8 rfl rfl)
theorem dX0_suits_11 : decode cX0_suits 11 = .ok (.getfield 164, 3) := dk_180 0 164 (dk_at dksX0_suits_0 11 rfl rfl)
theorem dX0_suits_14 : decode cX0_suits 14 = .ok (.iload_n 2, 1) := dk_28 (dk_at dksX0_suits_0 14 rfl rfl)
theorem dX0_suits_15 : decode cX0_suits 15 = .ok (.iaload, 1) := dk_46 (dk_at dksX0_suits_0 15 rfl rfl)
theorem dX0_suits_16 : decode cX0_suits 16 = .ok (.aload_n 0, 1) := dk_42 (dk_at dksX0_suits_0 16 rfl rfl)
theorem dX0_suits_17 : decode cX0_suits 17 = .ok (.invokevirtual 161, 3) := dk_182 0 161 (dk_at dksX0_suits_0 17 rfl rfl)
theorem dX0_suits_20 : decode cX0_suits 20 = .ok (.getfield 167, 3) := dk_180 0 167 (dk_at dksX0_suits_0 20 rfl rfl)
theorem dX0_suits_23 : decode cX0_suits 23 = .ok (.iload_n 2, 1) := dk_28 (dk_at dksX0_suits_0 23 rfl rfl)
theorem dX0_suits_24 : decode cX0_suits 24 = .ok (.iaload, 1) := dk_46 (dk_at dksX0_suits_1 0 rfl rfl)
theorem dX0_suits_25 : decode cX0_suits 25 = .ok (.iload_n 1, 1) := dk_27 (dk_at dksX0_suits_1 1 rfl rfl)
theorem dX0_suits_26 : decode cX0_suits 26 = .ok (.invokevirtual 284, 3) := dk_182 1 28 (dk_at dksX0_suits_1 2 rfl rfl)
theorem dX0_suits_29 : decode cX0_suits 29 = .ok (.bipush 99, 2) := dk_16 99 (dk_at dksX0_suits_1 5 rfl rfl)
theorem dX0_suits_31 : decode cX0_suits 31 = .ok (.aload_n 0, 1) := dk_42 (dk_at dksX0_suits_1 7 rfl rfl)
theorem dX0_suits_32 : decode cX0_suits 32 = .ok (.getfield 39, 3) := dk_180 0 39 (dk_at dksX0_suits_1 8 rfl rfl)
theorem dX0_suits_35 : decode cX0_suits 35 = .ok (.getfield 140, 3) := dk_180 0 140 (dk_at dksX0_suits_1 11 rfl rfl)
theorem dX0_suits_38 : decode cX0_suits 38 = .ok (.iload_n 2, 1) := dk_28 (dk_at dksX0_suits_1 14 rfl rfl)
theorem dX0_suits_39 : decode cX0_suits 39 = .ok (.iaload, 1) := dk_46 (dk_at dksX0_suits_1 15 rfl rfl)
theorem dX0_suits_40 : decode cX0_suits 40 = .ok (.aload_n 0, 1) := dk_42 (dk_at dksX0_suits_1 16 rfl rfl)
theorem dX0_suits_41 : decode cX0_suits 41 = .ok (.getfield 39, 3) := dk_180 0 39 (dk_at dksX0_suits_1 17 rfl rfl)
theorem dX0_suits_44 : decode cX0_suits 44 = .ok (.getfield 146, 3) := dk_180 0 146 (dk_at dksX0_suits_1 20 rfl rfl)
theorem dX0_suits_47 : decode cX0_suits 47 = .ok (.iload_n 2, 1) := dk_28 (dk_at dksX0_suits_1 23 rfl rfl)
theorem dX0_suits_48 : decode cX0_suits 48 = .ok (.iaload, 1) := dk_46 (dk_at dksX0_suits_2 0 rfl rfl)
theorem dX0_suits_49 : decode cX0_suits 49 = .ok (.iadd, 1) := dk_96 (dk_at dksX0_suits_2 1 rfl rfl)
theorem dX0_suits_50 : decode cX0_suits 50 = .ok (.invokestatic 291, 3) := dk_184 1 35 (dk_at dksX0_suits_2 2 rfl rfl)
theorem dX0_suits_53 : decode cX0_suits 53 = .ok (.ireturn, 1) := dk_172 (dk_at dksX0_suits_2 5 rfl rfl)
abbrev cX0_isBarred : ByteArray := prog_1_method_40_code
def yX0_isBarred : MethodName := ⟨RX0, "isBarred", "(II)Z"⟩
def dkwX0_isBarred_1 : List UInt8 := [46, 27, 182, 1, 28, 20, 1, 9, 148, 153, 0, 7, 4, 167, 0, 4, 3, 172]
abbrev dktX0_isBarred_1 : List UInt8 := dkwX0_isBarred_1 ++ []
def dkwX0_isBarred_0 : List UInt8 := [42, 7, 42, 182, 0, 161, 28, 42, 182, 0, 161, 180, 0, 164, 28, 46, 42, 182, 0, 161, 180, 0, 167, 28]
abbrev dktX0_isBarred_0 : List UInt8 := dkwX0_isBarred_0 ++ dktX0_isBarred_1
theorem dksX0_isBarred_0 : cX0_isBarred.data.toList.drop 0 = dktX0_isBarred_0 := by decide +kernel
theorem dksX0_isBarred_1 : cX0_isBarred.data.toList.drop 24 = dktX0_isBarred_1 := dk_seg dksX0_isBarred_0 24 rfl rfl
theorem dX0_isBarred_0 : decode cX0_isBarred 0 = .ok (.aload_n 0, 1) := dk_42 (dk_at dksX0_isBarred_0 0 rfl rfl)
theorem dX0_isBarred_1 : decode cX0_isBarred 1 = .ok (.iconst 4, 1) := dk_7 (dk_at dksX0_isBarred_0 1 rfl rfl)
theorem dX0_isBarred_2 : decode cX0_isBarred 2 = .ok (.aload_n 0, 1) := dk_42 (dk_at dksX0_isBarred_0 2 rfl rfl)
theorem dX0_isBarred_3 : decode cX0_isBarred 3 = .ok (.invokevirtual 161, 3) := dk_182 0 161 (dk_at dksX0_isBarred_0 3 rfl rfl)
theorem dX0_isBarred_6 : decode cX0_isBarred 6 = .ok (.iload_n 2, 1) := dk_28 (dk_at dksX0_isBarred_0 6 rfl rfl)
theorem dX0_isBarred_7 : decode cX0_isBarred 7 = .ok (.aload_n 0, 1) := dk_42 (dk_at dksX0_isBarred_0 7 rfl rfl)
theorem dX0_isBarred_8 : decode cX0_isBarred 8 = .ok (.invokevirtual 161, 3) := dk_182 0 161 (dk_at dksX0_isBarred_0 8 rfl rfl)
theorem dX0_isBarred_11 : decode cX0_isBarred 11 = .ok (.getfield 164, 3) := dk_180 0 164 (dk_at dksX0_isBarred_0 11 rfl rfl)
theorem dX0_isBarred_14 : decode cX0_isBarred 14 = .ok (.iload_n 2, 1) := dk_28 (dk_at dksX0_isBarred_0 14 rfl rfl)
theorem dX0_isBarred_15 : decode cX0_isBarred 15 = .ok (.iaload, 1) := dk_46 (dk_at dksX0_isBarred_0 15 rfl rfl)
theorem dX0_isBarred_16 : decode cX0_isBarred 16 = .ok (.aload_n 0, 1) := dk_42 (dk_at dksX0_isBarred_0 16 rfl rfl)
theorem dX0_isBarred_17 : decode cX0_isBarred 17 = .ok (.invokevirtual 161, 3) := dk_182 0 161 (dk_at dksX0_isBarred_0 17 rfl rfl)
theorem dX0_isBarred_20 : decode cX0_isBarred 20 = .ok (.getfield 167, 3) := dk_180 0 167 (dk_at dksX0_isBarred_0 20 rfl rfl)
theorem dX0_isBarred_23 : decode cX0_isBarred 23 = .ok (.iload_n 2, 1) := dk_28 (dk_at dksX0_isBarred_0 23 rfl rfl)
theorem dX0_isBarred_24 : decode cX0_isBarred 24 = .ok (.iaload, 1) := dk_46 (dk_at dksX0_isBarred_1 0 rfl rfl)
theorem dX0_isBarred_25 : decode cX0_isBarred 25 = .ok (.iload_n 1, 1) := dk_27 (dk_at dksX0_isBarred_1 1 rfl rfl)
theorem dX0_isBarred_26 : decode cX0_isBarred 26 = .ok (.invokevirtual 284, 3) := dk_182 1 28 (dk_at dksX0_isBarred_1 2 rfl rfl)
theorem dX0_isBarred_29 : decode cX0_isBarred 29 = .ok (.ldc2_w 265, 3) := dk_20 1 9 (dk_at dksX0_isBarred_1 5 rfl rfl)
theorem dX0_isBarred_32 : decode cX0_isBarred 32 = .ok (.lcmp, 1) := dk_148 (dk_at dksX0_isBarred_1 8 rfl rfl)
theorem dX0_isBarred_33 : decode cX0_isBarred 33 = .ok (.ifCond .eq 7, 3) := dk_153 0 7 (dk_at dksX0_isBarred_1 9 rfl rfl)
theorem dX0_isBarred_36 : decode cX0_isBarred 36 = .ok (.iconst 1, 1) := dk_4 (dk_at dksX0_isBarred_1 12 rfl rfl)
theorem dX0_isBarred_37 : decode cX0_isBarred 37 = .ok (.goto 4, 3) := dk_167 0 4 (dk_at dksX0_isBarred_1 13 rfl rfl)
theorem dX0_isBarred_40 : decode cX0_isBarred 40 = .ok (.iconst 0, 1) := dk_3 (dk_at dksX0_isBarred_1 16 rfl rfl)
theorem dX0_isBarred_41 : decode cX0_isBarred 41 = .ok (.ireturn, 1) := dk_172 (dk_at dksX0_isBarred_1 17 rfl rfl)
abbrev cX0_comes : ByteArray := prog_1_method_42_code
def yX0_comes : MethodName := ⟨RX0, "comes", "(III)I"⟩
def dkwX0_comes_1 : List UInt8 := [2, 167, 0, 22, 42, 42, 182, 0, 161, 27, 28, 29, 182, 1, 54, 153, 0, 7, 4, 167, 0, 4, 3, 172]
abbrev dktX0_comes_1 : List UInt8 := dkwX0_comes_1 ++ []
def dkwX0_comes_0 : List UInt8 := [27, 184, 0, 187, 153, 0, 20, 28, 184, 0, 149, 153, 0, 13, 29, 4, 16, 99, 184, 0, 26, 154, 0, 7]
abbrev dktX0_comes_0 : List UInt8 := dkwX0_comes_0 ++ dktX0_comes_1
theorem dksX0_comes_0 : cX0_comes.data.toList.drop 0 = dktX0_comes_0 := by decide +kernel
theorem dksX0_comes_1 : cX0_comes.data.toList.drop 24 = dktX0_comes_1 := dk_seg dksX0_comes_0 24 rfl rfl
theorem dX0_comes_0 : decode cX0_comes 0 = .ok (.iload_n 1, 1) := dk_27 (dk_at dksX0_comes_0 0 rfl rfl)
theorem dX0_comes_1 : decode cX0_comes 1 = .ok (.invokestatic 187, 3) := dk_184 0 187 (dk_at dksX0_comes_0 1 rfl rfl)
theorem dX0_comes_4 : decode cX0_comes 4 = .ok (.ifCond .eq 20, 3) := dk_153 0 20 (dk_at dksX0_comes_0 4 rfl rfl)
theorem dX0_comes_7 : decode cX0_comes 7 = .ok (.iload_n 2, 1) := dk_28 (dk_at dksX0_comes_0 7 rfl rfl)
theorem dX0_comes_8 : decode cX0_comes 8 = .ok (.invokestatic 149, 3) := dk_184 0 149 (dk_at dksX0_comes_0 8 rfl rfl)
theorem dX0_comes_11 : decode cX0_comes 11 = .ok (.ifCond .eq 13, 3) := dk_153 0 13 (dk_at dksX0_comes_0 11 rfl rfl)
theorem dX0_comes_14 : decode cX0_comes 14 = .ok (.iload_n 3, 1) := dk_29 (dk_at dksX0_comes_0 14 rfl rfl)
theorem dX0_comes_15 : decode cX0_comes 15 = .ok (.iconst 1, 1) := dk_4 (dk_at dksX0_comes_0 15 rfl rfl)
theorem dX0_comes_16 : decode cX0_comes 16 = .ok (.bipush 99, 2) := dk_16 99 (dk_at dksX0_comes_0 16 rfl rfl)
theorem dX0_comes_18 : decode cX0_comes 18 = .ok (.invokestatic 26, 3) := dk_184 0 26 (dk_at dksX0_comes_0 18 rfl rfl)
theorem dX0_comes_21 : decode cX0_comes 21 = .ok (.ifCond .ne 7, 3) := dk_154 0 7 (dk_at dksX0_comes_0 21 rfl rfl)
theorem dX0_comes_24 : decode cX0_comes 24 = .ok (.iconst (-1), 1) := dk_2 (dk_at dksX0_comes_1 0 rfl rfl)
theorem dX0_comes_25 : decode cX0_comes 25 = .ok (.goto 22, 3) := dk_167 0 22 (dk_at dksX0_comes_1 1 rfl rfl)
theorem dX0_comes_28 : decode cX0_comes 28 = .ok (.aload_n 0, 1) := dk_42 (dk_at dksX0_comes_1 4 rfl rfl)
theorem dX0_comes_29 : decode cX0_comes 29 = .ok (.aload_n 0, 1) := dk_42 (dk_at dksX0_comes_1 5 rfl rfl)
theorem dX0_comes_30 : decode cX0_comes 30 = .ok (.invokevirtual 161, 3) := dk_182 0 161 (dk_at dksX0_comes_1 6 rfl rfl)
theorem dX0_comes_33 : decode cX0_comes 33 = .ok (.iload_n 1, 1) := dk_27 (dk_at dksX0_comes_1 9 rfl rfl)
theorem dX0_comes_34 : decode cX0_comes 34 = .ok (.iload_n 2, 1) := dk_28 (dk_at dksX0_comes_1 10 rfl rfl)
theorem dX0_comes_35 : decode cX0_comes 35 = .ok (.iload_n 3, 1) := dk_29 (dk_at dksX0_comes_1 11 rfl rfl)
theorem dX0_comes_36 : decode cX0_comes 36 = .ok (.invokevirtual 310, 3) := dk_182 1 54 (dk_at dksX0_comes_1 12 rfl rfl)
theorem dX0_comes_39 : decode cX0_comes 39 = .ok (.ifCond .eq 7, 3) := dk_153 0 7 (dk_at dksX0_comes_1 15 rfl rfl)
theorem dX0_comes_42 : decode cX0_comes 42 = .ok (.iconst 1, 1) := dk_4 (dk_at dksX0_comes_1 18 rfl rfl)
theorem dX0_comes_43 : decode cX0_comes 43 = .ok (.goto 4, 3) := dk_167 0 4 (dk_at dksX0_comes_1 19 rfl rfl)
theorem dX0_comes_46 : decode cX0_comes 46 = .ok (.iconst 0, 1) := dk_3 (dk_at dksX0_comes_1 22 rfl rfl)
theorem dX0_comes_47 : decode cX0_comes 47 = .ok (.ireturn, 1) := dk_172 (dk_at dksX0_comes_1 23 rfl rfl)
abbrev cX0_comes_2 : ByteArray := prog_1_method_38_code
def yX0_comes_2 : MethodName := ⟨RX0, "comes", "(LForestRooms$Table;III)Z"⟩
def dkwX0_comes_2_2 : List UInt8 := [29, 28, 21, 4, 2, 182, 1, 28, 20, 1, 9, 148, 153, 0, 7, 4, 167, 0, 4, 3, 172]
abbrev dktX0_comes_2_2 : List UInt8 := dkwX0_comes_2_2 ++ []
def dkwX0_comes_2_1 : List UInt8 := [180, 1, 6, 184, 1, 38, 154, 0, 15, 42, 180, 0, 39, 29, 28, 182, 1, 32, 167, 0, 26, 42, 6, 43]
abbrev dktX0_comes_2_1 : List UInt8 := dkwX0_comes_2_1 ++ dktX0_comes_2_2
def dkwX0_comes_2_0 : List UInt8 := [42, 180, 0, 39, 180, 1, 6, 2, 159, 0, 23, 42, 180, 0, 39, 180, 0, 243, 42, 180, 0, 39]
abbrev dktX0_comes_2_0 : List UInt8 := dkwX0_comes_2_0 ++ dktX0_comes_2_1
theorem dksX0_comes_2_0 : cX0_comes_2.data.toList.drop 0 = dktX0_comes_2_0 := by decide +kernel
theorem dksX0_comes_2_1 : cX0_comes_2.data.toList.drop 22 = dktX0_comes_2_1 := dk_seg dksX0_comes_2_0 22 rfl rfl
theorem dksX0_comes_2_2 : cX0_comes_2.data.toList.drop 46 = dktX0_comes_2_2 := dk_seg dksX0_comes_2_1 24 rfl rfl
theorem dX0_comes_2_0 : decode cX0_comes_2 0 = .ok (.aload_n 0, 1) := dk_42 (dk_at dksX0_comes_2_0 0 rfl rfl)
theorem dX0_comes_2_1 : decode cX0_comes_2 1 = .ok (.getfield 39, 3) := dk_180 0 39 (dk_at dksX0_comes_2_0 1 rfl rfl)
theorem dX0_comes_2_4 : decode cX0_comes_2 4 = .ok (.getfield 262, 3) := dk_180 1 6 (dk_at dksX0_comes_2_0 4 rfl rfl)
theorem dX0_comes_2_7 : decode cX0_comes_2 7 = .ok (.iconst (-1), 1) := dk_2 (dk_at dksX0_comes_2_0 7 rfl rfl)
theorem dX0_comes_2_8 : decode cX0_comes_2 8 = .ok (.if_icmp .eq 23, 3) := dk_159 0 23 (dk_at dksX0_comes_2_0 8 rfl rfl)
theorem dX0_comes_2_11 : decode cX0_comes_2 11 = .ok (.aload_n 0, 1) := dk_42 (dk_at dksX0_comes_2_0 11 rfl rfl)
theorem dX0_comes_2_12 : decode cX0_comes_2 12 = .ok (.getfield 39, 3) := dk_180 0 39 (dk_at dksX0_comes_2_0 12 rfl rfl)
theorem dX0_comes_2_15 : decode cX0_comes_2 15 = .ok (.getfield 243, 3) := dk_180 0 243 (dk_at dksX0_comes_2_0 15 rfl rfl)
theorem dX0_comes_2_18 : decode cX0_comes_2 18 = .ok (.aload_n 0, 1) := dk_42 (dk_at dksX0_comes_2_0 18 rfl rfl)
theorem dX0_comes_2_19 : decode cX0_comes_2 19 = .ok (.getfield 39, 3) := dk_180 0 39 (dk_at dksX0_comes_2_0 19 rfl rfl)
theorem dX0_comes_2_22 : decode cX0_comes_2 22 = .ok (.getfield 262, 3) := dk_180 1 6 (dk_at dksX0_comes_2_1 0 rfl rfl)
theorem dX0_comes_2_25 : decode cX0_comes_2 25 = .ok (.invokestatic 294, 3) := dk_184 1 38 (dk_at dksX0_comes_2_1 3 rfl rfl)
theorem dX0_comes_2_28 : decode cX0_comes_2 28 = .ok (.ifCond .ne 15, 3) := dk_154 0 15 (dk_at dksX0_comes_2_1 6 rfl rfl)
theorem dX0_comes_2_31 : decode cX0_comes_2 31 = .ok (.aload_n 0, 1) := dk_42 (dk_at dksX0_comes_2_1 9 rfl rfl)
theorem dX0_comes_2_32 : decode cX0_comes_2 32 = .ok (.getfield 39, 3) := dk_180 0 39 (dk_at dksX0_comes_2_1 10 rfl rfl)
theorem dX0_comes_2_35 : decode cX0_comes_2 35 = .ok (.iload_n 3, 1) := dk_29 (dk_at dksX0_comes_2_1 13 rfl rfl)
theorem dX0_comes_2_36 : decode cX0_comes_2 36 = .ok (.iload_n 2, 1) := dk_28 (dk_at dksX0_comes_2_1 14 rfl rfl)
theorem dX0_comes_2_37 : decode cX0_comes_2 37 = .ok (.invokevirtual 288, 3) := dk_182 1 32 (dk_at dksX0_comes_2_1 15 rfl rfl)
theorem dX0_comes_2_40 : decode cX0_comes_2 40 = .ok (.goto 26, 3) := dk_167 0 26 (dk_at dksX0_comes_2_1 18 rfl rfl)
theorem dX0_comes_2_43 : decode cX0_comes_2 43 = .ok (.aload_n 0, 1) := dk_42 (dk_at dksX0_comes_2_1 21 rfl rfl)
theorem dX0_comes_2_44 : decode cX0_comes_2 44 = .ok (.iconst 3, 1) := dk_6 (dk_at dksX0_comes_2_1 22 rfl rfl)
theorem dX0_comes_2_45 : decode cX0_comes_2 45 = .ok (.aload_n 1, 1) := dk_43 (dk_at dksX0_comes_2_1 23 rfl rfl)
theorem dX0_comes_2_46 : decode cX0_comes_2 46 = .ok (.iload_n 3, 1) := dk_29 (dk_at dksX0_comes_2_2 0 rfl rfl)
theorem dX0_comes_2_47 : decode cX0_comes_2 47 = .ok (.iload_n 2, 1) := dk_28 (dk_at dksX0_comes_2_2 1 rfl rfl)
theorem dX0_comes_2_48 : decode cX0_comes_2 48 = .ok (.iload 4, 2) := dk_21 4 (dk_at dksX0_comes_2_2 2 rfl rfl)
theorem dX0_comes_2_50 : decode cX0_comes_2 50 = .ok (.iconst (-1), 1) := dk_2 (dk_at dksX0_comes_2_2 4 rfl rfl)
theorem dX0_comes_2_51 : decode cX0_comes_2 51 = .ok (.invokevirtual 284, 3) := dk_182 1 28 (dk_at dksX0_comes_2_2 5 rfl rfl)
theorem dX0_comes_2_54 : decode cX0_comes_2 54 = .ok (.ldc2_w 265, 3) := dk_20 1 9 (dk_at dksX0_comes_2_2 8 rfl rfl)
theorem dX0_comes_2_57 : decode cX0_comes_2 57 = .ok (.lcmp, 1) := dk_148 (dk_at dksX0_comes_2_2 11 rfl rfl)
theorem dX0_comes_2_58 : decode cX0_comes_2 58 = .ok (.ifCond .eq 7, 3) := dk_153 0 7 (dk_at dksX0_comes_2_2 12 rfl rfl)
theorem dX0_comes_2_61 : decode cX0_comes_2 61 = .ok (.iconst 1, 1) := dk_4 (dk_at dksX0_comes_2_2 15 rfl rfl)
theorem dX0_comes_2_62 : decode cX0_comes_2 62 = .ok (.goto 4, 3) := dk_167 0 4 (dk_at dksX0_comes_2_2 16 rfl rfl)
theorem dX0_comes_2_65 : decode cX0_comes_2 65 = .ok (.iconst 0, 1) := dk_3 (dk_at dksX0_comes_2_2 19 rfl rfl)
theorem dX0_comes_2_66 : decode cX0_comes_2 66 = .ok (.ireturn, 1) := dk_172 (dk_at dksX0_comes_2_2 20 rfl rfl)
abbrev cX0_isOf : ByteArray := prog_1_method_4_code
def yX0_isOf : MethodName := ⟨RX0, "isOf", "(II)Z"⟩
def dkwX0_isOf_0 : List UInt8 := [26, 27, 122, 4, 126, 4, 160, 0, 7, 4, 167, 0, 4, 3, 172]
abbrev dktX0_isOf_0 : List UInt8 := dkwX0_isOf_0 ++ []
theorem dksX0_isOf_0 : cX0_isOf.data.toList.drop 0 = dktX0_isOf_0 := by decide +kernel
theorem dX0_isOf_0 : decode cX0_isOf 0 = .ok (.iload_n 0, 1) := dk_26 (dk_at dksX0_isOf_0 0 rfl rfl)
theorem dX0_isOf_1 : decode cX0_isOf 1 = .ok (.iload_n 1, 1) := dk_27 (dk_at dksX0_isOf_0 1 rfl rfl)
theorem dX0_isOf_2 : decode cX0_isOf 2 = .ok (.ishr, 1) := dk_122 (dk_at dksX0_isOf_0 2 rfl rfl)
theorem dX0_isOf_3 : decode cX0_isOf 3 = .ok (.iconst 1, 1) := dk_4 (dk_at dksX0_isOf_0 3 rfl rfl)
theorem dX0_isOf_4 : decode cX0_isOf 4 = .ok (.iand, 1) := dk_126 (dk_at dksX0_isOf_0 4 rfl rfl)
theorem dX0_isOf_5 : decode cX0_isOf 5 = .ok (.iconst 1, 1) := dk_4 (dk_at dksX0_isOf_0 5 rfl rfl)
theorem dX0_isOf_6 : decode cX0_isOf 6 = .ok (.if_icmp .ne 7, 3) := dk_160 0 7 (dk_at dksX0_isOf_0 6 rfl rfl)
theorem dX0_isOf_9 : decode cX0_isOf 9 = .ok (.iconst 1, 1) := dk_4 (dk_at dksX0_isOf_0 9 rfl rfl)
theorem dX0_isOf_10 : decode cX0_isOf 10 = .ok (.goto 4, 3) := dk_167 0 4 (dk_at dksX0_isOf_0 10 rfl rfl)
theorem dX0_isOf_13 : decode cX0_isOf 13 = .ok (.iconst 0, 1) := dk_3 (dk_at dksX0_isOf_0 13 rfl rfl)
theorem dX0_isOf_14 : decode cX0_isOf 14 = .ok (.ireturn, 1) := dk_172 (dk_at dksX0_isOf_0 14 rfl rfl)
abbrev cX0_plant : ByteArray := prog_1_method_52_code
def yX0_plant : MethodName := ⟨RX0, "plant", "(II)I"⟩
def dkwX0_plant_0 : List UInt8 := [42, 42, 27, 28, 182, 1, 84, 182, 1, 87, 172]
abbrev dktX0_plant_0 : List UInt8 := dkwX0_plant_0 ++ []
theorem dksX0_plant_0 : cX0_plant.data.toList.drop 0 = dktX0_plant_0 := by decide +kernel
theorem dX0_plant_0 : decode cX0_plant 0 = .ok (.aload_n 0, 1) := dk_42 (dk_at dksX0_plant_0 0 rfl rfl)
theorem dX0_plant_1 : decode cX0_plant 1 = .ok (.aload_n 0, 1) := dk_42 (dk_at dksX0_plant_0 1 rfl rfl)
theorem dX0_plant_2 : decode cX0_plant 2 = .ok (.iload_n 1, 1) := dk_27 (dk_at dksX0_plant_0 2 rfl rfl)
theorem dX0_plant_3 : decode cX0_plant 3 = .ok (.iload_n 2, 1) := dk_28 (dk_at dksX0_plant_0 3 rfl rfl)
theorem dX0_plant_4 : decode cX0_plant 4 = .ok (.invokevirtual 340, 3) := dk_182 1 84 (dk_at dksX0_plant_0 4 rfl rfl)
theorem dX0_plant_7 : decode cX0_plant 7 = .ok (.invokevirtual 343, 3) := dk_182 1 87 (dk_at dksX0_plant_0 7 rfl rfl)
theorem dX0_plant_10 : decode cX0_plant 10 = .ok (.ireturn, 1) := dk_172 (dk_at dksX0_plant_0 10 rfl rfl)
abbrev cX0_plantsKept : ByteArray := prog_1_method_46_code
def yX0_plantsKept : MethodName := ⟨RX0, "plantsKept", "(II)I"⟩
def dkwX0_plantsKept_1 : List UInt8 := [153, 0, 6, 16, 253, 172, 42, 3, 182, 1, 74, 42, 182, 0, 161, 28, 27, 182, 1, 67, 3, 172]
abbrev dktX0_plantsKept_1 : List UInt8 := dkwX0_plantsKept_1 ++ []
def dkwX0_plantsKept_0 : List UInt8 := [27, 184, 0, 187, 153, 0, 10, 28, 184, 0, 149, 154, 0, 5, 2, 172, 42, 182, 0, 161, 28, 182, 0, 177]
abbrev dktX0_plantsKept_0 : List UInt8 := dkwX0_plantsKept_0 ++ dktX0_plantsKept_1
theorem dksX0_plantsKept_0 : cX0_plantsKept.data.toList.drop 0 = dktX0_plantsKept_0 := by decide +kernel
theorem dksX0_plantsKept_1 : cX0_plantsKept.data.toList.drop 24 = dktX0_plantsKept_1 := dk_seg dksX0_plantsKept_0 24 rfl rfl
theorem dX0_plantsKept_0 : decode cX0_plantsKept 0 = .ok (.iload_n 1, 1) := dk_27 (dk_at dksX0_plantsKept_0 0 rfl rfl)
theorem dX0_plantsKept_1 : decode cX0_plantsKept 1 = .ok (.invokestatic 187, 3) := dk_184 0 187 (dk_at dksX0_plantsKept_0 1 rfl rfl)
theorem dX0_plantsKept_4 : decode cX0_plantsKept 4 = .ok (.ifCond .eq 10, 3) := dk_153 0 10 (dk_at dksX0_plantsKept_0 4 rfl rfl)
theorem dX0_plantsKept_7 : decode cX0_plantsKept 7 = .ok (.iload_n 2, 1) := dk_28 (dk_at dksX0_plantsKept_0 7 rfl rfl)
theorem dX0_plantsKept_8 : decode cX0_plantsKept 8 = .ok (.invokestatic 149, 3) := dk_184 0 149 (dk_at dksX0_plantsKept_0 8 rfl rfl)
theorem dX0_plantsKept_11 : decode cX0_plantsKept 11 = .ok (.ifCond .ne 5, 3) := dk_154 0 5 (dk_at dksX0_plantsKept_0 11 rfl rfl)
theorem dX0_plantsKept_14 : decode cX0_plantsKept 14 = .ok (.iconst (-1), 1) := dk_2 (dk_at dksX0_plantsKept_0 14 rfl rfl)
theorem dX0_plantsKept_15 : decode cX0_plantsKept 15 = .ok (.ireturn, 1) := dk_172 (dk_at dksX0_plantsKept_0 15 rfl rfl)
theorem dX0_plantsKept_16 : decode cX0_plantsKept 16 = .ok (.aload_n 0, 1) := dk_42 (dk_at dksX0_plantsKept_0 16 rfl rfl)
theorem dX0_plantsKept_17 : decode cX0_plantsKept 17 = .ok (.invokevirtual 161, 3) := dk_182 0 161 (dk_at dksX0_plantsKept_0 17 rfl rfl)
theorem dX0_plantsKept_20 : decode cX0_plantsKept 20 = .ok (.iload_n 2, 1) := dk_28 (dk_at dksX0_plantsKept_0 20 rfl rfl)
theorem dX0_plantsKept_21 : decode cX0_plantsKept 21 = .ok (.invokevirtual 177, 3) := dk_182 0 177 (dk_at dksX0_plantsKept_0 21 rfl rfl)
theorem dX0_plantsKept_24 : decode cX0_plantsKept 24 = .ok (.ifCond .eq 6, 3) := dk_153 0 6 (dk_at dksX0_plantsKept_1 0 rfl rfl)
theorem dX0_plantsKept_27 : decode cX0_plantsKept 27 = .ok (.bipush (-3), 2) := dk_16 253 (dk_at dksX0_plantsKept_1 3 rfl rfl)
theorem dX0_plantsKept_29 : decode cX0_plantsKept 29 = .ok (.ireturn, 1) := dk_172 (dk_at dksX0_plantsKept_1 5 rfl rfl)
theorem dX0_plantsKept_30 : decode cX0_plantsKept 30 = .ok (.aload_n 0, 1) := dk_42 (dk_at dksX0_plantsKept_1 6 rfl rfl)
theorem dX0_plantsKept_31 : decode cX0_plantsKept 31 = .ok (.iconst 0, 1) := dk_3 (dk_at dksX0_plantsKept_1 7 rfl rfl)
theorem dX0_plantsKept_32 : decode cX0_plantsKept 32 = .ok (.invokevirtual 330, 3) := dk_182 1 74 (dk_at dksX0_plantsKept_1 8 rfl rfl)
theorem dX0_plantsKept_35 : decode cX0_plantsKept 35 = .ok (.aload_n 0, 1) := dk_42 (dk_at dksX0_plantsKept_1 11 rfl rfl)
theorem dX0_plantsKept_36 : decode cX0_plantsKept 36 = .ok (.invokevirtual 161, 3) := dk_182 0 161 (dk_at dksX0_plantsKept_1 12 rfl rfl)
theorem dX0_plantsKept_39 : decode cX0_plantsKept 39 = .ok (.iload_n 2, 1) := dk_28 (dk_at dksX0_plantsKept_1 15 rfl rfl)
theorem dX0_plantsKept_40 : decode cX0_plantsKept 40 = .ok (.iload_n 1, 1) := dk_27 (dk_at dksX0_plantsKept_1 16 rfl rfl)
theorem dX0_plantsKept_41 : decode cX0_plantsKept 41 = .ok (.invokevirtual 323, 3) := dk_182 1 67 (dk_at dksX0_plantsKept_1 17 rfl rfl)
theorem dX0_plantsKept_44 : decode cX0_plantsKept 44 = .ok (.iconst 0, 1) := dk_3 (dk_at dksX0_plantsKept_1 20 rfl rfl)
theorem dX0_plantsKept_45 : decode cX0_plantsKept 45 = .ok (.ireturn, 1) := dk_172 (dk_at dksX0_plantsKept_1 21 rfl rfl)
abbrev cX0_keeps : ByteArray := prog_1_method_45_code
def yX0_keeps : MethodName := ⟨RX0, "keeps", "(I)V"⟩
def dkwX0_keeps_4 : List UInt8 := [42, 180, 0, 56, 42, 180, 0, 121, 27, 79, 42, 89, 180, 0, 121, 4, 96, 181, 0, 121, 177]
abbrev dktX0_keeps_4 : List UInt8 := dkwX0_keeps_4 ++ []
def dkwX0_keeps_3 : List UInt8 := [180, 0, 121, 4, 100, 181, 0, 121, 42, 180, 0, 49, 42, 180, 0, 121, 50, 42, 182, 0, 161, 182, 1, 71]
abbrev dktX0_keeps_3 : List UInt8 := dkwX0_keeps_3 ++ dktX0_keeps_4
def dkwX0_keeps_2 : List UInt8 := [180, 0, 56, 29, 46, 79, 132, 3, 1, 167, 255, 219, 42, 180, 0, 49, 16, 15, 44, 83, 42, 89]
abbrev dktX0_keeps_2 : List UInt8 := dkwX0_keeps_2 ++ dktX0_keeps_3
def dkwX0_keeps_1 : List UInt8 := [42, 180, 0, 49, 29, 4, 100, 42, 180, 0, 49, 29, 50, 83, 42, 180, 0, 56, 29, 4, 100, 42]
abbrev dktX0_keeps_1 : List UInt8 := dkwX0_keeps_1 ++ dktX0_keeps_2
def dkwX0_keeps_0 : List UInt8 := [42, 180, 0, 121, 16, 16, 160, 0, 70, 42, 180, 0, 49, 3, 50, 77, 4, 62, 29, 16, 16, 162, 0, 37]
abbrev dktX0_keeps_0 : List UInt8 := dkwX0_keeps_0 ++ dktX0_keeps_1
theorem dksX0_keeps_0 : cX0_keeps.data.toList.drop 0 = dktX0_keeps_0 := by decide +kernel
theorem dksX0_keeps_1 : cX0_keeps.data.toList.drop 24 = dktX0_keeps_1 := dk_seg dksX0_keeps_0 24 rfl rfl
theorem dksX0_keeps_2 : cX0_keeps.data.toList.drop 46 = dktX0_keeps_2 := dk_seg dksX0_keeps_1 22 rfl rfl
theorem dksX0_keeps_3 : cX0_keeps.data.toList.drop 68 = dktX0_keeps_3 := dk_seg dksX0_keeps_2 22 rfl rfl
theorem dksX0_keeps_4 : cX0_keeps.data.toList.drop 92 = dktX0_keeps_4 := dk_seg dksX0_keeps_3 24 rfl rfl
theorem dX0_keeps_0 : decode cX0_keeps 0 = .ok (.aload_n 0, 1) := dk_42 (dk_at dksX0_keeps_0 0 rfl rfl)
theorem dX0_keeps_1 : decode cX0_keeps 1 = .ok (.getfield 121, 3) := dk_180 0 121 (dk_at dksX0_keeps_0 1 rfl rfl)
theorem dX0_keeps_4 : decode cX0_keeps 4 = .ok (.bipush 16, 2) := dk_16 16 (dk_at dksX0_keeps_0 4 rfl rfl)
theorem dX0_keeps_6 : decode cX0_keeps 6 = .ok (.if_icmp .ne 70, 3) := dk_160 0 70 (dk_at dksX0_keeps_0 6 rfl rfl)
theorem dX0_keeps_9 : decode cX0_keeps 9 = .ok (.aload_n 0, 1) := dk_42 (dk_at dksX0_keeps_0 9 rfl rfl)
theorem dX0_keeps_10 : decode cX0_keeps 10 = .ok (.getfield 49, 3) := dk_180 0 49 (dk_at dksX0_keeps_0 10 rfl rfl)
theorem dX0_keeps_13 : decode cX0_keeps 13 = .ok (.iconst 0, 1) := dk_3 (dk_at dksX0_keeps_0 13 rfl rfl)
theorem dX0_keeps_14 : decode cX0_keeps 14 = .ok (.aaload, 1) := dk_50 (dk_at dksX0_keeps_0 14 rfl rfl)
theorem dX0_keeps_15 : decode cX0_keeps 15 = .ok (.astore_n 2, 1) := dk_77 (dk_at dksX0_keeps_0 15 rfl rfl)
theorem dX0_keeps_16 : decode cX0_keeps 16 = .ok (.iconst 1, 1) := dk_4 (dk_at dksX0_keeps_0 16 rfl rfl)
theorem dX0_keeps_17 : decode cX0_keeps 17 = .ok (.istore_n 3, 1) := dk_62 (dk_at dksX0_keeps_0 17 rfl rfl)
theorem dX0_keeps_18 : decode cX0_keeps 18 = .ok (.iload_n 3, 1) := dk_29 (dk_at dksX0_keeps_0 18 rfl rfl)
theorem dX0_keeps_19 : decode cX0_keeps 19 = .ok (.bipush 16, 2) := dk_16 16 (dk_at dksX0_keeps_0 19 rfl rfl)
theorem dX0_keeps_21 : decode cX0_keeps 21 = .ok (.if_icmp .ge 37, 3) := dk_162 0 37 (dk_at dksX0_keeps_0 21 rfl rfl)
theorem dX0_keeps_24 : decode cX0_keeps 24 = .ok (.aload_n 0, 1) := dk_42 (dk_at dksX0_keeps_1 0 rfl rfl)
theorem dX0_keeps_25 : decode cX0_keeps 25 = .ok (.getfield 49, 3) := dk_180 0 49 (dk_at dksX0_keeps_1 1 rfl rfl)
theorem dX0_keeps_28 : decode cX0_keeps 28 = .ok (.iload_n 3, 1) := dk_29 (dk_at dksX0_keeps_1 4 rfl rfl)
theorem dX0_keeps_29 : decode cX0_keeps 29 = .ok (.iconst 1, 1) := dk_4 (dk_at dksX0_keeps_1 5 rfl rfl)
theorem dX0_keeps_30 : decode cX0_keeps 30 = .ok (.isub, 1) := dk_100 (dk_at dksX0_keeps_1 6 rfl rfl)
theorem dX0_keeps_31 : decode cX0_keeps 31 = .ok (.aload_n 0, 1) := dk_42 (dk_at dksX0_keeps_1 7 rfl rfl)
theorem dX0_keeps_32 : decode cX0_keeps 32 = .ok (.getfield 49, 3) := dk_180 0 49 (dk_at dksX0_keeps_1 8 rfl rfl)
theorem dX0_keeps_35 : decode cX0_keeps 35 = .ok (.iload_n 3, 1) := dk_29 (dk_at dksX0_keeps_1 11 rfl rfl)
theorem dX0_keeps_36 : decode cX0_keeps 36 = .ok (.aaload, 1) := dk_50 (dk_at dksX0_keeps_1 12 rfl rfl)
theorem dX0_keeps_37 : decode cX0_keeps 37 = .ok (.aastore, 1) := dk_83 (dk_at dksX0_keeps_1 13 rfl rfl)
theorem dX0_keeps_38 : decode cX0_keeps 38 = .ok (.aload_n 0, 1) := dk_42 (dk_at dksX0_keeps_1 14 rfl rfl)
theorem dX0_keeps_39 : decode cX0_keeps 39 = .ok (.getfield 56, 3) := dk_180 0 56 (dk_at dksX0_keeps_1 15 rfl rfl)
theorem dX0_keeps_42 : decode cX0_keeps 42 = .ok (.iload_n 3, 1) := dk_29 (dk_at dksX0_keeps_1 18 rfl rfl)
theorem dX0_keeps_43 : decode cX0_keeps 43 = .ok (.iconst 1, 1) := dk_4 (dk_at dksX0_keeps_1 19 rfl rfl)
theorem dX0_keeps_44 : decode cX0_keeps 44 = .ok (.isub, 1) := dk_100 (dk_at dksX0_keeps_1 20 rfl rfl)
theorem dX0_keeps_45 : decode cX0_keeps 45 = .ok (.aload_n 0, 1) := dk_42 (dk_at dksX0_keeps_1 21 rfl rfl)
theorem dX0_keeps_46 : decode cX0_keeps 46 = .ok (.getfield 56, 3) := dk_180 0 56 (dk_at dksX0_keeps_2 0 rfl rfl)
theorem dX0_keeps_49 : decode cX0_keeps 49 = .ok (.iload_n 3, 1) := dk_29 (dk_at dksX0_keeps_2 3 rfl rfl)
theorem dX0_keeps_50 : decode cX0_keeps 50 = .ok (.iaload, 1) := dk_46 (dk_at dksX0_keeps_2 4 rfl rfl)
theorem dX0_keeps_51 : decode cX0_keeps 51 = .ok (.iastore, 1) := dk_79 (dk_at dksX0_keeps_2 5 rfl rfl)
theorem dX0_keeps_52 : decode cX0_keeps 52 = .ok (.iinc 3 1, 3) := dk_132 3 1 (dk_at dksX0_keeps_2 6 rfl rfl)
theorem dX0_keeps_55 : decode cX0_keeps 55 = .ok (.goto (-37), 3) := dk_167 255 219 (dk_at dksX0_keeps_2 9 rfl rfl)
theorem dX0_keeps_58 : decode cX0_keeps 58 = .ok (.aload_n 0, 1) := dk_42 (dk_at dksX0_keeps_2 12 rfl rfl)
theorem dX0_keeps_59 : decode cX0_keeps 59 = .ok (.getfield 49, 3) := dk_180 0 49 (dk_at dksX0_keeps_2 13 rfl rfl)
theorem dX0_keeps_62 : decode cX0_keeps 62 = .ok (.bipush 15, 2) := dk_16 15 (dk_at dksX0_keeps_2 16 rfl rfl)
theorem dX0_keeps_64 : decode cX0_keeps 64 = .ok (.aload_n 2, 1) := dk_44 (dk_at dksX0_keeps_2 18 rfl rfl)
theorem dX0_keeps_65 : decode cX0_keeps 65 = .ok (.aastore, 1) := dk_83 (dk_at dksX0_keeps_2 19 rfl rfl)
theorem dX0_keeps_66 : decode cX0_keeps 66 = .ok (.aload_n 0, 1) := dk_42 (dk_at dksX0_keeps_2 20 rfl rfl)
theorem dX0_keeps_67 : decode cX0_keeps 67 = .ok (.dup, 1) := dk_89 (dk_at dksX0_keeps_2 21 rfl rfl)
theorem dX0_keeps_68 : decode cX0_keeps 68 = .ok (.getfield 121, 3) := dk_180 0 121 (dk_at dksX0_keeps_3 0 rfl rfl)
theorem dX0_keeps_71 : decode cX0_keeps 71 = .ok (.iconst 1, 1) := dk_4 (dk_at dksX0_keeps_3 3 rfl rfl)
theorem dX0_keeps_72 : decode cX0_keeps 72 = .ok (.isub, 1) := dk_100 (dk_at dksX0_keeps_3 4 rfl rfl)
theorem dX0_keeps_73 : decode cX0_keeps 73 = .ok (.putfield 121, 3) := dk_181 0 121 (dk_at dksX0_keeps_3 5 rfl rfl)
theorem dX0_keeps_76 : decode cX0_keeps 76 = .ok (.aload_n 0, 1) := dk_42 (dk_at dksX0_keeps_3 8 rfl rfl)
theorem dX0_keeps_77 : decode cX0_keeps 77 = .ok (.getfield 49, 3) := dk_180 0 49 (dk_at dksX0_keeps_3 9 rfl rfl)
theorem dX0_keeps_80 : decode cX0_keeps 80 = .ok (.aload_n 0, 1) := dk_42 (dk_at dksX0_keeps_3 12 rfl rfl)
theorem dX0_keeps_81 : decode cX0_keeps 81 = .ok (.getfield 121, 3) := dk_180 0 121 (dk_at dksX0_keeps_3 13 rfl rfl)
theorem dX0_keeps_84 : decode cX0_keeps 84 = .ok (.aaload, 1) := dk_50 (dk_at dksX0_keeps_3 16 rfl rfl)
theorem dX0_keeps_85 : decode cX0_keeps 85 = .ok (.aload_n 0, 1) := dk_42 (dk_at dksX0_keeps_3 17 rfl rfl)
theorem dX0_keeps_86 : decode cX0_keeps 86 = .ok (.invokevirtual 161, 3) := dk_182 0 161 (dk_at dksX0_keeps_3 18 rfl rfl)
theorem dX0_keeps_89 : decode cX0_keeps 89 = .ok (.invokevirtual 327, 3) := dk_182 1 71 (dk_at dksX0_keeps_3 21 rfl rfl)
theorem dX0_keeps_92 : decode cX0_keeps 92 = .ok (.aload_n 0, 1) := dk_42 (dk_at dksX0_keeps_4 0 rfl rfl)
theorem dX0_keeps_93 : decode cX0_keeps 93 = .ok (.getfield 56, 3) := dk_180 0 56 (dk_at dksX0_keeps_4 1 rfl rfl)
theorem dX0_keeps_96 : decode cX0_keeps 96 = .ok (.aload_n 0, 1) := dk_42 (dk_at dksX0_keeps_4 4 rfl rfl)
theorem dX0_keeps_97 : decode cX0_keeps 97 = .ok (.getfield 121, 3) := dk_180 0 121 (dk_at dksX0_keeps_4 5 rfl rfl)
theorem dX0_keeps_100 : decode cX0_keeps 100 = .ok (.iload_n 1, 1) := dk_27 (dk_at dksX0_keeps_4 8 rfl rfl)
theorem dX0_keeps_101 : decode cX0_keeps 101 = .ok (.iastore, 1) := dk_79 (dk_at dksX0_keeps_4 9 rfl rfl)
theorem dX0_keeps_102 : decode cX0_keeps 102 = .ok (.aload_n 0, 1) := dk_42 (dk_at dksX0_keeps_4 10 rfl rfl)
theorem dX0_keeps_103 : decode cX0_keeps 103 = .ok (.dup, 1) := dk_89 (dk_at dksX0_keeps_4 11 rfl rfl)
theorem dX0_keeps_104 : decode cX0_keeps 104 = .ok (.getfield 121, 3) := dk_180 0 121 (dk_at dksX0_keeps_4 12 rfl rfl)
theorem dX0_keeps_107 : decode cX0_keeps 107 = .ok (.iconst 1, 1) := dk_4 (dk_at dksX0_keeps_4 15 rfl rfl)
theorem dX0_keeps_108 : decode cX0_keeps 108 = .ok (.iadd, 1) := dk_96 (dk_at dksX0_keeps_4 16 rfl rfl)
theorem dX0_keeps_109 : decode cX0_keeps 109 = .ok (.putfield 121, 3) := dk_181 0 121 (dk_at dksX0_keeps_4 17 rfl rfl)
theorem dX0_keeps_112 : decode cX0_keeps 112 = .ok (.return_, 1) := dk_177 (dk_at dksX0_keeps_4 20 rfl rfl)
abbrev cX0_doneOr : ByteArray := prog_1_method_51_code
def yX0_doneOr : MethodName := ⟨RX0, "doneOr", "(I)I"⟩
def dkwX0_doneOr_0 : List UInt8 := [27, 156, 0, 11, 42, 27, 182, 0, 130, 167, 0, 8, 42, 27, 182, 0, 124, 172]
abbrev dktX0_doneOr_0 : List UInt8 := dkwX0_doneOr_0 ++ []
theorem dksX0_doneOr_0 : cX0_doneOr.data.toList.drop 0 = dktX0_doneOr_0 := by decide +kernel
theorem dX0_doneOr_0 : decode cX0_doneOr 0 = .ok (.iload_n 1, 1) := dk_27 (dk_at dksX0_doneOr_0 0 rfl rfl)
theorem dX0_doneOr_1 : decode cX0_doneOr 1 = .ok (.ifCond .ge 11, 3) := dk_156 0 11 (dk_at dksX0_doneOr_0 1 rfl rfl)
theorem dX0_doneOr_4 : decode cX0_doneOr 4 = .ok (.aload_n 0, 1) := dk_42 (dk_at dksX0_doneOr_0 4 rfl rfl)
theorem dX0_doneOr_5 : decode cX0_doneOr 5 = .ok (.iload_n 1, 1) := dk_27 (dk_at dksX0_doneOr_0 5 rfl rfl)
theorem dX0_doneOr_6 : decode cX0_doneOr 6 = .ok (.invokevirtual 130, 3) := dk_182 0 130 (dk_at dksX0_doneOr_0 6 rfl rfl)
theorem dX0_doneOr_9 : decode cX0_doneOr 9 = .ok (.goto 8, 3) := dk_167 0 8 (dk_at dksX0_doneOr_0 9 rfl rfl)
theorem dX0_doneOr_12 : decode cX0_doneOr 12 = .ok (.aload_n 0, 1) := dk_42 (dk_at dksX0_doneOr_0 12 rfl rfl)
theorem dX0_doneOr_13 : decode cX0_doneOr 13 = .ok (.iload_n 1, 1) := dk_27 (dk_at dksX0_doneOr_0 13 rfl rfl)
theorem dX0_doneOr_14 : decode cX0_doneOr 14 = .ok (.invokevirtual 124, 3) := dk_182 0 124 (dk_at dksX0_doneOr_0 14 rfl rfl)
theorem dX0_doneOr_17 : decode cX0_doneOr 17 = .ok (.ireturn, 1) := dk_172 (dk_at dksX0_doneOr_0 17 rfl rfl)
abbrev cX0_prune : ByteArray := prog_1_method_53_code
def yX0_prune : MethodName := ⟨RX0, "prune", "(II)I"⟩
def dkwX0_prune_0 : List UInt8 := [42, 42, 27, 28, 182, 1, 90, 182, 1, 87, 172]
abbrev dktX0_prune_0 : List UInt8 := dkwX0_prune_0 ++ []
theorem dksX0_prune_0 : cX0_prune.data.toList.drop 0 = dktX0_prune_0 := by decide +kernel
theorem dX0_prune_0 : decode cX0_prune 0 = .ok (.aload_n 0, 1) := dk_42 (dk_at dksX0_prune_0 0 rfl rfl)
theorem dX0_prune_1 : decode cX0_prune 1 = .ok (.aload_n 0, 1) := dk_42 (dk_at dksX0_prune_0 1 rfl rfl)
theorem dX0_prune_2 : decode cX0_prune 2 = .ok (.iload_n 1, 1) := dk_27 (dk_at dksX0_prune_0 2 rfl rfl)
theorem dX0_prune_3 : decode cX0_prune 3 = .ok (.iload_n 2, 1) := dk_28 (dk_at dksX0_prune_0 3 rfl rfl)
theorem dX0_prune_4 : decode cX0_prune 4 = .ok (.invokevirtual 346, 3) := dk_182 1 90 (dk_at dksX0_prune_0 4 rfl rfl)
theorem dX0_prune_7 : decode cX0_prune 7 = .ok (.invokevirtual 343, 3) := dk_182 1 87 (dk_at dksX0_prune_0 7 rfl rfl)
theorem dX0_prune_10 : decode cX0_prune 10 = .ok (.ireturn, 1) := dk_172 (dk_at dksX0_prune_0 10 rfl rfl)
abbrev cX0_prunesKept : ByteArray := prog_1_method_47_code
def yX0_prunesKept : MethodName := ⟨RX0, "prunesKept", "(II)I"⟩
def dkwX0_prunesKept_3 : List UInt8 := [28, 100, 79, 42, 182, 0, 161, 180, 0, 167, 27, 46, 172]
abbrev dktX0_prunesKept_3 : List UInt8 := dkwX0_prunesKept_3 ++ []
def dkwX0_prunesKept_2 : List UInt8 := [163, 0, 14, 42, 182, 0, 161, 27, 182, 1, 77, 167, 0, 16, 42, 182, 0, 161, 180, 0, 167, 27, 92, 46]
abbrev dktX0_prunesKept_2 : List UInt8 := dkwX0_prunesKept_2 ++ dktX0_prunesKept_3
def dkwX0_prunesKept_1 : List UInt8 := [182, 0, 177, 154, 0, 6, 16, 254, 172, 42, 4, 182, 1, 74, 42, 182, 0, 161, 180, 0, 167, 27, 46, 28]
abbrev dktX0_prunesKept_1 : List UInt8 := dkwX0_prunesKept_1 ++ dktX0_prunesKept_2
def dkwX0_prunesKept_0 : List UInt8 := [27, 184, 0, 149, 153, 0, 13, 28, 4, 16, 99, 184, 0, 26, 154, 0, 5, 2, 172, 42, 182, 0, 161, 27]
abbrev dktX0_prunesKept_0 : List UInt8 := dkwX0_prunesKept_0 ++ dktX0_prunesKept_1
theorem dksX0_prunesKept_0 : cX0_prunesKept.data.toList.drop 0 = dktX0_prunesKept_0 := by decide +kernel
theorem dksX0_prunesKept_1 : cX0_prunesKept.data.toList.drop 24 = dktX0_prunesKept_1 := dk_seg dksX0_prunesKept_0 24 rfl rfl
theorem dksX0_prunesKept_2 : cX0_prunesKept.data.toList.drop 48 = dktX0_prunesKept_2 := dk_seg dksX0_prunesKept_1 24 rfl rfl
theorem dksX0_prunesKept_3 : cX0_prunesKept.data.toList.drop 72 = dktX0_prunesKept_3 := dk_seg dksX0_prunesKept_2 24 rfl rfl
theorem dX0_prunesKept_0 : decode cX0_prunesKept 0 = .ok (.iload_n 1, 1) := dk_27 (dk_at dksX0_prunesKept_0 0 rfl rfl)
theorem dX0_prunesKept_1 : decode cX0_prunesKept 1 = .ok (.invokestatic 149, 3) := dk_184 0 149 (dk_at dksX0_prunesKept_0 1 rfl rfl)
theorem dX0_prunesKept_4 : decode cX0_prunesKept 4 = .ok (.ifCond .eq 13, 3) := dk_153 0 13 (dk_at dksX0_prunesKept_0 4 rfl rfl)
theorem dX0_prunesKept_7 : decode cX0_prunesKept 7 = .ok (.iload_n 2, 1) := dk_28 (dk_at dksX0_prunesKept_0 7 rfl rfl)
theorem dX0_prunesKept_8 : decode cX0_prunesKept 8 = .ok (.iconst 1, 1) := dk_4 (dk_at dksX0_prunesKept_0 8 rfl rfl)
theorem dX0_prunesKept_9 : decode cX0_prunesKept 9 = .ok (.bipush 99, 2) := dk_16 99 (dk_at dksX0_prunesKept_0 9 rfl rfl)
theorem dX0_prunesKept_11 : decode cX0_prunesKept 11 = .ok (.invokestatic 26, 3) := dk_184 0 26 (dk_at dksX0_prunesKept_0 11 rfl rfl)
theorem dX0_prunesKept_14 : decode cX0_prunesKept 14 = .ok (.ifCond .ne 5, 3) := dk_154 0 5 (dk_at dksX0_prunesKept_0 14 rfl rfl)
theorem dX0_prunesKept_17 : decode cX0_prunesKept 17 = .ok (.iconst (-1), 1) := dk_2 (dk_at dksX0_prunesKept_0 17 rfl rfl)
theorem dX0_prunesKept_18 : decode cX0_prunesKept 18 = .ok (.ireturn, 1) := dk_172 (dk_at dksX0_prunesKept_0 18 rfl rfl)
theorem dX0_prunesKept_19 : decode cX0_prunesKept 19 = .ok (.aload_n 0, 1) := dk_42 (dk_at dksX0_prunesKept_0 19 rfl rfl)
theorem dX0_prunesKept_20 : decode cX0_prunesKept 20 = .ok (.invokevirtual 161, 3) := dk_182 0 161 (dk_at dksX0_prunesKept_0 20 rfl rfl)
theorem dX0_prunesKept_23 : decode cX0_prunesKept 23 = .ok (.iload_n 1, 1) := dk_27 (dk_at dksX0_prunesKept_0 23 rfl rfl)
theorem dX0_prunesKept_24 : decode cX0_prunesKept 24 = .ok (.invokevirtual 177, 3) := dk_182 0 177 (dk_at dksX0_prunesKept_1 0 rfl rfl)
theorem dX0_prunesKept_27 : decode cX0_prunesKept 27 = .ok (.ifCond .ne 6, 3) := dk_154 0 6 (dk_at dksX0_prunesKept_1 3 rfl rfl)
theorem dX0_prunesKept_30 : decode cX0_prunesKept 30 = .ok (.bipush (-2), 2) := dk_16 254 (dk_at dksX0_prunesKept_1 6 rfl rfl)
theorem dX0_prunesKept_32 : decode cX0_prunesKept 32 = .ok (.ireturn, 1) := dk_172 (dk_at dksX0_prunesKept_1 8 rfl rfl)
theorem dX0_prunesKept_33 : decode cX0_prunesKept 33 = .ok (.aload_n 0, 1) := dk_42 (dk_at dksX0_prunesKept_1 9 rfl rfl)
theorem dX0_prunesKept_34 : decode cX0_prunesKept 34 = .ok (.iconst 1, 1) := dk_4 (dk_at dksX0_prunesKept_1 10 rfl rfl)
theorem dX0_prunesKept_35 : decode cX0_prunesKept 35 = .ok (.invokevirtual 330, 3) := dk_182 1 74 (dk_at dksX0_prunesKept_1 11 rfl rfl)
theorem dX0_prunesKept_38 : decode cX0_prunesKept 38 = .ok (.aload_n 0, 1) := dk_42 (dk_at dksX0_prunesKept_1 14 rfl rfl)
theorem dX0_prunesKept_39 : decode cX0_prunesKept 39 = .ok (.invokevirtual 161, 3) := dk_182 0 161 (dk_at dksX0_prunesKept_1 15 rfl rfl)
theorem dX0_prunesKept_42 : decode cX0_prunesKept 42 = .ok (.getfield 167, 3) := dk_180 0 167 (dk_at dksX0_prunesKept_1 18 rfl rfl)
theorem dX0_prunesKept_45 : decode cX0_prunesKept 45 = .ok (.iload_n 1, 1) := dk_27 (dk_at dksX0_prunesKept_1 21 rfl rfl)
theorem dX0_prunesKept_46 : decode cX0_prunesKept 46 = .ok (.iaload, 1) := dk_46 (dk_at dksX0_prunesKept_1 22 rfl rfl)
theorem dX0_prunesKept_47 : decode cX0_prunesKept 47 = .ok (.iload_n 2, 1) := dk_28 (dk_at dksX0_prunesKept_1 23 rfl rfl)
theorem dX0_prunesKept_48 : decode cX0_prunesKept 48 = .ok (.if_icmp .gt 14, 3) := dk_163 0 14 (dk_at dksX0_prunesKept_2 0 rfl rfl)
theorem dX0_prunesKept_51 : decode cX0_prunesKept 51 = .ok (.aload_n 0, 1) := dk_42 (dk_at dksX0_prunesKept_2 3 rfl rfl)
theorem dX0_prunesKept_52 : decode cX0_prunesKept 52 = .ok (.invokevirtual 161, 3) := dk_182 0 161 (dk_at dksX0_prunesKept_2 4 rfl rfl)
theorem dX0_prunesKept_55 : decode cX0_prunesKept 55 = .ok (.iload_n 1, 1) := dk_27 (dk_at dksX0_prunesKept_2 7 rfl rfl)
theorem dX0_prunesKept_56 : decode cX0_prunesKept 56 = .ok (.invokevirtual 333, 3) := dk_182 1 77 (dk_at dksX0_prunesKept_2 8 rfl rfl)
theorem dX0_prunesKept_59 : decode cX0_prunesKept 59 = .ok (.goto 16, 3) := dk_167 0 16 (dk_at dksX0_prunesKept_2 11 rfl rfl)
theorem dX0_prunesKept_62 : decode cX0_prunesKept 62 = .ok (.aload_n 0, 1) := dk_42 (dk_at dksX0_prunesKept_2 14 rfl rfl)
theorem dX0_prunesKept_63 : decode cX0_prunesKept 63 = .ok (.invokevirtual 161, 3) := dk_182 0 161 (dk_at dksX0_prunesKept_2 15 rfl rfl)
theorem dX0_prunesKept_66 : decode cX0_prunesKept 66 = .ok (.getfield 167, 3) := dk_180 0 167 (dk_at dksX0_prunesKept_2 18 rfl rfl)
theorem dX0_prunesKept_69 : decode cX0_prunesKept 69 = .ok (.iload_n 1, 1) := dk_27 (dk_at dksX0_prunesKept_2 21 rfl rfl)
theorem dX0_prunesKept_70 : decode cX0_prunesKept 70 = .ok (.dup2, 1) := dk_92 (dk_at dksX0_prunesKept_2 22 rfl rfl)
theorem dX0_prunesKept_71 : decode cX0_prunesKept 71 = .ok (.iaload, 1) := dk_46 (dk_at dksX0_prunesKept_2 23 rfl rfl)
theorem dX0_prunesKept_72 : decode cX0_prunesKept 72 = .ok (.iload_n 2, 1) := dk_28 (dk_at dksX0_prunesKept_3 0 rfl rfl)
theorem dX0_prunesKept_73 : decode cX0_prunesKept 73 = .ok (.isub, 1) := dk_100 (dk_at dksX0_prunesKept_3 1 rfl rfl)
theorem dX0_prunesKept_74 : decode cX0_prunesKept 74 = .ok (.iastore, 1) := dk_79 (dk_at dksX0_prunesKept_3 2 rfl rfl)
theorem dX0_prunesKept_75 : decode cX0_prunesKept 75 = .ok (.aload_n 0, 1) := dk_42 (dk_at dksX0_prunesKept_3 3 rfl rfl)
theorem dX0_prunesKept_76 : decode cX0_prunesKept 76 = .ok (.invokevirtual 161, 3) := dk_182 0 161 (dk_at dksX0_prunesKept_3 4 rfl rfl)
theorem dX0_prunesKept_79 : decode cX0_prunesKept 79 = .ok (.getfield 167, 3) := dk_180 0 167 (dk_at dksX0_prunesKept_3 7 rfl rfl)
theorem dX0_prunesKept_82 : decode cX0_prunesKept 82 = .ok (.iload_n 1, 1) := dk_27 (dk_at dksX0_prunesKept_3 10 rfl rfl)
theorem dX0_prunesKept_83 : decode cX0_prunesKept 83 = .ok (.iaload, 1) := dk_46 (dk_at dksX0_prunesKept_3 11 rfl rfl)
theorem dX0_prunesKept_84 : decode cX0_prunesKept 84 = .ok (.ireturn, 1) := dk_172 (dk_at dksX0_prunesKept_3 12 rfl rfl)
abbrev cX0_let : ByteArray := prog_1_method_54_code
def yX0_let : MethodName := ⟨RX0, "let", "(II)I"⟩
def dkwX0_let_0 : List UInt8 := [42, 42, 27, 28, 182, 1, 93, 182, 1, 87, 172]
abbrev dktX0_let_0 : List UInt8 := dkwX0_let_0 ++ []
theorem dksX0_let_0 : cX0_let.data.toList.drop 0 = dktX0_let_0 := by decide +kernel
theorem dX0_let_0 : decode cX0_let 0 = .ok (.aload_n 0, 1) := dk_42 (dk_at dksX0_let_0 0 rfl rfl)
theorem dX0_let_1 : decode cX0_let 1 = .ok (.aload_n 0, 1) := dk_42 (dk_at dksX0_let_0 1 rfl rfl)
theorem dX0_let_2 : decode cX0_let 2 = .ok (.iload_n 1, 1) := dk_27 (dk_at dksX0_let_0 2 rfl rfl)
theorem dX0_let_3 : decode cX0_let 3 = .ok (.iload_n 2, 1) := dk_28 (dk_at dksX0_let_0 3 rfl rfl)
theorem dX0_let_4 : decode cX0_let 4 = .ok (.invokevirtual 349, 3) := dk_182 1 93 (dk_at dksX0_let_0 4 rfl rfl)
theorem dX0_let_7 : decode cX0_let 7 = .ok (.invokevirtual 343, 3) := dk_182 1 87 (dk_at dksX0_let_0 7 rfl rfl)
theorem dX0_let_10 : decode cX0_let 10 = .ok (.ireturn, 1) := dk_172 (dk_at dksX0_let_0 10 rfl rfl)
abbrev cX0_letsKept : ByteArray := prog_1_method_48_code
def yX0_letsKept : MethodName := ⟨RX0, "letsKept", "(II)I"⟩
def dkwX0_letsKept_3 : List UInt8 := [182, 1, 74, 42, 182, 0, 161, 180, 0, 170, 27, 28, 79, 3, 172]
abbrev dktX0_letsKept_3 : List UInt8 := dkwX0_letsKept_3 ++ []
def dkwX0_letsKept_2 : List UInt8 := [154, 0, 18, 42, 180, 0, 39, 42, 182, 0, 161, 27, 182, 0, 173, 153, 0, 6, 16, 253, 172, 42, 5]
abbrev dktX0_letsKept_2 : List UInt8 := dkwX0_letsKept_2 ++ dktX0_letsKept_3
def dkwX0_letsKept_1 : List UInt8 := [46, 2, 160, 0, 39, 42, 182, 0, 161, 28, 182, 1, 51, 2, 160, 0, 27, 42, 28, 27, 182, 1, 48]
abbrev dktX0_letsKept_1 : List UInt8 := dkwX0_letsKept_1 ++ dktX0_letsKept_2
def dkwX0_letsKept_0 : List UInt8 := [27, 184, 0, 149, 153, 0, 10, 28, 184, 1, 41, 154, 0, 5, 2, 172, 42, 182, 0, 161, 180, 0, 170, 27]
abbrev dktX0_letsKept_0 : List UInt8 := dkwX0_letsKept_0 ++ dktX0_letsKept_1
theorem dksX0_letsKept_0 : cX0_letsKept.data.toList.drop 0 = dktX0_letsKept_0 := by decide +kernel
theorem dksX0_letsKept_1 : cX0_letsKept.data.toList.drop 24 = dktX0_letsKept_1 := dk_seg dksX0_letsKept_0 24 rfl rfl
theorem dksX0_letsKept_2 : cX0_letsKept.data.toList.drop 47 = dktX0_letsKept_2 := dk_seg dksX0_letsKept_1 23 rfl rfl
theorem dksX0_letsKept_3 : cX0_letsKept.data.toList.drop 70 = dktX0_letsKept_3 := dk_seg dksX0_letsKept_2 23 rfl rfl
theorem dX0_letsKept_0 : decode cX0_letsKept 0 = .ok (.iload_n 1, 1) := dk_27 (dk_at dksX0_letsKept_0 0 rfl rfl)
theorem dX0_letsKept_1 : decode cX0_letsKept 1 = .ok (.invokestatic 149, 3) := dk_184 0 149 (dk_at dksX0_letsKept_0 1 rfl rfl)
theorem dX0_letsKept_4 : decode cX0_letsKept 4 = .ok (.ifCond .eq 10, 3) := dk_153 0 10 (dk_at dksX0_letsKept_0 4 rfl rfl)
theorem dX0_letsKept_7 : decode cX0_letsKept 7 = .ok (.iload_n 2, 1) := dk_28 (dk_at dksX0_letsKept_0 7 rfl rfl)
theorem dX0_letsKept_8 : decode cX0_letsKept 8 = .ok (.invokestatic 297, 3) := dk_184 1 41 (dk_at dksX0_letsKept_0 8 rfl rfl)
theorem dX0_letsKept_11 : decode cX0_letsKept 11 = .ok (.ifCond .ne 5, 3) := dk_154 0 5 (dk_at dksX0_letsKept_0 11 rfl rfl)
theorem dX0_letsKept_14 : decode cX0_letsKept 14 = .ok (.iconst (-1), 1) := dk_2 (dk_at dksX0_letsKept_0 14 rfl rfl)
theorem dX0_letsKept_15 : decode cX0_letsKept 15 = .ok (.ireturn, 1) := dk_172 (dk_at dksX0_letsKept_0 15 rfl rfl)
theorem dX0_letsKept_16 : decode cX0_letsKept 16 = .ok (.aload_n 0, 1) := dk_42 (dk_at dksX0_letsKept_0 16 rfl rfl)
theorem dX0_letsKept_17 : decode cX0_letsKept 17 = .ok (.invokevirtual 161, 3) := dk_182 0 161 (dk_at dksX0_letsKept_0 17 rfl rfl)
theorem dX0_letsKept_20 : decode cX0_letsKept 20 = .ok (.getfield 170, 3) := dk_180 0 170 (dk_at dksX0_letsKept_0 20 rfl rfl)
theorem dX0_letsKept_23 : decode cX0_letsKept 23 = .ok (.iload_n 1, 1) := dk_27 (dk_at dksX0_letsKept_0 23 rfl rfl)
theorem dX0_letsKept_24 : decode cX0_letsKept 24 = .ok (.iaload, 1) := dk_46 (dk_at dksX0_letsKept_1 0 rfl rfl)
theorem dX0_letsKept_25 : decode cX0_letsKept 25 = .ok (.iconst (-1), 1) := dk_2 (dk_at dksX0_letsKept_1 1 rfl rfl)
theorem dX0_letsKept_26 : decode cX0_letsKept 26 = .ok (.if_icmp .ne 39, 3) := dk_160 0 39 (dk_at dksX0_letsKept_1 2 rfl rfl)
theorem dX0_letsKept_29 : decode cX0_letsKept 29 = .ok (.aload_n 0, 1) := dk_42 (dk_at dksX0_letsKept_1 5 rfl rfl)
theorem dX0_letsKept_30 : decode cX0_letsKept 30 = .ok (.invokevirtual 161, 3) := dk_182 0 161 (dk_at dksX0_letsKept_1 6 rfl rfl)
theorem dX0_letsKept_33 : decode cX0_letsKept 33 = .ok (.iload_n 2, 1) := dk_28 (dk_at dksX0_letsKept_1 9 rfl rfl)
theorem dX0_letsKept_34 : decode cX0_letsKept 34 = .ok (.invokevirtual 307, 3) := dk_182 1 51 (dk_at dksX0_letsKept_1 10 rfl rfl)
theorem dX0_letsKept_37 : decode cX0_letsKept 37 = .ok (.iconst (-1), 1) := dk_2 (dk_at dksX0_letsKept_1 13 rfl rfl)
theorem dX0_letsKept_38 : decode cX0_letsKept 38 = .ok (.if_icmp .ne 27, 3) := dk_160 0 27 (dk_at dksX0_letsKept_1 14 rfl rfl)
theorem dX0_letsKept_41 : decode cX0_letsKept 41 = .ok (.aload_n 0, 1) := dk_42 (dk_at dksX0_letsKept_1 17 rfl rfl)
theorem dX0_letsKept_42 : decode cX0_letsKept 42 = .ok (.iload_n 2, 1) := dk_28 (dk_at dksX0_letsKept_1 18 rfl rfl)
theorem dX0_letsKept_43 : decode cX0_letsKept 43 = .ok (.iload_n 1, 1) := dk_27 (dk_at dksX0_letsKept_1 19 rfl rfl)
theorem dX0_letsKept_44 : decode cX0_letsKept 44 = .ok (.invokevirtual 304, 3) := dk_182 1 48 (dk_at dksX0_letsKept_1 20 rfl rfl)
theorem dX0_letsKept_47 : decode cX0_letsKept 47 = .ok (.ifCond .ne 18, 3) := dk_154 0 18 (dk_at dksX0_letsKept_2 0 rfl rfl)
theorem dX0_letsKept_50 : decode cX0_letsKept 50 = .ok (.aload_n 0, 1) := dk_42 (dk_at dksX0_letsKept_2 3 rfl rfl)
theorem dX0_letsKept_51 : decode cX0_letsKept 51 = .ok (.getfield 39, 3) := dk_180 0 39 (dk_at dksX0_letsKept_2 4 rfl rfl)
theorem dX0_letsKept_54 : decode cX0_letsKept 54 = .ok (.aload_n 0, 1) := dk_42 (dk_at dksX0_letsKept_2 7 rfl rfl)
theorem dX0_letsKept_55 : decode cX0_letsKept 55 = .ok (.invokevirtual 161, 3) := dk_182 0 161 (dk_at dksX0_letsKept_2 8 rfl rfl)
theorem dX0_letsKept_58 : decode cX0_letsKept 58 = .ok (.iload_n 1, 1) := dk_27 (dk_at dksX0_letsKept_2 11 rfl rfl)
theorem dX0_letsKept_59 : decode cX0_letsKept 59 = .ok (.invokevirtual 173, 3) := dk_182 0 173 (dk_at dksX0_letsKept_2 12 rfl rfl)
theorem dX0_letsKept_62 : decode cX0_letsKept 62 = .ok (.ifCond .eq 6, 3) := dk_153 0 6 (dk_at dksX0_letsKept_2 15 rfl rfl)
theorem dX0_letsKept_65 : decode cX0_letsKept 65 = .ok (.bipush (-3), 2) := dk_16 253 (dk_at dksX0_letsKept_2 18 rfl rfl)
theorem dX0_letsKept_67 : decode cX0_letsKept 67 = .ok (.ireturn, 1) := dk_172 (dk_at dksX0_letsKept_2 20 rfl rfl)
theorem dX0_letsKept_68 : decode cX0_letsKept 68 = .ok (.aload_n 0, 1) := dk_42 (dk_at dksX0_letsKept_2 21 rfl rfl)
theorem dX0_letsKept_69 : decode cX0_letsKept 69 = .ok (.iconst 2, 1) := dk_5 (dk_at dksX0_letsKept_2 22 rfl rfl)
theorem dX0_letsKept_70 : decode cX0_letsKept 70 = .ok (.invokevirtual 330, 3) := dk_182 1 74 (dk_at dksX0_letsKept_3 0 rfl rfl)
theorem dX0_letsKept_73 : decode cX0_letsKept 73 = .ok (.aload_n 0, 1) := dk_42 (dk_at dksX0_letsKept_3 3 rfl rfl)
theorem dX0_letsKept_74 : decode cX0_letsKept 74 = .ok (.invokevirtual 161, 3) := dk_182 0 161 (dk_at dksX0_letsKept_3 4 rfl rfl)
theorem dX0_letsKept_77 : decode cX0_letsKept 77 = .ok (.getfield 170, 3) := dk_180 0 170 (dk_at dksX0_letsKept_3 7 rfl rfl)
theorem dX0_letsKept_80 : decode cX0_letsKept 80 = .ok (.iload_n 1, 1) := dk_27 (dk_at dksX0_letsKept_3 10 rfl rfl)
theorem dX0_letsKept_81 : decode cX0_letsKept 81 = .ok (.iload_n 2, 1) := dk_28 (dk_at dksX0_letsKept_3 11 rfl rfl)
theorem dX0_letsKept_82 : decode cX0_letsKept 82 = .ok (.iastore, 1) := dk_79 (dk_at dksX0_letsKept_3 12 rfl rfl)
theorem dX0_letsKept_83 : decode cX0_letsKept 83 = .ok (.iconst 0, 1) := dk_3 (dk_at dksX0_letsKept_3 13 rfl rfl)
theorem dX0_letsKept_84 : decode cX0_letsKept 84 = .ok (.ireturn, 1) := dk_172 (dk_at dksX0_letsKept_3 14 rfl rfl)
abbrev cX0_empty : ByteArray := prog_1_method_55_code
def yX0_empty : MethodName := ⟨RX0, "empty", "(I)I"⟩
def dkwX0_empty_0 : List UInt8 := [42, 42, 27, 182, 1, 96, 182, 1, 87, 172]
abbrev dktX0_empty_0 : List UInt8 := dkwX0_empty_0 ++ []
theorem dksX0_empty_0 : cX0_empty.data.toList.drop 0 = dktX0_empty_0 := by decide +kernel
theorem dX0_empty_0 : decode cX0_empty 0 = .ok (.aload_n 0, 1) := dk_42 (dk_at dksX0_empty_0 0 rfl rfl)
theorem dX0_empty_1 : decode cX0_empty 1 = .ok (.aload_n 0, 1) := dk_42 (dk_at dksX0_empty_0 1 rfl rfl)
theorem dX0_empty_2 : decode cX0_empty 2 = .ok (.iload_n 1, 1) := dk_27 (dk_at dksX0_empty_0 2 rfl rfl)
theorem dX0_empty_3 : decode cX0_empty 3 = .ok (.invokevirtual 352, 3) := dk_182 1 96 (dk_at dksX0_empty_0 3 rfl rfl)
theorem dX0_empty_6 : decode cX0_empty 6 = .ok (.invokevirtual 343, 3) := dk_182 1 87 (dk_at dksX0_empty_0 6 rfl rfl)
theorem dX0_empty_9 : decode cX0_empty 9 = .ok (.ireturn, 1) := dk_172 (dk_at dksX0_empty_0 9 rfl rfl)
abbrev cX0_emptiesKept : ByteArray := prog_1_method_49_code
def yX0_emptiesKept : MethodName := ⟨RX0, "emptiesKept", "(I)I"⟩
def dkwX0_emptiesKept_1 : List UInt8 := [16, 254, 172, 42, 6, 182, 1, 74, 42, 182, 0, 161, 180, 0, 170, 27, 2, 79, 28, 172]
abbrev dktX0_emptiesKept_1 : List UInt8 := dkwX0_emptiesKept_1 ++ []
def dkwX0_emptiesKept_0 : List UInt8 := [27, 184, 0, 149, 154, 0, 5, 2, 172, 42, 182, 0, 161, 180, 0, 170, 27, 46, 61, 28, 2, 160, 0, 6]
abbrev dktX0_emptiesKept_0 : List UInt8 := dkwX0_emptiesKept_0 ++ dktX0_emptiesKept_1
theorem dksX0_emptiesKept_0 : cX0_emptiesKept.data.toList.drop 0 = dktX0_emptiesKept_0 := by decide +kernel
theorem dksX0_emptiesKept_1 : cX0_emptiesKept.data.toList.drop 24 = dktX0_emptiesKept_1 := dk_seg dksX0_emptiesKept_0 24 rfl rfl
theorem dX0_emptiesKept_0 : decode cX0_emptiesKept 0 = .ok (.iload_n 1, 1) := dk_27 (dk_at dksX0_emptiesKept_0 0 rfl rfl)
theorem dX0_emptiesKept_1 : decode cX0_emptiesKept 1 = .ok (.invokestatic 149, 3) := dk_184 0 149 (dk_at dksX0_emptiesKept_0 1 rfl rfl)
theorem dX0_emptiesKept_4 : decode cX0_emptiesKept 4 = .ok (.ifCond .ne 5, 3) := dk_154 0 5 (dk_at dksX0_emptiesKept_0 4 rfl rfl)
theorem dX0_emptiesKept_7 : decode cX0_emptiesKept 7 = .ok (.iconst (-1), 1) := dk_2 (dk_at dksX0_emptiesKept_0 7 rfl rfl)
theorem dX0_emptiesKept_8 : decode cX0_emptiesKept 8 = .ok (.ireturn, 1) := dk_172 (dk_at dksX0_emptiesKept_0 8 rfl rfl)
theorem dX0_emptiesKept_9 : decode cX0_emptiesKept 9 = .ok (.aload_n 0, 1) := dk_42 (dk_at dksX0_emptiesKept_0 9 rfl rfl)
theorem dX0_emptiesKept_10 : decode cX0_emptiesKept 10 = .ok (.invokevirtual 161, 3) := dk_182 0 161 (dk_at dksX0_emptiesKept_0 10 rfl rfl)
theorem dX0_emptiesKept_13 : decode cX0_emptiesKept 13 = .ok (.getfield 170, 3) := dk_180 0 170 (dk_at dksX0_emptiesKept_0 13 rfl rfl)
theorem dX0_emptiesKept_16 : decode cX0_emptiesKept 16 = .ok (.iload_n 1, 1) := dk_27 (dk_at dksX0_emptiesKept_0 16 rfl rfl)
theorem dX0_emptiesKept_17 : decode cX0_emptiesKept 17 = .ok (.iaload, 1) := dk_46 (dk_at dksX0_emptiesKept_0 17 rfl rfl)
theorem dX0_emptiesKept_18 : decode cX0_emptiesKept 18 = .ok (.istore_n 2, 1) := dk_61 (dk_at dksX0_emptiesKept_0 18 rfl rfl)
theorem dX0_emptiesKept_19 : decode cX0_emptiesKept 19 = .ok (.iload_n 2, 1) := dk_28 (dk_at dksX0_emptiesKept_0 19 rfl rfl)
theorem dX0_emptiesKept_20 : decode cX0_emptiesKept 20 = .ok (.iconst (-1), 1) := dk_2 (dk_at dksX0_emptiesKept_0 20 rfl rfl)
theorem dX0_emptiesKept_21 : decode cX0_emptiesKept 21 = .ok (.if_icmp .ne 6, 3) := dk_160 0 6 (dk_at dksX0_emptiesKept_0 21 rfl rfl)
theorem dX0_emptiesKept_24 : decode cX0_emptiesKept 24 = .ok (.bipush (-2), 2) := dk_16 254 (dk_at dksX0_emptiesKept_1 0 rfl rfl)
theorem dX0_emptiesKept_26 : decode cX0_emptiesKept 26 = .ok (.ireturn, 1) := dk_172 (dk_at dksX0_emptiesKept_1 2 rfl rfl)
theorem dX0_emptiesKept_27 : decode cX0_emptiesKept 27 = .ok (.aload_n 0, 1) := dk_42 (dk_at dksX0_emptiesKept_1 3 rfl rfl)
theorem dX0_emptiesKept_28 : decode cX0_emptiesKept 28 = .ok (.iconst 3, 1) := dk_6 (dk_at dksX0_emptiesKept_1 4 rfl rfl)
theorem dX0_emptiesKept_29 : decode cX0_emptiesKept 29 = .ok (.invokevirtual 330, 3) := dk_182 1 74 (dk_at dksX0_emptiesKept_1 5 rfl rfl)
theorem dX0_emptiesKept_32 : decode cX0_emptiesKept 32 = .ok (.aload_n 0, 1) := dk_42 (dk_at dksX0_emptiesKept_1 8 rfl rfl)
theorem dX0_emptiesKept_33 : decode cX0_emptiesKept 33 = .ok (.invokevirtual 161, 3) := dk_182 0 161 (dk_at dksX0_emptiesKept_1 9 rfl rfl)
theorem dX0_emptiesKept_36 : decode cX0_emptiesKept 36 = .ok (.getfield 170, 3) := dk_180 0 170 (dk_at dksX0_emptiesKept_1 12 rfl rfl)
theorem dX0_emptiesKept_39 : decode cX0_emptiesKept 39 = .ok (.iload_n 1, 1) := dk_27 (dk_at dksX0_emptiesKept_1 15 rfl rfl)
theorem dX0_emptiesKept_40 : decode cX0_emptiesKept 40 = .ok (.iconst (-1), 1) := dk_2 (dk_at dksX0_emptiesKept_1 16 rfl rfl)
theorem dX0_emptiesKept_41 : decode cX0_emptiesKept 41 = .ok (.iastore, 1) := dk_79 (dk_at dksX0_emptiesKept_1 17 rfl rfl)
theorem dX0_emptiesKept_42 : decode cX0_emptiesKept 42 = .ok (.iload_n 2, 1) := dk_28 (dk_at dksX0_emptiesKept_1 18 rfl rfl)
theorem dX0_emptiesKept_43 : decode cX0_emptiesKept 43 = .ok (.ireturn, 1) := dk_172 (dk_at dksX0_emptiesKept_1 19 rfl rfl)
abbrev cX0_pass : ByteArray := prog_1_method_56_code
def yX0_pass : MethodName := ⟨RX0, "pass", "()I"⟩
def dkwX0_pass_0 : List UInt8 := [42, 42, 182, 1, 99, 182, 1, 87, 172]
abbrev dktX0_pass_0 : List UInt8 := dkwX0_pass_0 ++ []
theorem dksX0_pass_0 : cX0_pass.data.toList.drop 0 = dktX0_pass_0 := by decide +kernel
theorem dX0_pass_0 : decode cX0_pass 0 = .ok (.aload_n 0, 1) := dk_42 (dk_at dksX0_pass_0 0 rfl rfl)
theorem dX0_pass_1 : decode cX0_pass 1 = .ok (.aload_n 0, 1) := dk_42 (dk_at dksX0_pass_0 1 rfl rfl)
theorem dX0_pass_2 : decode cX0_pass 2 = .ok (.invokevirtual 355, 3) := dk_182 1 99 (dk_at dksX0_pass_0 2 rfl rfl)
theorem dX0_pass_5 : decode cX0_pass 5 = .ok (.invokevirtual 343, 3) := dk_182 1 87 (dk_at dksX0_pass_0 5 rfl rfl)
theorem dX0_pass_8 : decode cX0_pass 8 = .ok (.ireturn, 1) := dk_172 (dk_at dksX0_pass_0 8 rfl rfl)
abbrev cX0_passesKept : ByteArray := prog_1_method_50_code
def yX0_passesKept : MethodName := ⟨RX0, "passesKept", "()I"⟩
def dkwX0_passesKept_1 : List UInt8 := [182, 0, 161, 182, 1, 80, 172]
abbrev dktX0_passesKept_1 : List UInt8 := dkwX0_passesKept_1 ++ []
def dkwX0_passesKept_0 : List UInt8 := [42, 182, 0, 161, 180, 0, 199, 17, 3, 231, 160, 0, 6, 16, 253, 172, 42, 7, 182, 1, 74, 42, 42]
abbrev dktX0_passesKept_0 : List UInt8 := dkwX0_passesKept_0 ++ dktX0_passesKept_1
theorem dksX0_passesKept_0 : cX0_passesKept.data.toList.drop 0 = dktX0_passesKept_0 := by decide +kernel
theorem dksX0_passesKept_1 : cX0_passesKept.data.toList.drop 23 = dktX0_passesKept_1 := dk_seg dksX0_passesKept_0 23 rfl rfl
theorem dX0_passesKept_0 : decode cX0_passesKept 0 = .ok (.aload_n 0, 1) := dk_42 (dk_at dksX0_passesKept_0 0 rfl rfl)
theorem dX0_passesKept_1 : decode cX0_passesKept 1 = .ok (.invokevirtual 161, 3) := dk_182 0 161 (dk_at dksX0_passesKept_0 1 rfl rfl)
theorem dX0_passesKept_4 : decode cX0_passesKept 4 = .ok (.getfield 199, 3) := dk_180 0 199 (dk_at dksX0_passesKept_0 4 rfl rfl)
theorem dX0_passesKept_7 : decode cX0_passesKept 7 = .ok (.sipush 999, 3) := dk_17 3 231 (dk_at dksX0_passesKept_0 7 rfl rfl)
theorem dX0_passesKept_10 : decode cX0_passesKept 10 = .ok (.if_icmp .ne 6, 3) := dk_160 0 6 (dk_at dksX0_passesKept_0 10 rfl rfl)
theorem dX0_passesKept_13 : decode cX0_passesKept 13 = .ok (.bipush (-3), 2) := dk_16 253 (dk_at dksX0_passesKept_0 13 rfl rfl)
theorem dX0_passesKept_15 : decode cX0_passesKept 15 = .ok (.ireturn, 1) := dk_172 (dk_at dksX0_passesKept_0 15 rfl rfl)
theorem dX0_passesKept_16 : decode cX0_passesKept 16 = .ok (.aload_n 0, 1) := dk_42 (dk_at dksX0_passesKept_0 16 rfl rfl)
theorem dX0_passesKept_17 : decode cX0_passesKept 17 = .ok (.iconst 4, 1) := dk_7 (dk_at dksX0_passesKept_0 17 rfl rfl)
theorem dX0_passesKept_18 : decode cX0_passesKept 18 = .ok (.invokevirtual 330, 3) := dk_182 1 74 (dk_at dksX0_passesKept_0 18 rfl rfl)
theorem dX0_passesKept_21 : decode cX0_passesKept 21 = .ok (.aload_n 0, 1) := dk_42 (dk_at dksX0_passesKept_0 21 rfl rfl)
theorem dX0_passesKept_22 : decode cX0_passesKept 22 = .ok (.aload_n 0, 1) := dk_42 (dk_at dksX0_passesKept_0 22 rfl rfl)
theorem dX0_passesKept_23 : decode cX0_passesKept 23 = .ok (.invokevirtual 161, 3) := dk_182 0 161 (dk_at dksX0_passesKept_1 0 rfl rfl)
theorem dX0_passesKept_26 : decode cX0_passesKept 26 = .ok (.invokevirtual 336, 3) := dk_182 1 80 (dk_at dksX0_passesKept_1 3 rfl rfl)
theorem dX0_passesKept_29 : decode cX0_passesKept 29 = .ok (.ireturn, 1) := dk_172 (dk_at dksX0_passesKept_1 6 rfl rfl)
abbrev cX0_passes : ByteArray := prog_1_method_44_code
def yX0_passes : MethodName := ⟨RX0, "passes", "(LForestRooms$Table;)I"⟩
def dkwX0_passes_8 : List UInt8 := [79, 132, 2, 1, 132, 3, 1, 167, 255, 191, 43, 89, 180, 0, 199, 4, 96, 181, 0, 199, 28, 172]
abbrev dktX0_passes_8 : List UInt8 := dkwX0_passes_8 ++ []
def dkwX0_passes_7 : List UInt8 := [159, 0, 28, 42, 180, 0, 39, 43, 29, 182, 0, 173, 154, 0, 6, 167, 0, 13, 43, 180, 0, 170, 29, 2]
abbrev dktX0_passes_7 : List UInt8 := dkwX0_passes_7 ++ dktX0_passes_8
def dkwX0_passes_6 : List UInt8 := [29, 46, 2, 159, 0, 14, 43, 29, 42, 180, 0, 87, 29, 46, 182, 1, 67, 43, 180, 0, 170, 29, 46, 2]
abbrev dktX0_passes_6 : List UInt8 := dkwX0_passes_6 ++ dktX0_passes_7
def dkwX0_passes_5 : List UInt8 := [182, 1, 64, 79, 132, 2, 1, 167, 255, 223, 3, 61, 3, 62, 29, 16, 16, 162, 0, 65, 42, 180, 0, 87]
abbrev dktX0_passes_5 : List UInt8 := dkwX0_passes_5 ++ dktX0_passes_6
def dkwX0_passes_4 : List UInt8 := [162, 0, 33, 42, 180, 0, 87, 28, 43, 28, 182, 0, 177, 153, 0, 7, 2, 167, 0, 9, 42, 43, 28]
abbrev dktX0_passes_4 : List UInt8 := dkwX0_passes_4 ++ dktX0_passes_5
def dkwX0_passes_3 : List UInt8 := [28, 46, 96, 184, 1, 62, 167, 0, 4, 3, 79, 132, 2, 1, 167, 255, 211, 3, 61, 28, 16, 16]
abbrev dktX0_passes_3 : List UInt8 := dkwX0_passes_3 ++ dktX0_passes_4
def dkwX0_passes_2 : List UInt8 := [180, 0, 167, 28, 43, 28, 182, 0, 177, 153, 0, 24, 16, 99, 43, 180, 0, 167, 28, 46, 42, 180, 0, 90]
abbrev dktX0_passes_2 : List UInt8 := dkwX0_passes_2 ++ dktX0_passes_3
def dkwX0_passes_1 : List UInt8 := [182, 0, 180, 167, 0, 4, 3, 79, 132, 2, 1, 167, 255, 223, 3, 61, 28, 16, 16, 162, 0, 45, 43]
abbrev dktX0_passes_1 : List UInt8 := dkwX0_passes_1 ++ dktX0_passes_2
def dkwX0_passes_0 : List UInt8 := [3, 61, 28, 16, 16, 162, 0, 33, 42, 180, 0, 90, 28, 43, 28, 182, 0, 177, 153, 0, 12, 42, 43, 28]
abbrev dktX0_passes_0 : List UInt8 := dkwX0_passes_0 ++ dktX0_passes_1
theorem dksX0_passes_0 : cX0_passes.data.toList.drop 0 = dktX0_passes_0 := by decide +kernel
theorem dksX0_passes_1 : cX0_passes.data.toList.drop 24 = dktX0_passes_1 := dk_seg dksX0_passes_0 24 rfl rfl
theorem dksX0_passes_2 : cX0_passes.data.toList.drop 47 = dktX0_passes_2 := dk_seg dksX0_passes_1 23 rfl rfl
theorem dksX0_passes_3 : cX0_passes.data.toList.drop 71 = dktX0_passes_3 := dk_seg dksX0_passes_2 24 rfl rfl
theorem dksX0_passes_4 : cX0_passes.data.toList.drop 93 = dktX0_passes_4 := dk_seg dksX0_passes_3 22 rfl rfl
theorem dksX0_passes_5 : cX0_passes.data.toList.drop 116 = dktX0_passes_5 := dk_seg dksX0_passes_4 23 rfl rfl
theorem dksX0_passes_6 : cX0_passes.data.toList.drop 140 = dktX0_passes_6 := dk_seg dksX0_passes_5 24 rfl rfl
theorem dksX0_passes_7 : cX0_passes.data.toList.drop 164 = dktX0_passes_7 := dk_seg dksX0_passes_6 24 rfl rfl
theorem dksX0_passes_8 : cX0_passes.data.toList.drop 188 = dktX0_passes_8 := dk_seg dksX0_passes_7 24 rfl rfl
theorem dX0_passes_0 : decode cX0_passes 0 = .ok (.iconst 0, 1) := dk_3 (dk_at dksX0_passes_0 0 rfl rfl)
theorem dX0_passes_1 : decode cX0_passes 1 = .ok (.istore_n 2, 1) := dk_61 (dk_at dksX0_passes_0 1 rfl rfl)
theorem dX0_passes_2 : decode cX0_passes 2 = .ok (.iload_n 2, 1) := dk_28 (dk_at dksX0_passes_0 2 rfl rfl)
theorem dX0_passes_3 : decode cX0_passes 3 = .ok (.bipush 16, 2) := dk_16 16 (dk_at dksX0_passes_0 3 rfl rfl)
theorem dX0_passes_5 : decode cX0_passes 5 = .ok (.if_icmp .ge 33, 3) := dk_162 0 33 (dk_at dksX0_passes_0 5 rfl rfl)
theorem dX0_passes_8 : decode cX0_passes 8 = .ok (.aload_n 0, 1) := dk_42 (dk_at dksX0_passes_0 8 rfl rfl)
theorem dX0_passes_9 : decode cX0_passes 9 = .ok (.getfield 90, 3) := dk_180 0 90 (dk_at dksX0_passes_0 9 rfl rfl)
theorem dX0_passes_12 : decode cX0_passes 12 = .ok (.iload_n 2, 1) := dk_28 (dk_at dksX0_passes_0 12 rfl rfl)
theorem dX0_passes_13 : decode cX0_passes 13 = .ok (.aload_n 1, 1) := dk_43 (dk_at dksX0_passes_0 13 rfl rfl)
theorem dX0_passes_14 : decode cX0_passes 14 = .ok (.iload_n 2, 1) := dk_28 (dk_at dksX0_passes_0 14 rfl rfl)
theorem dX0_passes_15 : decode cX0_passes 15 = .ok (.invokevirtual 177, 3) := dk_182 0 177 (dk_at dksX0_passes_0 15 rfl rfl)
theorem dX0_passes_18 : decode cX0_passes 18 = .ok (.ifCond .eq 12, 3) := dk_153 0 12 (dk_at dksX0_passes_0 18 rfl rfl)
theorem dX0_passes_21 : decode cX0_passes 21 = .ok (.aload_n 0, 1) := dk_42 (dk_at dksX0_passes_0 21 rfl rfl)
theorem dX0_passes_22 : decode cX0_passes 22 = .ok (.aload_n 1, 1) := dk_43 (dk_at dksX0_passes_0 22 rfl rfl)
theorem dX0_passes_23 : decode cX0_passes 23 = .ok (.iload_n 2, 1) := dk_28 (dk_at dksX0_passes_0 23 rfl rfl)
theorem dX0_passes_24 : decode cX0_passes 24 = .ok (.invokevirtual 180, 3) := dk_182 0 180 (dk_at dksX0_passes_1 0 rfl rfl)
theorem dX0_passes_27 : decode cX0_passes 27 = .ok (.goto 4, 3) := dk_167 0 4 (dk_at dksX0_passes_1 3 rfl rfl)
theorem dX0_passes_30 : decode cX0_passes 30 = .ok (.iconst 0, 1) := dk_3 (dk_at dksX0_passes_1 6 rfl rfl)
theorem dX0_passes_31 : decode cX0_passes 31 = .ok (.iastore, 1) := dk_79 (dk_at dksX0_passes_1 7 rfl rfl)
theorem dX0_passes_32 : decode cX0_passes 32 = .ok (.iinc 2 1, 3) := dk_132 2 1 (dk_at dksX0_passes_1 8 rfl rfl)
theorem dX0_passes_35 : decode cX0_passes 35 = .ok (.goto (-33), 3) := dk_167 255 223 (dk_at dksX0_passes_1 11 rfl rfl)
theorem dX0_passes_38 : decode cX0_passes 38 = .ok (.iconst 0, 1) := dk_3 (dk_at dksX0_passes_1 14 rfl rfl)
theorem dX0_passes_39 : decode cX0_passes 39 = .ok (.istore_n 2, 1) := dk_61 (dk_at dksX0_passes_1 15 rfl rfl)
theorem dX0_passes_40 : decode cX0_passes 40 = .ok (.iload_n 2, 1) := dk_28 (dk_at dksX0_passes_1 16 rfl rfl)
theorem dX0_passes_41 : decode cX0_passes 41 = .ok (.bipush 16, 2) := dk_16 16 (dk_at dksX0_passes_1 17 rfl rfl)
theorem dX0_passes_43 : decode cX0_passes 43 = .ok (.if_icmp .ge 45, 3) := dk_162 0 45 (dk_at dksX0_passes_1 19 rfl rfl)
theorem dX0_passes_46 : decode cX0_passes 46 = .ok (.aload_n 1, 1) := dk_43 (dk_at dksX0_passes_1 22 rfl rfl)
theorem dX0_passes_47 : decode cX0_passes 47 = .ok (.getfield 167, 3) := dk_180 0 167 (dk_at dksX0_passes_2 0 rfl rfl)
theorem dX0_passes_50 : decode cX0_passes 50 = .ok (.iload_n 2, 1) := dk_28 (dk_at dksX0_passes_2 3 rfl rfl)
theorem dX0_passes_51 : decode cX0_passes 51 = .ok (.aload_n 1, 1) := dk_43 (dk_at dksX0_passes_2 4 rfl rfl)
theorem dX0_passes_52 : decode cX0_passes 52 = .ok (.iload_n 2, 1) := dk_28 (dk_at dksX0_passes_2 5 rfl rfl)
theorem dX0_passes_53 : decode cX0_passes 53 = .ok (.invokevirtual 177, 3) := dk_182 0 177 (dk_at dksX0_passes_2 6 rfl rfl)
theorem dX0_passes_56 : decode cX0_passes 56 = .ok (.ifCond .eq 24, 3) := dk_153 0 24 (dk_at dksX0_passes_2 9 rfl rfl)
theorem dX0_passes_59 : decode cX0_passes 59 = .ok (.bipush 99, 2) := dk_16 99 (dk_at dksX0_passes_2 12 rfl rfl)
theorem dX0_passes_61 : decode cX0_passes 61 = .ok (.aload_n 1, 1) := dk_43 (dk_at dksX0_passes_2 14 rfl rfl)
theorem dX0_passes_62 : decode cX0_passes 62 = .ok (.getfield 167, 3) := dk_180 0 167 (dk_at dksX0_passes_2 15 rfl rfl)
theorem dX0_passes_65 : decode cX0_passes 65 = .ok (.iload_n 2, 1) := dk_28 (dk_at dksX0_passes_2 18 rfl rfl)
theorem dX0_passes_66 : decode cX0_passes 66 = .ok (.iaload, 1) := dk_46 (dk_at dksX0_passes_2 19 rfl rfl)
theorem dX0_passes_67 : decode cX0_passes 67 = .ok (.aload_n 0, 1) := dk_42 (dk_at dksX0_passes_2 20 rfl rfl)
theorem dX0_passes_68 : decode cX0_passes 68 = .ok (.getfield 90, 3) := dk_180 0 90 (dk_at dksX0_passes_2 21 rfl rfl)
theorem dX0_passes_71 : decode cX0_passes 71 = .ok (.iload_n 2, 1) := dk_28 (dk_at dksX0_passes_3 0 rfl rfl)
theorem dX0_passes_72 : decode cX0_passes 72 = .ok (.iaload, 1) := dk_46 (dk_at dksX0_passes_3 1 rfl rfl)
theorem dX0_passes_73 : decode cX0_passes 73 = .ok (.iadd, 1) := dk_96 (dk_at dksX0_passes_3 2 rfl rfl)
theorem dX0_passes_74 : decode cX0_passes 74 = .ok (.invokestatic 318, 3) := dk_184 1 62 (dk_at dksX0_passes_3 3 rfl rfl)
theorem dX0_passes_77 : decode cX0_passes 77 = .ok (.goto 4, 3) := dk_167 0 4 (dk_at dksX0_passes_3 6 rfl rfl)
theorem dX0_passes_80 : decode cX0_passes 80 = .ok (.iconst 0, 1) := dk_3 (dk_at dksX0_passes_3 9 rfl rfl)
theorem dX0_passes_81 : decode cX0_passes 81 = .ok (.iastore, 1) := dk_79 (dk_at dksX0_passes_3 10 rfl rfl)
theorem dX0_passes_82 : decode cX0_passes 82 = .ok (.iinc 2 1, 3) := dk_132 2 1 (dk_at dksX0_passes_3 11 rfl rfl)
theorem dX0_passes_85 : decode cX0_passes 85 = .ok (.goto (-45), 3) := dk_167 255 211 (dk_at dksX0_passes_3 14 rfl rfl)
theorem dX0_passes_88 : decode cX0_passes 88 = .ok (.iconst 0, 1) := dk_3 (dk_at dksX0_passes_3 17 rfl rfl)
theorem dX0_passes_89 : decode cX0_passes 89 = .ok (.istore_n 2, 1) := dk_61 (dk_at dksX0_passes_3 18 rfl rfl)
theorem dX0_passes_90 : decode cX0_passes 90 = .ok (.iload_n 2, 1) := dk_28 (dk_at dksX0_passes_3 19 rfl rfl)
theorem dX0_passes_91 : decode cX0_passes 91 = .ok (.bipush 16, 2) := dk_16 16 (dk_at dksX0_passes_3 20 rfl rfl)
theorem dX0_passes_93 : decode cX0_passes 93 = .ok (.if_icmp .ge 33, 3) := dk_162 0 33 (dk_at dksX0_passes_4 0 rfl rfl)
theorem dX0_passes_96 : decode cX0_passes 96 = .ok (.aload_n 0, 1) := dk_42 (dk_at dksX0_passes_4 3 rfl rfl)
theorem dX0_passes_97 : decode cX0_passes 97 = .ok (.getfield 87, 3) := dk_180 0 87 (dk_at dksX0_passes_4 4 rfl rfl)
theorem dX0_passes_100 : decode cX0_passes 100 = .ok (.iload_n 2, 1) := dk_28 (dk_at dksX0_passes_4 7 rfl rfl)
theorem dX0_passes_101 : decode cX0_passes 101 = .ok (.aload_n 1, 1) := dk_43 (dk_at dksX0_passes_4 8 rfl rfl)
theorem dX0_passes_102 : decode cX0_passes 102 = .ok (.iload_n 2, 1) := dk_28 (dk_at dksX0_passes_4 9 rfl rfl)
theorem dX0_passes_103 : decode cX0_passes 103 = .ok (.invokevirtual 177, 3) := dk_182 0 177 (dk_at dksX0_passes_4 10 rfl rfl)
theorem dX0_passes_106 : decode cX0_passes 106 = .ok (.ifCond .eq 7, 3) := dk_153 0 7 (dk_at dksX0_passes_4 13 rfl rfl)
theorem dX0_passes_109 : decode cX0_passes 109 = .ok (.iconst (-1), 1) := dk_2 (dk_at dksX0_passes_4 16 rfl rfl)
theorem dX0_passes_110 : decode cX0_passes 110 = .ok (.goto 9, 3) := dk_167 0 9 (dk_at dksX0_passes_4 17 rfl rfl)
theorem dX0_passes_113 : decode cX0_passes 113 = .ok (.aload_n 0, 1) := dk_42 (dk_at dksX0_passes_4 20 rfl rfl)
theorem dX0_passes_114 : decode cX0_passes 114 = .ok (.aload_n 1, 1) := dk_43 (dk_at dksX0_passes_4 21 rfl rfl)
theorem dX0_passes_115 : decode cX0_passes 115 = .ok (.iload_n 2, 1) := dk_28 (dk_at dksX0_passes_4 22 rfl rfl)
theorem dX0_passes_116 : decode cX0_passes 116 = .ok (.invokevirtual 320, 3) := dk_182 1 64 (dk_at dksX0_passes_5 0 rfl rfl)
theorem dX0_passes_119 : decode cX0_passes 119 = .ok (.iastore, 1) := dk_79 (dk_at dksX0_passes_5 3 rfl rfl)
theorem dX0_passes_120 : decode cX0_passes 120 = .ok (.iinc 2 1, 3) := dk_132 2 1 (dk_at dksX0_passes_5 4 rfl rfl)
theorem dX0_passes_123 : decode cX0_passes 123 = .ok (.goto (-33), 3) := dk_167 255 223 (dk_at dksX0_passes_5 7 rfl rfl)
theorem dX0_passes_126 : decode cX0_passes 126 = .ok (.iconst 0, 1) := dk_3 (dk_at dksX0_passes_5 10 rfl rfl)
theorem dX0_passes_127 : decode cX0_passes 127 = .ok (.istore_n 2, 1) := dk_61 (dk_at dksX0_passes_5 11 rfl rfl)
theorem dX0_passes_128 : decode cX0_passes 128 = .ok (.iconst 0, 1) := dk_3 (dk_at dksX0_passes_5 12 rfl rfl)
theorem dX0_passes_129 : decode cX0_passes 129 = .ok (.istore_n 3, 1) := dk_62 (dk_at dksX0_passes_5 13 rfl rfl)
theorem dX0_passes_130 : decode cX0_passes 130 = .ok (.iload_n 3, 1) := dk_29 (dk_at dksX0_passes_5 14 rfl rfl)
theorem dX0_passes_131 : decode cX0_passes 131 = .ok (.bipush 16, 2) := dk_16 16 (dk_at dksX0_passes_5 15 rfl rfl)
theorem dX0_passes_133 : decode cX0_passes 133 = .ok (.if_icmp .ge 65, 3) := dk_162 0 65 (dk_at dksX0_passes_5 17 rfl rfl)
theorem dX0_passes_136 : decode cX0_passes 136 = .ok (.aload_n 0, 1) := dk_42 (dk_at dksX0_passes_5 20 rfl rfl)
theorem dX0_passes_137 : decode cX0_passes 137 = .ok (.getfield 87, 3) := dk_180 0 87 (dk_at dksX0_passes_5 21 rfl rfl)
theorem dX0_passes_140 : decode cX0_passes 140 = .ok (.iload_n 3, 1) := dk_29 (dk_at dksX0_passes_6 0 rfl rfl)
theorem dX0_passes_141 : decode cX0_passes 141 = .ok (.iaload, 1) := dk_46 (dk_at dksX0_passes_6 1 rfl rfl)
theorem dX0_passes_142 : decode cX0_passes 142 = .ok (.iconst (-1), 1) := dk_2 (dk_at dksX0_passes_6 2 rfl rfl)
theorem dX0_passes_143 : decode cX0_passes 143 = .ok (.if_icmp .eq 14, 3) := dk_159 0 14 (dk_at dksX0_passes_6 3 rfl rfl)
theorem dX0_passes_146 : decode cX0_passes 146 = .ok (.aload_n 1, 1) := dk_43 (dk_at dksX0_passes_6 6 rfl rfl)
theorem dX0_passes_147 : decode cX0_passes 147 = .ok (.iload_n 3, 1) := dk_29 (dk_at dksX0_passes_6 7 rfl rfl)
theorem dX0_passes_148 : decode cX0_passes 148 = .ok (.aload_n 0, 1) := dk_42 (dk_at dksX0_passes_6 8 rfl rfl)
theorem dX0_passes_149 : decode cX0_passes 149 = .ok (.getfield 87, 3) := dk_180 0 87 (dk_at dksX0_passes_6 9 rfl rfl)
theorem dX0_passes_152 : decode cX0_passes 152 = .ok (.iload_n 3, 1) := dk_29 (dk_at dksX0_passes_6 12 rfl rfl)
theorem dX0_passes_153 : decode cX0_passes 153 = .ok (.iaload, 1) := dk_46 (dk_at dksX0_passes_6 13 rfl rfl)
theorem dX0_passes_154 : decode cX0_passes 154 = .ok (.invokevirtual 323, 3) := dk_182 1 67 (dk_at dksX0_passes_6 14 rfl rfl)
theorem dX0_passes_157 : decode cX0_passes 157 = .ok (.aload_n 1, 1) := dk_43 (dk_at dksX0_passes_6 17 rfl rfl)
theorem dX0_passes_158 : decode cX0_passes 158 = .ok (.getfield 170, 3) := dk_180 0 170 (dk_at dksX0_passes_6 18 rfl rfl)
theorem dX0_passes_161 : decode cX0_passes 161 = .ok (.iload_n 3, 1) := dk_29 (dk_at dksX0_passes_6 21 rfl rfl)
theorem dX0_passes_162 : decode cX0_passes 162 = .ok (.iaload, 1) := dk_46 (dk_at dksX0_passes_6 22 rfl rfl)
theorem dX0_passes_163 : decode cX0_passes 163 = .ok (.iconst (-1), 1) := dk_2 (dk_at dksX0_passes_6 23 rfl rfl)
theorem dX0_passes_164 : decode cX0_passes 164 = .ok (.if_icmp .eq 28, 3) := dk_159 0 28 (dk_at dksX0_passes_7 0 rfl rfl)
theorem dX0_passes_167 : decode cX0_passes 167 = .ok (.aload_n 0, 1) := dk_42 (dk_at dksX0_passes_7 3 rfl rfl)
theorem dX0_passes_168 : decode cX0_passes 168 = .ok (.getfield 39, 3) := dk_180 0 39 (dk_at dksX0_passes_7 4 rfl rfl)
theorem dX0_passes_171 : decode cX0_passes 171 = .ok (.aload_n 1, 1) := dk_43 (dk_at dksX0_passes_7 7 rfl rfl)
theorem dX0_passes_172 : decode cX0_passes 172 = .ok (.iload_n 3, 1) := dk_29 (dk_at dksX0_passes_7 8 rfl rfl)
theorem dX0_passes_173 : decode cX0_passes 173 = .ok (.invokevirtual 173, 3) := dk_182 0 173 (dk_at dksX0_passes_7 9 rfl rfl)
theorem dX0_passes_176 : decode cX0_passes 176 = .ok (.ifCond .ne 6, 3) := dk_154 0 6 (dk_at dksX0_passes_7 12 rfl rfl)
theorem dX0_passes_179 : decode cX0_passes 179 = .ok (.goto 13, 3) := dk_167 0 13 (dk_at dksX0_passes_7 15 rfl rfl)
theorem dX0_passes_182 : decode cX0_passes 182 = .ok (.aload_n 1, 1) := dk_43 (dk_at dksX0_passes_7 18 rfl rfl)
theorem dX0_passes_183 : decode cX0_passes 183 = .ok (.getfield 170, 3) := dk_180 0 170 (dk_at dksX0_passes_7 19 rfl rfl)
theorem dX0_passes_186 : decode cX0_passes 186 = .ok (.iload_n 3, 1) := dk_29 (dk_at dksX0_passes_7 22 rfl rfl)
theorem dX0_passes_187 : decode cX0_passes 187 = .ok (.iconst (-1), 1) := dk_2 (dk_at dksX0_passes_7 23 rfl rfl)
theorem dX0_passes_188 : decode cX0_passes 188 = .ok (.iastore, 1) := dk_79 (dk_at dksX0_passes_8 0 rfl rfl)
theorem dX0_passes_189 : decode cX0_passes 189 = .ok (.iinc 2 1, 3) := dk_132 2 1 (dk_at dksX0_passes_8 1 rfl rfl)
theorem dX0_passes_192 : decode cX0_passes 192 = .ok (.iinc 3 1, 3) := dk_132 3 1 (dk_at dksX0_passes_8 4 rfl rfl)
theorem dX0_passes_195 : decode cX0_passes 195 = .ok (.goto (-65), 3) := dk_167 255 191 (dk_at dksX0_passes_8 7 rfl rfl)
theorem dX0_passes_198 : decode cX0_passes 198 = .ok (.aload_n 1, 1) := dk_43 (dk_at dksX0_passes_8 10 rfl rfl)
theorem dX0_passes_199 : decode cX0_passes 199 = .ok (.dup, 1) := dk_89 (dk_at dksX0_passes_8 11 rfl rfl)
theorem dX0_passes_200 : decode cX0_passes 200 = .ok (.getfield 199, 3) := dk_180 0 199 (dk_at dksX0_passes_8 12 rfl rfl)
theorem dX0_passes_203 : decode cX0_passes 203 = .ok (.iconst 1, 1) := dk_4 (dk_at dksX0_passes_8 15 rfl rfl)
theorem dX0_passes_204 : decode cX0_passes 204 = .ok (.iadd, 1) := dk_96 (dk_at dksX0_passes_8 16 rfl rfl)
theorem dX0_passes_205 : decode cX0_passes 205 = .ok (.putfield 199, 3) := dk_181 0 199 (dk_at dksX0_passes_8 17 rfl rfl)
theorem dX0_passes_208 : decode cX0_passes 208 = .ok (.iload_n 2, 1) := dk_28 (dk_at dksX0_passes_8 20 rfl rfl)
theorem dX0_passes_209 : decode cX0_passes 209 = .ok (.ireturn, 1) := dk_172 (dk_at dksX0_passes_8 21 rfl rfl)
abbrev cX0_newcomer : ByteArray := prog_1_method_43_code
def yX0_newcomer : MethodName := ⟨RX0, "newcomer", "(LForestRooms$Table;I)I"⟩
def dkwX0_newcomer_4 : List UInt8 := [182, 1, 54, 153, 0, 5, 29, 172, 132, 3, 1, 167, 255, 156, 2, 172]
abbrev dktX0_newcomer_4 : List UInt8 := dkwX0_newcomer_4 ++ []
def dkwX0_newcomer_3 : List UInt8 := [184, 1, 60, 54, 4, 132, 5, 1, 167, 255, 193, 21, 4, 158, 0, 17, 42, 43, 29, 28, 21, 4]
abbrev dktX0_newcomer_3 : List UInt8 := dkwX0_newcomer_3 ++ dktX0_newcomer_4
def dkwX0_newcomer_2 : List UInt8 := [180, 0, 167, 21, 6, 46, 42, 4, 182, 0, 202, 161, 0, 17, 21, 4, 43, 180, 0, 167, 21, 6, 46]
abbrev dktX0_newcomer_2 : List UInt8 := dkwX0_newcomer_2 ++ dktX0_newcomer_3
def dkwX0_newcomer_1 : List UInt8 := [184, 1, 57, 54, 6, 21, 6, 2, 159, 0, 43, 43, 180, 0, 164, 21, 6, 46, 29, 160, 0, 32, 43]
abbrev dktX0_newcomer_1 : List UInt8 := dkwX0_newcomer_1 ++ dktX0_newcomer_2
def dkwX0_newcomer_0 : List UInt8 := [3, 62, 29, 16, 6, 162, 0, 100, 3, 54, 4, 3, 54, 5, 21, 5, 7, 162, 0, 63, 28, 21, 5]
abbrev dktX0_newcomer_0 : List UInt8 := dkwX0_newcomer_0 ++ dktX0_newcomer_1
theorem dksX0_newcomer_0 : cX0_newcomer.data.toList.drop 0 = dktX0_newcomer_0 := by decide +kernel
theorem dksX0_newcomer_1 : cX0_newcomer.data.toList.drop 23 = dktX0_newcomer_1 := dk_seg dksX0_newcomer_0 23 rfl rfl
theorem dksX0_newcomer_2 : cX0_newcomer.data.toList.drop 46 = dktX0_newcomer_2 := dk_seg dksX0_newcomer_1 23 rfl rfl
theorem dksX0_newcomer_3 : cX0_newcomer.data.toList.drop 69 = dktX0_newcomer_3 := dk_seg dksX0_newcomer_2 23 rfl rfl
theorem dksX0_newcomer_4 : cX0_newcomer.data.toList.drop 91 = dktX0_newcomer_4 := dk_seg dksX0_newcomer_3 22 rfl rfl
theorem dX0_newcomer_0 : decode cX0_newcomer 0 = .ok (.iconst 0, 1) := dk_3 (dk_at dksX0_newcomer_0 0 rfl rfl)
theorem dX0_newcomer_1 : decode cX0_newcomer 1 = .ok (.istore_n 3, 1) := dk_62 (dk_at dksX0_newcomer_0 1 rfl rfl)
theorem dX0_newcomer_2 : decode cX0_newcomer 2 = .ok (.iload_n 3, 1) := dk_29 (dk_at dksX0_newcomer_0 2 rfl rfl)
theorem dX0_newcomer_3 : decode cX0_newcomer 3 = .ok (.bipush 6, 2) := dk_16 6 (dk_at dksX0_newcomer_0 3 rfl rfl)
theorem dX0_newcomer_5 : decode cX0_newcomer 5 = .ok (.if_icmp .ge 100, 3) := dk_162 0 100 (dk_at dksX0_newcomer_0 5 rfl rfl)
theorem dX0_newcomer_8 : decode cX0_newcomer 8 = .ok (.iconst 0, 1) := dk_3 (dk_at dksX0_newcomer_0 8 rfl rfl)
theorem dX0_newcomer_9 : decode cX0_newcomer 9 = .ok (.istore 4, 2) := dk_54 4 (dk_at dksX0_newcomer_0 9 rfl rfl)
theorem dX0_newcomer_11 : decode cX0_newcomer 11 = .ok (.iconst 0, 1) := dk_3 (dk_at dksX0_newcomer_0 11 rfl rfl)
theorem dX0_newcomer_12 : decode cX0_newcomer 12 = .ok (.istore 5, 2) := dk_54 5 (dk_at dksX0_newcomer_0 12 rfl rfl)
theorem dX0_newcomer_14 : decode cX0_newcomer 14 = .ok (.iload 5, 2) := dk_21 5 (dk_at dksX0_newcomer_0 14 rfl rfl)
theorem dX0_newcomer_16 : decode cX0_newcomer 16 = .ok (.iconst 4, 1) := dk_7 (dk_at dksX0_newcomer_0 16 rfl rfl)
theorem dX0_newcomer_17 : decode cX0_newcomer 17 = .ok (.if_icmp .ge 63, 3) := dk_162 0 63 (dk_at dksX0_newcomer_0 17 rfl rfl)
theorem dX0_newcomer_20 : decode cX0_newcomer 20 = .ok (.iload_n 2, 1) := dk_28 (dk_at dksX0_newcomer_0 20 rfl rfl)
theorem dX0_newcomer_21 : decode cX0_newcomer 21 = .ok (.iload 5, 2) := dk_21 5 (dk_at dksX0_newcomer_0 21 rfl rfl)
theorem dX0_newcomer_23 : decode cX0_newcomer 23 = .ok (.invokestatic 313, 3) := dk_184 1 57 (dk_at dksX0_newcomer_1 0 rfl rfl)
theorem dX0_newcomer_26 : decode cX0_newcomer 26 = .ok (.istore 6, 2) := dk_54 6 (dk_at dksX0_newcomer_1 3 rfl rfl)
theorem dX0_newcomer_28 : decode cX0_newcomer 28 = .ok (.iload 6, 2) := dk_21 6 (dk_at dksX0_newcomer_1 5 rfl rfl)
theorem dX0_newcomer_30 : decode cX0_newcomer 30 = .ok (.iconst (-1), 1) := dk_2 (dk_at dksX0_newcomer_1 7 rfl rfl)
theorem dX0_newcomer_31 : decode cX0_newcomer 31 = .ok (.if_icmp .eq 43, 3) := dk_159 0 43 (dk_at dksX0_newcomer_1 8 rfl rfl)
theorem dX0_newcomer_34 : decode cX0_newcomer 34 = .ok (.aload_n 1, 1) := dk_43 (dk_at dksX0_newcomer_1 11 rfl rfl)
theorem dX0_newcomer_35 : decode cX0_newcomer 35 = .ok (.getfield 164, 3) := dk_180 0 164 (dk_at dksX0_newcomer_1 12 rfl rfl)
theorem dX0_newcomer_38 : decode cX0_newcomer 38 = .ok (.iload 6, 2) := dk_21 6 (dk_at dksX0_newcomer_1 15 rfl rfl)
theorem dX0_newcomer_40 : decode cX0_newcomer 40 = .ok (.iaload, 1) := dk_46 (dk_at dksX0_newcomer_1 17 rfl rfl)
theorem dX0_newcomer_41 : decode cX0_newcomer 41 = .ok (.iload_n 3, 1) := dk_29 (dk_at dksX0_newcomer_1 18 rfl rfl)
theorem dX0_newcomer_42 : decode cX0_newcomer 42 = .ok (.if_icmp .ne 32, 3) := dk_160 0 32 (dk_at dksX0_newcomer_1 19 rfl rfl)
theorem dX0_newcomer_45 : decode cX0_newcomer 45 = .ok (.aload_n 1, 1) := dk_43 (dk_at dksX0_newcomer_1 22 rfl rfl)
theorem dX0_newcomer_46 : decode cX0_newcomer 46 = .ok (.getfield 167, 3) := dk_180 0 167 (dk_at dksX0_newcomer_2 0 rfl rfl)
theorem dX0_newcomer_49 : decode cX0_newcomer 49 = .ok (.iload 6, 2) := dk_21 6 (dk_at dksX0_newcomer_2 3 rfl rfl)
theorem dX0_newcomer_51 : decode cX0_newcomer 51 = .ok (.iaload, 1) := dk_46 (dk_at dksX0_newcomer_2 5 rfl rfl)
theorem dX0_newcomer_52 : decode cX0_newcomer 52 = .ok (.aload_n 0, 1) := dk_42 (dk_at dksX0_newcomer_2 6 rfl rfl)
theorem dX0_newcomer_53 : decode cX0_newcomer 53 = .ok (.iconst 1, 1) := dk_4 (dk_at dksX0_newcomer_2 7 rfl rfl)
theorem dX0_newcomer_54 : decode cX0_newcomer 54 = .ok (.invokevirtual 202, 3) := dk_182 0 202 (dk_at dksX0_newcomer_2 8 rfl rfl)
theorem dX0_newcomer_57 : decode cX0_newcomer 57 = .ok (.if_icmp .lt 17, 3) := dk_161 0 17 (dk_at dksX0_newcomer_2 11 rfl rfl)
theorem dX0_newcomer_60 : decode cX0_newcomer 60 = .ok (.iload 4, 2) := dk_21 4 (dk_at dksX0_newcomer_2 14 rfl rfl)
theorem dX0_newcomer_62 : decode cX0_newcomer 62 = .ok (.aload_n 1, 1) := dk_43 (dk_at dksX0_newcomer_2 16 rfl rfl)
theorem dX0_newcomer_63 : decode cX0_newcomer 63 = .ok (.getfield 167, 3) := dk_180 0 167 (dk_at dksX0_newcomer_2 17 rfl rfl)
theorem dX0_newcomer_66 : decode cX0_newcomer 66 = .ok (.iload 6, 2) := dk_21 6 (dk_at dksX0_newcomer_2 20 rfl rfl)
theorem dX0_newcomer_68 : decode cX0_newcomer 68 = .ok (.iaload, 1) := dk_46 (dk_at dksX0_newcomer_2 22 rfl rfl)
theorem dX0_newcomer_69 : decode cX0_newcomer 69 = .ok (.invokestatic 316, 3) := dk_184 1 60 (dk_at dksX0_newcomer_3 0 rfl rfl)
theorem dX0_newcomer_72 : decode cX0_newcomer 72 = .ok (.istore 4, 2) := dk_54 4 (dk_at dksX0_newcomer_3 3 rfl rfl)
theorem dX0_newcomer_74 : decode cX0_newcomer 74 = .ok (.iinc 5 1, 3) := dk_132 5 1 (dk_at dksX0_newcomer_3 5 rfl rfl)
theorem dX0_newcomer_77 : decode cX0_newcomer 77 = .ok (.goto (-63), 3) := dk_167 255 193 (dk_at dksX0_newcomer_3 8 rfl rfl)
theorem dX0_newcomer_80 : decode cX0_newcomer 80 = .ok (.iload 4, 2) := dk_21 4 (dk_at dksX0_newcomer_3 11 rfl rfl)
theorem dX0_newcomer_82 : decode cX0_newcomer 82 = .ok (.ifCond .le 17, 3) := dk_158 0 17 (dk_at dksX0_newcomer_3 13 rfl rfl)
theorem dX0_newcomer_85 : decode cX0_newcomer 85 = .ok (.aload_n 0, 1) := dk_42 (dk_at dksX0_newcomer_3 16 rfl rfl)
theorem dX0_newcomer_86 : decode cX0_newcomer 86 = .ok (.aload_n 1, 1) := dk_43 (dk_at dksX0_newcomer_3 17 rfl rfl)
theorem dX0_newcomer_87 : decode cX0_newcomer 87 = .ok (.iload_n 3, 1) := dk_29 (dk_at dksX0_newcomer_3 18 rfl rfl)
theorem dX0_newcomer_88 : decode cX0_newcomer 88 = .ok (.iload_n 2, 1) := dk_28 (dk_at dksX0_newcomer_3 19 rfl rfl)
theorem dX0_newcomer_89 : decode cX0_newcomer 89 = .ok (.iload 4, 2) := dk_21 4 (dk_at dksX0_newcomer_3 20 rfl rfl)
theorem dX0_newcomer_91 : decode cX0_newcomer 91 = .ok (.invokevirtual 310, 3) := dk_182 1 54 (dk_at dksX0_newcomer_4 0 rfl rfl)
theorem dX0_newcomer_94 : decode cX0_newcomer 94 = .ok (.ifCond .eq 5, 3) := dk_153 0 5 (dk_at dksX0_newcomer_4 3 rfl rfl)
theorem dX0_newcomer_97 : decode cX0_newcomer 97 = .ok (.iload_n 3, 1) := dk_29 (dk_at dksX0_newcomer_4 6 rfl rfl)
theorem dX0_newcomer_98 : decode cX0_newcomer 98 = .ok (.ireturn, 1) := dk_172 (dk_at dksX0_newcomer_4 7 rfl rfl)
theorem dX0_newcomer_99 : decode cX0_newcomer 99 = .ok (.iinc 3 1, 3) := dk_132 3 1 (dk_at dksX0_newcomer_4 8 rfl rfl)
theorem dX0_newcomer_102 : decode cX0_newcomer 102 = .ok (.goto (-100), 3) := dk_167 255 156 (dk_at dksX0_newcomer_4 11 rfl rfl)
theorem dX0_newcomer_105 : decode cX0_newcomer 105 = .ok (.iconst (-1), 1) := dk_2 (dk_at dksX0_newcomer_4 14 rfl rfl)
theorem dX0_newcomer_106 : decode cX0_newcomer 106 = .ok (.ireturn, 1) := dk_172 (dk_at dksX0_newcomer_4 15 rfl rfl)
abbrev cX0_beside : ByteArray := prog_1_method_10_code
def yX0_beside : MethodName := ⟨RX0, "beside", "(II)I"⟩
def dkwX0_beside_3 : List UInt8 := [167, 0, 4, 2, 172]
abbrev dktX0_beside_3 : List UInt8 := dkwX0_beside_3 ++ []
def dkwX0_beside_2 : List UInt8 := [3, 6, 184, 0, 26, 153, 0, 20, 29, 3, 6, 184, 0, 26, 153, 0, 11, 7, 29, 104, 28, 96]
abbrev dktX0_beside_2 : List UInt8 := dkwX0_beside_2 ++ dktX0_beside_3
def dkwX0_beside_1 : List UInt8 := [26, 7, 108, 27, 154, 0, 7, 2, 167, 0, 13, 27, 5, 160, 0, 7, 4, 167, 0, 4, 3, 96, 62, 28]
abbrev dktX0_beside_1 : List UInt8 := dkwX0_beside_1 ++ dktX0_beside_2
def dkwX0_beside_0 : List UInt8 := [26, 7, 112, 27, 4, 160, 0, 7, 4, 167, 0, 13, 27, 6, 160, 0, 7, 2, 167, 0, 4, 3, 96, 61]
abbrev dktX0_beside_0 : List UInt8 := dkwX0_beside_0 ++ dktX0_beside_1
theorem dksX0_beside_0 : cX0_beside.data.toList.drop 0 = dktX0_beside_0 := by decide +kernel
theorem dksX0_beside_1 : cX0_beside.data.toList.drop 24 = dktX0_beside_1 := dk_seg dksX0_beside_0 24 rfl rfl
theorem dksX0_beside_2 : cX0_beside.data.toList.drop 48 = dktX0_beside_2 := dk_seg dksX0_beside_1 24 rfl rfl
theorem dksX0_beside_3 : cX0_beside.data.toList.drop 70 = dktX0_beside_3 := dk_seg dksX0_beside_2 22 rfl rfl
theorem dX0_beside_0 : decode cX0_beside 0 = .ok (.iload_n 0, 1) := dk_26 (dk_at dksX0_beside_0 0 rfl rfl)
theorem dX0_beside_1 : decode cX0_beside 1 = .ok (.iconst 4, 1) := dk_7 (dk_at dksX0_beside_0 1 rfl rfl)
theorem dX0_beside_2 : decode cX0_beside 2 = .ok (.irem, 1) := dk_112 (dk_at dksX0_beside_0 2 rfl rfl)
theorem dX0_beside_3 : decode cX0_beside 3 = .ok (.iload_n 1, 1) := dk_27 (dk_at dksX0_beside_0 3 rfl rfl)
theorem dX0_beside_4 : decode cX0_beside 4 = .ok (.iconst 1, 1) := dk_4 (dk_at dksX0_beside_0 4 rfl rfl)
theorem dX0_beside_5 : decode cX0_beside 5 = .ok (.if_icmp .ne 7, 3) := dk_160 0 7 (dk_at dksX0_beside_0 5 rfl rfl)
theorem dX0_beside_8 : decode cX0_beside 8 = .ok (.iconst 1, 1) := dk_4 (dk_at dksX0_beside_0 8 rfl rfl)
theorem dX0_beside_9 : decode cX0_beside 9 = .ok (.goto 13, 3) := dk_167 0 13 (dk_at dksX0_beside_0 9 rfl rfl)
theorem dX0_beside_12 : decode cX0_beside 12 = .ok (.iload_n 1, 1) := dk_27 (dk_at dksX0_beside_0 12 rfl rfl)
theorem dX0_beside_13 : decode cX0_beside 13 = .ok (.iconst 3, 1) := dk_6 (dk_at dksX0_beside_0 13 rfl rfl)
theorem dX0_beside_14 : decode cX0_beside 14 = .ok (.if_icmp .ne 7, 3) := dk_160 0 7 (dk_at dksX0_beside_0 14 rfl rfl)
theorem dX0_beside_17 : decode cX0_beside 17 = .ok (.iconst (-1), 1) := dk_2 (dk_at dksX0_beside_0 17 rfl rfl)
theorem dX0_beside_18 : decode cX0_beside 18 = .ok (.goto 4, 3) := dk_167 0 4 (dk_at dksX0_beside_0 18 rfl rfl)
theorem dX0_beside_21 : decode cX0_beside 21 = .ok (.iconst 0, 1) := dk_3 (dk_at dksX0_beside_0 21 rfl rfl)
theorem dX0_beside_22 : decode cX0_beside 22 = .ok (.iadd, 1) := dk_96 (dk_at dksX0_beside_0 22 rfl rfl)
theorem dX0_beside_23 : decode cX0_beside 23 = .ok (.istore_n 2, 1) := dk_61 (dk_at dksX0_beside_0 23 rfl rfl)
theorem dX0_beside_24 : decode cX0_beside 24 = .ok (.iload_n 0, 1) := dk_26 (dk_at dksX0_beside_1 0 rfl rfl)
theorem dX0_beside_25 : decode cX0_beside 25 = .ok (.iconst 4, 1) := dk_7 (dk_at dksX0_beside_1 1 rfl rfl)
theorem dX0_beside_26 : decode cX0_beside 26 = .ok (.idiv, 1) := dk_108 (dk_at dksX0_beside_1 2 rfl rfl)
theorem dX0_beside_27 : decode cX0_beside 27 = .ok (.iload_n 1, 1) := dk_27 (dk_at dksX0_beside_1 3 rfl rfl)
theorem dX0_beside_28 : decode cX0_beside 28 = .ok (.ifCond .ne 7, 3) := dk_154 0 7 (dk_at dksX0_beside_1 4 rfl rfl)
theorem dX0_beside_31 : decode cX0_beside 31 = .ok (.iconst (-1), 1) := dk_2 (dk_at dksX0_beside_1 7 rfl rfl)
theorem dX0_beside_32 : decode cX0_beside 32 = .ok (.goto 13, 3) := dk_167 0 13 (dk_at dksX0_beside_1 8 rfl rfl)
theorem dX0_beside_35 : decode cX0_beside 35 = .ok (.iload_n 1, 1) := dk_27 (dk_at dksX0_beside_1 11 rfl rfl)
theorem dX0_beside_36 : decode cX0_beside 36 = .ok (.iconst 2, 1) := dk_5 (dk_at dksX0_beside_1 12 rfl rfl)
theorem dX0_beside_37 : decode cX0_beside 37 = .ok (.if_icmp .ne 7, 3) := dk_160 0 7 (dk_at dksX0_beside_1 13 rfl rfl)
theorem dX0_beside_40 : decode cX0_beside 40 = .ok (.iconst 1, 1) := dk_4 (dk_at dksX0_beside_1 16 rfl rfl)
theorem dX0_beside_41 : decode cX0_beside 41 = .ok (.goto 4, 3) := dk_167 0 4 (dk_at dksX0_beside_1 17 rfl rfl)
theorem dX0_beside_44 : decode cX0_beside 44 = .ok (.iconst 0, 1) := dk_3 (dk_at dksX0_beside_1 20 rfl rfl)
theorem dX0_beside_45 : decode cX0_beside 45 = .ok (.iadd, 1) := dk_96 (dk_at dksX0_beside_1 21 rfl rfl)
theorem dX0_beside_46 : decode cX0_beside 46 = .ok (.istore_n 3, 1) := dk_62 (dk_at dksX0_beside_1 22 rfl rfl)
theorem dX0_beside_47 : decode cX0_beside 47 = .ok (.iload_n 2, 1) := dk_28 (dk_at dksX0_beside_1 23 rfl rfl)
theorem dX0_beside_48 : decode cX0_beside 48 = .ok (.iconst 0, 1) := dk_3 (dk_at dksX0_beside_2 0 rfl rfl)
theorem dX0_beside_49 : decode cX0_beside 49 = .ok (.iconst 3, 1) := dk_6 (dk_at dksX0_beside_2 1 rfl rfl)
theorem dX0_beside_50 : decode cX0_beside 50 = .ok (.invokestatic 26, 3) := dk_184 0 26 (dk_at dksX0_beside_2 2 rfl rfl)
theorem dX0_beside_53 : decode cX0_beside 53 = .ok (.ifCond .eq 20, 3) := dk_153 0 20 (dk_at dksX0_beside_2 5 rfl rfl)
theorem dX0_beside_56 : decode cX0_beside 56 = .ok (.iload_n 3, 1) := dk_29 (dk_at dksX0_beside_2 8 rfl rfl)
theorem dX0_beside_57 : decode cX0_beside 57 = .ok (.iconst 0, 1) := dk_3 (dk_at dksX0_beside_2 9 rfl rfl)
theorem dX0_beside_58 : decode cX0_beside 58 = .ok (.iconst 3, 1) := dk_6 (dk_at dksX0_beside_2 10 rfl rfl)
theorem dX0_beside_59 : decode cX0_beside 59 = .ok (.invokestatic 26, 3) := dk_184 0 26 (dk_at dksX0_beside_2 11 rfl rfl)
theorem dX0_beside_62 : decode cX0_beside 62 = .ok (.ifCond .eq 11, 3) := dk_153 0 11 (dk_at dksX0_beside_2 14 rfl rfl)
theorem dX0_beside_65 : decode cX0_beside 65 = .ok (.iconst 4, 1) := dk_7 (dk_at dksX0_beside_2 17 rfl rfl)
theorem dX0_beside_66 : decode cX0_beside 66 = .ok (.iload_n 3, 1) := dk_29 (dk_at dksX0_beside_2 18 rfl rfl)
theorem dX0_beside_67 : decode cX0_beside 67 = .ok (.imul, 1) := dk_104 (dk_at dksX0_beside_2 19 rfl rfl)
theorem dX0_beside_68 : decode cX0_beside 68 = .ok (.iload_n 2, 1) := dk_28 (dk_at dksX0_beside_2 20 rfl rfl)
theorem dX0_beside_69 : decode cX0_beside 69 = .ok (.iadd, 1) := dk_96 (dk_at dksX0_beside_2 21 rfl rfl)
theorem dX0_beside_70 : decode cX0_beside 70 = .ok (.goto 4, 3) := dk_167 0 4 (dk_at dksX0_beside_3 0 rfl rfl)
theorem dX0_beside_73 : decode cX0_beside 73 = .ok (.iconst (-1), 1) := dk_2 (dk_at dksX0_beside_3 3 rfl rfl)
theorem dX0_beside_74 : decode cX0_beside 74 = .ok (.ireturn, 1) := dk_172 (dk_at dksX0_beside_3 4 rfl rfl)
abbrev cX0_undo : ByteArray := prog_1_method_57_code
def yX0_undo : MethodName := ⟨RX0, "undo", "()I"⟩
def dkwX0_undo_2 : List UInt8 := [180, 0, 121, 46, 182, 0, 124, 172]
abbrev dktX0_undo_2 : List UInt8 := dkwX0_undo_2 ++ []
def dkwX0_undo_1 : List UInt8 := [42, 182, 0, 161, 42, 180, 0, 49, 42, 180, 0, 121, 50, 182, 1, 71, 42, 42, 180, 0, 56, 42]
abbrev dktX0_undo_1 : List UInt8 := dkwX0_undo_1 ++ dktX0_undo_2
def dkwX0_undo_0 : List UInt8 := [42, 180, 0, 121, 154, 0, 10, 42, 16, 253, 182, 0, 130, 172, 42, 89, 180, 0, 121, 4, 100, 181, 0, 121]
abbrev dktX0_undo_0 : List UInt8 := dkwX0_undo_0 ++ dktX0_undo_1
theorem dksX0_undo_0 : cX0_undo.data.toList.drop 0 = dktX0_undo_0 := by decide +kernel
theorem dksX0_undo_1 : cX0_undo.data.toList.drop 24 = dktX0_undo_1 := dk_seg dksX0_undo_0 24 rfl rfl
theorem dksX0_undo_2 : cX0_undo.data.toList.drop 46 = dktX0_undo_2 := dk_seg dksX0_undo_1 22 rfl rfl
theorem dX0_undo_0 : decode cX0_undo 0 = .ok (.aload_n 0, 1) := dk_42 (dk_at dksX0_undo_0 0 rfl rfl)
theorem dX0_undo_1 : decode cX0_undo 1 = .ok (.getfield 121, 3) := dk_180 0 121 (dk_at dksX0_undo_0 1 rfl rfl)
theorem dX0_undo_4 : decode cX0_undo 4 = .ok (.ifCond .ne 10, 3) := dk_154 0 10 (dk_at dksX0_undo_0 4 rfl rfl)
theorem dX0_undo_7 : decode cX0_undo 7 = .ok (.aload_n 0, 1) := dk_42 (dk_at dksX0_undo_0 7 rfl rfl)
theorem dX0_undo_8 : decode cX0_undo 8 = .ok (.bipush (-3), 2) := dk_16 253 (dk_at dksX0_undo_0 8 rfl rfl)
theorem dX0_undo_10 : decode cX0_undo 10 = .ok (.invokevirtual 130, 3) := dk_182 0 130 (dk_at dksX0_undo_0 10 rfl rfl)
theorem dX0_undo_13 : decode cX0_undo 13 = .ok (.ireturn, 1) := dk_172 (dk_at dksX0_undo_0 13 rfl rfl)
theorem dX0_undo_14 : decode cX0_undo 14 = .ok (.aload_n 0, 1) := dk_42 (dk_at dksX0_undo_0 14 rfl rfl)
theorem dX0_undo_15 : decode cX0_undo 15 = .ok (.dup, 1) := dk_89 (dk_at dksX0_undo_0 15 rfl rfl)
theorem dX0_undo_16 : decode cX0_undo 16 = .ok (.getfield 121, 3) := dk_180 0 121 (dk_at dksX0_undo_0 16 rfl rfl)
theorem dX0_undo_19 : decode cX0_undo 19 = .ok (.iconst 1, 1) := dk_4 (dk_at dksX0_undo_0 19 rfl rfl)
theorem dX0_undo_20 : decode cX0_undo 20 = .ok (.isub, 1) := dk_100 (dk_at dksX0_undo_0 20 rfl rfl)
theorem dX0_undo_21 : decode cX0_undo 21 = .ok (.putfield 121, 3) := dk_181 0 121 (dk_at dksX0_undo_0 21 rfl rfl)
theorem dX0_undo_24 : decode cX0_undo 24 = .ok (.aload_n 0, 1) := dk_42 (dk_at dksX0_undo_1 0 rfl rfl)
theorem dX0_undo_25 : decode cX0_undo 25 = .ok (.invokevirtual 161, 3) := dk_182 0 161 (dk_at dksX0_undo_1 1 rfl rfl)
theorem dX0_undo_28 : decode cX0_undo 28 = .ok (.aload_n 0, 1) := dk_42 (dk_at dksX0_undo_1 4 rfl rfl)
theorem dX0_undo_29 : decode cX0_undo 29 = .ok (.getfield 49, 3) := dk_180 0 49 (dk_at dksX0_undo_1 5 rfl rfl)
theorem dX0_undo_32 : decode cX0_undo 32 = .ok (.aload_n 0, 1) := dk_42 (dk_at dksX0_undo_1 8 rfl rfl)
theorem dX0_undo_33 : decode cX0_undo 33 = .ok (.getfield 121, 3) := dk_180 0 121 (dk_at dksX0_undo_1 9 rfl rfl)
theorem dX0_undo_36 : decode cX0_undo 36 = .ok (.aaload, 1) := dk_50 (dk_at dksX0_undo_1 12 rfl rfl)
theorem dX0_undo_37 : decode cX0_undo 37 = .ok (.invokevirtual 327, 3) := dk_182 1 71 (dk_at dksX0_undo_1 13 rfl rfl)
theorem dX0_undo_40 : decode cX0_undo 40 = .ok (.aload_n 0, 1) := dk_42 (dk_at dksX0_undo_1 16 rfl rfl)
theorem dX0_undo_41 : decode cX0_undo 41 = .ok (.aload_n 0, 1) := dk_42 (dk_at dksX0_undo_1 17 rfl rfl)
theorem dX0_undo_42 : decode cX0_undo 42 = .ok (.getfield 56, 3) := dk_180 0 56 (dk_at dksX0_undo_1 18 rfl rfl)
theorem dX0_undo_45 : decode cX0_undo 45 = .ok (.aload_n 0, 1) := dk_42 (dk_at dksX0_undo_1 21 rfl rfl)
theorem dX0_undo_46 : decode cX0_undo 46 = .ok (.getfield 121, 3) := dk_180 0 121 (dk_at dksX0_undo_2 0 rfl rfl)
theorem dX0_undo_49 : decode cX0_undo 49 = .ok (.iaload, 1) := dk_46 (dk_at dksX0_undo_2 3 rfl rfl)
theorem dX0_undo_50 : decode cX0_undo 50 = .ok (.invokevirtual 124, 3) := dk_182 0 124 (dk_at dksX0_undo_2 4 rfl rfl)
theorem dX0_undo_53 : decode cX0_undo 53 = .ok (.ireturn, 1) := dk_172 (dk_at dksX0_undo_2 7 rfl rfl)
abbrev cX0_will : ByteArray := prog_1_method_58_code
def yX0_will : MethodName := ⟨RX0, "will", "(III)I"⟩
def dkwX0_will_5 : List UInt8 := [182, 0, 173, 153, 0, 7, 4, 167, 0, 4, 3, 172, 25, 4, 182, 1, 102, 172]
abbrev dktX0_will_5 : List UInt8 := dkwX0_will_5 ++ []
def dkwX0_will_4 : List UInt8 := [25, 4, 180, 0, 164, 28, 46, 172, 25, 4, 180, 0, 167, 28, 46, 172, 42, 180, 0, 39, 25, 4, 28]
abbrev dktX0_will_4 : List UInt8 := dkwX0_will_4 ++ dktX0_will_5
def dkwX0_will_3 : List UInt8 := [170, 0, 0, 0, 60, 0, 0, 0, 0, 0, 0, 0, 2, 0, 0, 0, 25, 0, 0, 0, 33, 0, 0, 0, 41]
abbrev dktX0_will_3 : List UInt8 := dkwX0_will_3 ++ dktX0_will_4
def dkwX0_will_2 : List UInt8 := [3, 54, 5, 21, 5, 27, 162, 0, 16, 42, 25, 4, 182, 1, 80, 87, 132, 5, 1, 167, 255, 240, 29]
abbrev dktX0_will_2 : List UInt8 := dkwX0_will_2 ++ dktX0_will_3
def dkwX0_will_1 : List UInt8 := [28, 184, 0, 149, 154, 0, 5, 2, 172, 42, 180, 0, 67, 58, 4, 25, 4, 42, 182, 0, 161, 182, 1, 71]
abbrev dktX0_will_1 : List UInt8 := dkwX0_will_1 ++ dktX0_will_2
def dkwX0_will_0 : List UInt8 := [27, 3, 16, 60, 184, 0, 26, 153, 0, 24, 29, 3, 6, 184, 0, 26, 153, 0, 15, 29, 6, 162, 0, 12]
abbrev dktX0_will_0 : List UInt8 := dkwX0_will_0 ++ dktX0_will_1
theorem dksX0_will_0 : cX0_will.data.toList.drop 0 = dktX0_will_0 := by decide +kernel
theorem dksX0_will_1 : cX0_will.data.toList.drop 24 = dktX0_will_1 := dk_seg dksX0_will_0 24 rfl rfl
theorem dksX0_will_2 : cX0_will.data.toList.drop 48 = dktX0_will_2 := dk_seg dksX0_will_1 24 rfl rfl
theorem dksX0_will_3 : cX0_will.data.toList.drop 71 = dktX0_will_3 := dk_seg dksX0_will_2 23 rfl rfl
theorem dksX0_will_4 : cX0_will.data.toList.drop 96 = dktX0_will_4 := dk_seg dksX0_will_3 25 rfl rfl
theorem dksX0_will_5 : cX0_will.data.toList.drop 119 = dktX0_will_5 := dk_seg dksX0_will_4 23 rfl rfl
theorem dX0_will_0 : decode cX0_will 0 = .ok (.iload_n 1, 1) := dk_27 (dk_at dksX0_will_0 0 rfl rfl)
theorem dX0_will_1 : decode cX0_will 1 = .ok (.iconst 0, 1) := dk_3 (dk_at dksX0_will_0 1 rfl rfl)
theorem dX0_will_2 : decode cX0_will 2 = .ok (.bipush 60, 2) := dk_16 60 (dk_at dksX0_will_0 2 rfl rfl)
theorem dX0_will_4 : decode cX0_will 4 = .ok (.invokestatic 26, 3) := dk_184 0 26 (dk_at dksX0_will_0 4 rfl rfl)
theorem dX0_will_7 : decode cX0_will 7 = .ok (.ifCond .eq 24, 3) := dk_153 0 24 (dk_at dksX0_will_0 7 rfl rfl)
theorem dX0_will_10 : decode cX0_will 10 = .ok (.iload_n 3, 1) := dk_29 (dk_at dksX0_will_0 10 rfl rfl)
theorem dX0_will_11 : decode cX0_will 11 = .ok (.iconst 0, 1) := dk_3 (dk_at dksX0_will_0 11 rfl rfl)
theorem dX0_will_12 : decode cX0_will 12 = .ok (.iconst 3, 1) := dk_6 (dk_at dksX0_will_0 12 rfl rfl)
theorem dX0_will_13 : decode cX0_will 13 = .ok (.invokestatic 26, 3) := dk_184 0 26 (dk_at dksX0_will_0 13 rfl rfl)
theorem dX0_will_16 : decode cX0_will 16 = .ok (.ifCond .eq 15, 3) := dk_153 0 15 (dk_at dksX0_will_0 16 rfl rfl)
theorem dX0_will_19 : decode cX0_will 19 = .ok (.iload_n 3, 1) := dk_29 (dk_at dksX0_will_0 19 rfl rfl)
theorem dX0_will_20 : decode cX0_will 20 = .ok (.iconst 3, 1) := dk_6 (dk_at dksX0_will_0 20 rfl rfl)
theorem dX0_will_21 : decode cX0_will 21 = .ok (.if_icmp .ge 12, 3) := dk_162 0 12 (dk_at dksX0_will_0 21 rfl rfl)
theorem dX0_will_24 : decode cX0_will 24 = .ok (.iload_n 2, 1) := dk_28 (dk_at dksX0_will_1 0 rfl rfl)
theorem dX0_will_25 : decode cX0_will 25 = .ok (.invokestatic 149, 3) := dk_184 0 149 (dk_at dksX0_will_1 1 rfl rfl)
theorem dX0_will_28 : decode cX0_will 28 = .ok (.ifCond .ne 5, 3) := dk_154 0 5 (dk_at dksX0_will_1 4 rfl rfl)
theorem dX0_will_31 : decode cX0_will 31 = .ok (.iconst (-1), 1) := dk_2 (dk_at dksX0_will_1 7 rfl rfl)
theorem dX0_will_32 : decode cX0_will 32 = .ok (.ireturn, 1) := dk_172 (dk_at dksX0_will_1 8 rfl rfl)
theorem dX0_will_33 : decode cX0_will 33 = .ok (.aload_n 0, 1) := dk_42 (dk_at dksX0_will_1 9 rfl rfl)
theorem dX0_will_34 : decode cX0_will 34 = .ok (.getfield 67, 3) := dk_180 0 67 (dk_at dksX0_will_1 10 rfl rfl)
theorem dX0_will_37 : decode cX0_will 37 = .ok (.astore 4, 2) := dk_58 4 (dk_at dksX0_will_1 13 rfl rfl)
theorem dX0_will_39 : decode cX0_will 39 = .ok (.aload 4, 2) := dk_25 4 (dk_at dksX0_will_1 15 rfl rfl)
theorem dX0_will_41 : decode cX0_will 41 = .ok (.aload_n 0, 1) := dk_42 (dk_at dksX0_will_1 17 rfl rfl)
theorem dX0_will_42 : decode cX0_will 42 = .ok (.invokevirtual 161, 3) := dk_182 0 161 (dk_at dksX0_will_1 18 rfl rfl)
theorem dX0_will_45 : decode cX0_will 45 = .ok (.invokevirtual 327, 3) := dk_182 1 71 (dk_at dksX0_will_1 21 rfl rfl)
theorem dX0_will_48 : decode cX0_will 48 = .ok (.iconst 0, 1) := dk_3 (dk_at dksX0_will_2 0 rfl rfl)
theorem dX0_will_49 : decode cX0_will 49 = .ok (.istore 5, 2) := dk_54 5 (dk_at dksX0_will_2 1 rfl rfl)
theorem dX0_will_51 : decode cX0_will 51 = .ok (.iload 5, 2) := dk_21 5 (dk_at dksX0_will_2 3 rfl rfl)
theorem dX0_will_53 : decode cX0_will 53 = .ok (.iload_n 1, 1) := dk_27 (dk_at dksX0_will_2 5 rfl rfl)
theorem dX0_will_54 : decode cX0_will 54 = .ok (.if_icmp .ge 16, 3) := dk_162 0 16 (dk_at dksX0_will_2 6 rfl rfl)
theorem dX0_will_57 : decode cX0_will 57 = .ok (.aload_n 0, 1) := dk_42 (dk_at dksX0_will_2 9 rfl rfl)
theorem dX0_will_58 : decode cX0_will 58 = .ok (.aload 4, 2) := dk_25 4 (dk_at dksX0_will_2 10 rfl rfl)
theorem dX0_will_60 : decode cX0_will 60 = .ok (.invokevirtual 336, 3) := dk_182 1 80 (dk_at dksX0_will_2 12 rfl rfl)
theorem dX0_will_63 : decode cX0_will 63 = .ok (.pop, 1) := dk_87 (dk_at dksX0_will_2 15 rfl rfl)
theorem dX0_will_64 : decode cX0_will 64 = .ok (.iinc 5 1, 3) := dk_132 5 1 (dk_at dksX0_will_2 16 rfl rfl)
theorem dX0_will_67 : decode cX0_will 67 = .ok (.goto (-16), 3) := dk_167 255 240 (dk_at dksX0_will_2 19 rfl rfl)
theorem dX0_will_70 : decode cX0_will 70 = .ok (.iload_n 3, 1) := dk_29 (dk_at dksX0_will_2 22 rfl rfl)
theorem dX0_will_71 : decode cX0_will 71 = .ok (.tableswitch 60 0 2 #[25, 33, 41], 25) := by decide +kernel
theorem dX0_will_96 : decode cX0_will 96 = .ok (.aload 4, 2) := dk_25 4 (dk_at dksX0_will_4 0 rfl rfl)
theorem dX0_will_98 : decode cX0_will 98 = .ok (.getfield 164, 3) := dk_180 0 164 (dk_at dksX0_will_4 2 rfl rfl)
theorem dX0_will_101 : decode cX0_will 101 = .ok (.iload_n 2, 1) := dk_28 (dk_at dksX0_will_4 5 rfl rfl)
theorem dX0_will_102 : decode cX0_will 102 = .ok (.iaload, 1) := dk_46 (dk_at dksX0_will_4 6 rfl rfl)
theorem dX0_will_103 : decode cX0_will 103 = .ok (.ireturn, 1) := dk_172 (dk_at dksX0_will_4 7 rfl rfl)
theorem dX0_will_104 : decode cX0_will 104 = .ok (.aload 4, 2) := dk_25 4 (dk_at dksX0_will_4 8 rfl rfl)
theorem dX0_will_106 : decode cX0_will 106 = .ok (.getfield 167, 3) := dk_180 0 167 (dk_at dksX0_will_4 10 rfl rfl)
theorem dX0_will_109 : decode cX0_will 109 = .ok (.iload_n 2, 1) := dk_28 (dk_at dksX0_will_4 13 rfl rfl)
theorem dX0_will_110 : decode cX0_will 110 = .ok (.iaload, 1) := dk_46 (dk_at dksX0_will_4 14 rfl rfl)
theorem dX0_will_111 : decode cX0_will 111 = .ok (.ireturn, 1) := dk_172 (dk_at dksX0_will_4 15 rfl rfl)
theorem dX0_will_112 : decode cX0_will 112 = .ok (.aload_n 0, 1) := dk_42 (dk_at dksX0_will_4 16 rfl rfl)
theorem dX0_will_113 : decode cX0_will 113 = .ok (.getfield 39, 3) := dk_180 0 39 (dk_at dksX0_will_4 17 rfl rfl)
theorem dX0_will_116 : decode cX0_will 116 = .ok (.aload 4, 2) := dk_25 4 (dk_at dksX0_will_4 20 rfl rfl)
theorem dX0_will_118 : decode cX0_will 118 = .ok (.iload_n 2, 1) := dk_28 (dk_at dksX0_will_4 22 rfl rfl)
theorem dX0_will_119 : decode cX0_will 119 = .ok (.invokevirtual 173, 3) := dk_182 0 173 (dk_at dksX0_will_5 0 rfl rfl)
theorem dX0_will_122 : decode cX0_will 122 = .ok (.ifCond .eq 7, 3) := dk_153 0 7 (dk_at dksX0_will_5 3 rfl rfl)
theorem dX0_will_125 : decode cX0_will 125 = .ok (.iconst 1, 1) := dk_4 (dk_at dksX0_will_5 6 rfl rfl)
theorem dX0_will_126 : decode cX0_will 126 = .ok (.goto 4, 3) := dk_167 0 4 (dk_at dksX0_will_5 7 rfl rfl)
theorem dX0_will_129 : decode cX0_will 129 = .ok (.iconst 0, 1) := dk_3 (dk_at dksX0_will_5 10 rfl rfl)
theorem dX0_will_130 : decode cX0_will 130 = .ok (.ireturn, 1) := dk_172 (dk_at dksX0_will_5 11 rfl rfl)
theorem dX0_will_131 : decode cX0_will 131 = .ok (.aload 4, 2) := dk_25 4 (dk_at dksX0_will_5 12 rfl rfl)
theorem dX0_will_133 : decode cX0_will 133 = .ok (.invokevirtual 358, 3) := dk_182 1 102 (dk_at dksX0_will_5 14 rfl rfl)
theorem dX0_will_136 : decode cX0_will 136 = .ok (.ireturn, 1) := dk_172 (dk_at dksX0_will_5 17 rfl rfl)
abbrev cX0_wood : ByteArray := prog_1_method_60_code
def yX0_wood : MethodName := ⟨RX0, "wood", "()I"⟩
def dkwX0_wood_1 : List UInt8 := [182, 1, 105, 16, 16, 160, 0, 5, 28, 172, 42, 43, 182, 1, 80, 87, 132, 2, 1, 167, 255, 228, 2, 172]
abbrev dktX0_wood_1 : List UInt8 := dkwX0_wood_1 ++ []
def dkwX0_wood_0 : List UInt8 := [42, 180, 0, 67, 76, 43, 42, 182, 0, 161, 182, 1, 71, 3, 61, 28, 17, 0, 200, 163, 0, 27, 42, 43]
abbrev dktX0_wood_0 : List UInt8 := dkwX0_wood_0 ++ dktX0_wood_1
theorem dksX0_wood_0 : cX0_wood.data.toList.drop 0 = dktX0_wood_0 := by decide +kernel
theorem dksX0_wood_1 : cX0_wood.data.toList.drop 24 = dktX0_wood_1 := dk_seg dksX0_wood_0 24 rfl rfl
theorem dX0_wood_0 : decode cX0_wood 0 = .ok (.aload_n 0, 1) := dk_42 (dk_at dksX0_wood_0 0 rfl rfl)
theorem dX0_wood_1 : decode cX0_wood 1 = .ok (.getfield 67, 3) := dk_180 0 67 (dk_at dksX0_wood_0 1 rfl rfl)
theorem dX0_wood_4 : decode cX0_wood 4 = .ok (.astore_n 1, 1) := dk_76 (dk_at dksX0_wood_0 4 rfl rfl)
theorem dX0_wood_5 : decode cX0_wood 5 = .ok (.aload_n 1, 1) := dk_43 (dk_at dksX0_wood_0 5 rfl rfl)
theorem dX0_wood_6 : decode cX0_wood 6 = .ok (.aload_n 0, 1) := dk_42 (dk_at dksX0_wood_0 6 rfl rfl)
theorem dX0_wood_7 : decode cX0_wood 7 = .ok (.invokevirtual 161, 3) := dk_182 0 161 (dk_at dksX0_wood_0 7 rfl rfl)
theorem dX0_wood_10 : decode cX0_wood 10 = .ok (.invokevirtual 327, 3) := dk_182 1 71 (dk_at dksX0_wood_0 10 rfl rfl)
theorem dX0_wood_13 : decode cX0_wood 13 = .ok (.iconst 0, 1) := dk_3 (dk_at dksX0_wood_0 13 rfl rfl)
theorem dX0_wood_14 : decode cX0_wood 14 = .ok (.istore_n 2, 1) := dk_61 (dk_at dksX0_wood_0 14 rfl rfl)
theorem dX0_wood_15 : decode cX0_wood 15 = .ok (.iload_n 2, 1) := dk_28 (dk_at dksX0_wood_0 15 rfl rfl)
theorem dX0_wood_16 : decode cX0_wood 16 = .ok (.sipush 200, 3) := dk_17 0 200 (dk_at dksX0_wood_0 16 rfl rfl)
theorem dX0_wood_19 : decode cX0_wood 19 = .ok (.if_icmp .gt 27, 3) := dk_163 0 27 (dk_at dksX0_wood_0 19 rfl rfl)
theorem dX0_wood_22 : decode cX0_wood 22 = .ok (.aload_n 0, 1) := dk_42 (dk_at dksX0_wood_0 22 rfl rfl)
theorem dX0_wood_23 : decode cX0_wood 23 = .ok (.aload_n 1, 1) := dk_43 (dk_at dksX0_wood_0 23 rfl rfl)
theorem dX0_wood_24 : decode cX0_wood 24 = .ok (.invokevirtual 361, 3) := dk_182 1 105 (dk_at dksX0_wood_1 0 rfl rfl)
theorem dX0_wood_27 : decode cX0_wood 27 = .ok (.bipush 16, 2) := dk_16 16 (dk_at dksX0_wood_1 3 rfl rfl)
theorem dX0_wood_29 : decode cX0_wood 29 = .ok (.if_icmp .ne 5, 3) := dk_160 0 5 (dk_at dksX0_wood_1 5 rfl rfl)
theorem dX0_wood_32 : decode cX0_wood 32 = .ok (.iload_n 2, 1) := dk_28 (dk_at dksX0_wood_1 8 rfl rfl)
theorem dX0_wood_33 : decode cX0_wood 33 = .ok (.ireturn, 1) := dk_172 (dk_at dksX0_wood_1 9 rfl rfl)
theorem dX0_wood_34 : decode cX0_wood 34 = .ok (.aload_n 0, 1) := dk_42 (dk_at dksX0_wood_1 10 rfl rfl)
theorem dX0_wood_35 : decode cX0_wood 35 = .ok (.aload_n 1, 1) := dk_43 (dk_at dksX0_wood_1 11 rfl rfl)
theorem dX0_wood_36 : decode cX0_wood 36 = .ok (.invokevirtual 336, 3) := dk_182 1 80 (dk_at dksX0_wood_1 12 rfl rfl)
theorem dX0_wood_39 : decode cX0_wood 39 = .ok (.pop, 1) := dk_87 (dk_at dksX0_wood_1 15 rfl rfl)
theorem dX0_wood_40 : decode cX0_wood 40 = .ok (.iinc 2 1, 3) := dk_132 2 1 (dk_at dksX0_wood_1 16 rfl rfl)
theorem dX0_wood_43 : decode cX0_wood 43 = .ok (.goto (-28), 3) := dk_167 255 228 (dk_at dksX0_wood_1 19 rfl rfl)
theorem dX0_wood_46 : decode cX0_wood 46 = .ok (.iconst (-1), 1) := dk_2 (dk_at dksX0_wood_1 22 rfl rfl)
theorem dX0_wood_47 : decode cX0_wood 47 = .ok (.ireturn, 1) := dk_172 (dk_at dksX0_wood_1 23 rfl rfl)
abbrev cX0_lostRooms : ByteArray := prog_1_method_59_code
def yX0_lostRooms : MethodName := ⟨RX0, "lostRooms", "(LForestRooms$Table;)I"⟩
def dkwX0_lostRooms_1 : List UInt8 := [167, 0, 4, 3, 96, 61, 132, 3, 1, 167, 255, 227, 28, 172]
abbrev dktX0_lostRooms_1 : List UInt8 := dkwX0_lostRooms_1 ++ []
def dkwX0_lostRooms_0 : List UInt8 := [3, 61, 3, 62, 29, 16, 16, 162, 0, 29, 28, 42, 180, 0, 39, 43, 29, 182, 0, 173, 153, 0, 7, 4]
abbrev dktX0_lostRooms_0 : List UInt8 := dkwX0_lostRooms_0 ++ dktX0_lostRooms_1
theorem dksX0_lostRooms_0 : cX0_lostRooms.data.toList.drop 0 = dktX0_lostRooms_0 := by decide +kernel
theorem dksX0_lostRooms_1 : cX0_lostRooms.data.toList.drop 24 = dktX0_lostRooms_1 := dk_seg dksX0_lostRooms_0 24 rfl rfl
theorem dX0_lostRooms_0 : decode cX0_lostRooms 0 = .ok (.iconst 0, 1) := dk_3 (dk_at dksX0_lostRooms_0 0 rfl rfl)
theorem dX0_lostRooms_1 : decode cX0_lostRooms 1 = .ok (.istore_n 2, 1) := dk_61 (dk_at dksX0_lostRooms_0 1 rfl rfl)
theorem dX0_lostRooms_2 : decode cX0_lostRooms 2 = .ok (.iconst 0, 1) := dk_3 (dk_at dksX0_lostRooms_0 2 rfl rfl)
theorem dX0_lostRooms_3 : decode cX0_lostRooms 3 = .ok (.istore_n 3, 1) := dk_62 (dk_at dksX0_lostRooms_0 3 rfl rfl)
theorem dX0_lostRooms_4 : decode cX0_lostRooms 4 = .ok (.iload_n 3, 1) := dk_29 (dk_at dksX0_lostRooms_0 4 rfl rfl)
theorem dX0_lostRooms_5 : decode cX0_lostRooms 5 = .ok (.bipush 16, 2) := dk_16 16 (dk_at dksX0_lostRooms_0 5 rfl rfl)
theorem dX0_lostRooms_7 : decode cX0_lostRooms 7 = .ok (.if_icmp .ge 29, 3) := dk_162 0 29 (dk_at dksX0_lostRooms_0 7 rfl rfl)
theorem dX0_lostRooms_10 : decode cX0_lostRooms 10 = .ok (.iload_n 2, 1) := dk_28 (dk_at dksX0_lostRooms_0 10 rfl rfl)
theorem dX0_lostRooms_11 : decode cX0_lostRooms 11 = .ok (.aload_n 0, 1) := dk_42 (dk_at dksX0_lostRooms_0 11 rfl rfl)
theorem dX0_lostRooms_12 : decode cX0_lostRooms 12 = .ok (.getfield 39, 3) := dk_180 0 39 (dk_at dksX0_lostRooms_0 12 rfl rfl)
theorem dX0_lostRooms_15 : decode cX0_lostRooms 15 = .ok (.aload_n 1, 1) := dk_43 (dk_at dksX0_lostRooms_0 15 rfl rfl)
theorem dX0_lostRooms_16 : decode cX0_lostRooms 16 = .ok (.iload_n 3, 1) := dk_29 (dk_at dksX0_lostRooms_0 16 rfl rfl)
theorem dX0_lostRooms_17 : decode cX0_lostRooms 17 = .ok (.invokevirtual 173, 3) := dk_182 0 173 (dk_at dksX0_lostRooms_0 17 rfl rfl)
theorem dX0_lostRooms_20 : decode cX0_lostRooms 20 = .ok (.ifCond .eq 7, 3) := dk_153 0 7 (dk_at dksX0_lostRooms_0 20 rfl rfl)
theorem dX0_lostRooms_23 : decode cX0_lostRooms 23 = .ok (.iconst 1, 1) := dk_4 (dk_at dksX0_lostRooms_0 23 rfl rfl)
theorem dX0_lostRooms_24 : decode cX0_lostRooms 24 = .ok (.goto 4, 3) := dk_167 0 4 (dk_at dksX0_lostRooms_1 0 rfl rfl)
theorem dX0_lostRooms_27 : decode cX0_lostRooms 27 = .ok (.iconst 0, 1) := dk_3 (dk_at dksX0_lostRooms_1 3 rfl rfl)
theorem dX0_lostRooms_28 : decode cX0_lostRooms 28 = .ok (.iadd, 1) := dk_96 (dk_at dksX0_lostRooms_1 4 rfl rfl)
theorem dX0_lostRooms_29 : decode cX0_lostRooms 29 = .ok (.istore_n 2, 1) := dk_61 (dk_at dksX0_lostRooms_1 5 rfl rfl)
theorem dX0_lostRooms_30 : decode cX0_lostRooms 30 = .ok (.iinc 3 1, 3) := dk_132 3 1 (dk_at dksX0_lostRooms_1 6 rfl rfl)
theorem dX0_lostRooms_33 : decode cX0_lostRooms 33 = .ok (.goto (-29), 3) := dk_167 255 227 (dk_at dksX0_lostRooms_1 9 rfl rfl)
theorem dX0_lostRooms_36 : decode cX0_lostRooms 36 = .ok (.iload_n 2, 1) := dk_28 (dk_at dksX0_lostRooms_1 12 rfl rfl)
theorem dX0_lostRooms_37 : decode cX0_lostRooms 37 = .ok (.ireturn, 1) := dk_172 (dk_at dksX0_lostRooms_1 13 rfl rfl)
abbrev cX0_keep : ByteArray := prog_1_method_62_code
def yX0_keep : MethodName := ⟨RX0, "keep", "(III)I"⟩
def dkwX0_keep_6 : List UInt8 := [132, 5, 1, 167, 255, 188, 2, 172]
abbrev dktX0_keep_6 : List UInt8 := dkwX0_keep_6 ++ []
def dkwX0_keep_5 : List UInt8 := [182, 1, 111, 153, 0, 15, 29, 154, 0, 8, 21, 5, 167, 0, 5, 21, 6, 172, 132, 6, 1, 167, 255, 203]
abbrev dktX0_keep_5 : List UInt8 := dkwX0_keep_5 ++ dktX0_keep_6
def dkwX0_keep_4 : List UInt8 := [184, 1, 108, 21, 5, 160, 0, 36, 21, 6, 21, 4, 2, 130, 126, 154, 0, 26, 42, 27, 28, 21, 6]
abbrev dktX0_keep_4 : List UInt8 := dkwX0_keep_4 ++ dktX0_keep_5
def dkwX0_keep_3 : List UInt8 := [167, 255, 221, 3, 54, 5, 21, 5, 6, 163, 0, 68, 3, 54, 6, 21, 6, 21, 4, 163, 0, 52, 21, 6]
abbrev dktX0_keep_3 : List UInt8 := dkwX0_keep_3 ++ dktX0_keep_4
def dkwX0_keep_2 : List UInt8 := [21, 5, 182, 0, 177, 153, 0, 10, 4, 21, 5, 120, 167, 0, 4, 3, 128, 54, 4, 132, 5, 1]
abbrev dktX0_keep_2 : List UInt8 := dkwX0_keep_2 ++ dktX0_keep_3
def dkwX0_keep_1 : List UInt8 := [154, 0, 5, 2, 172, 3, 54, 4, 3, 54, 5, 21, 5, 16, 16, 162, 0, 34, 21, 4, 42, 182, 0, 161]
abbrev dktX0_keep_1 : List UInt8 := dkwX0_keep_1 ++ dktX0_keep_2
def dkwX0_keep_0 : List UInt8 := [27, 184, 0, 149, 153, 0, 22, 28, 3, 16, 20, 184, 0, 26, 153, 0, 12, 29, 3, 4, 184, 0, 26]
abbrev dktX0_keep_0 : List UInt8 := dkwX0_keep_0 ++ dktX0_keep_1
theorem dksX0_keep_0 : cX0_keep.data.toList.drop 0 = dktX0_keep_0 := by decide +kernel
theorem dksX0_keep_1 : cX0_keep.data.toList.drop 23 = dktX0_keep_1 := dk_seg dksX0_keep_0 23 rfl rfl
theorem dksX0_keep_2 : cX0_keep.data.toList.drop 47 = dktX0_keep_2 := dk_seg dksX0_keep_1 24 rfl rfl
theorem dksX0_keep_3 : cX0_keep.data.toList.drop 69 = dktX0_keep_3 := dk_seg dksX0_keep_2 22 rfl rfl
theorem dksX0_keep_4 : cX0_keep.data.toList.drop 93 = dktX0_keep_4 := dk_seg dksX0_keep_3 24 rfl rfl
theorem dksX0_keep_5 : cX0_keep.data.toList.drop 116 = dktX0_keep_5 := dk_seg dksX0_keep_4 23 rfl rfl
theorem dksX0_keep_6 : cX0_keep.data.toList.drop 140 = dktX0_keep_6 := dk_seg dksX0_keep_5 24 rfl rfl
theorem dX0_keep_0 : decode cX0_keep 0 = .ok (.iload_n 1, 1) := dk_27 (dk_at dksX0_keep_0 0 rfl rfl)
theorem dX0_keep_1 : decode cX0_keep 1 = .ok (.invokestatic 149, 3) := dk_184 0 149 (dk_at dksX0_keep_0 1 rfl rfl)
theorem dX0_keep_4 : decode cX0_keep 4 = .ok (.ifCond .eq 22, 3) := dk_153 0 22 (dk_at dksX0_keep_0 4 rfl rfl)
theorem dX0_keep_7 : decode cX0_keep 7 = .ok (.iload_n 2, 1) := dk_28 (dk_at dksX0_keep_0 7 rfl rfl)
theorem dX0_keep_8 : decode cX0_keep 8 = .ok (.iconst 0, 1) := dk_3 (dk_at dksX0_keep_0 8 rfl rfl)
theorem dX0_keep_9 : decode cX0_keep 9 = .ok (.bipush 20, 2) := dk_16 20 (dk_at dksX0_keep_0 9 rfl rfl)
theorem dX0_keep_11 : decode cX0_keep 11 = .ok (.invokestatic 26, 3) := dk_184 0 26 (dk_at dksX0_keep_0 11 rfl rfl)
theorem dX0_keep_14 : decode cX0_keep 14 = .ok (.ifCond .eq 12, 3) := dk_153 0 12 (dk_at dksX0_keep_0 14 rfl rfl)
theorem dX0_keep_17 : decode cX0_keep 17 = .ok (.iload_n 3, 1) := dk_29 (dk_at dksX0_keep_0 17 rfl rfl)
theorem dX0_keep_18 : decode cX0_keep 18 = .ok (.iconst 0, 1) := dk_3 (dk_at dksX0_keep_0 18 rfl rfl)
theorem dX0_keep_19 : decode cX0_keep 19 = .ok (.iconst 1, 1) := dk_4 (dk_at dksX0_keep_0 19 rfl rfl)
theorem dX0_keep_20 : decode cX0_keep 20 = .ok (.invokestatic 26, 3) := dk_184 0 26 (dk_at dksX0_keep_0 20 rfl rfl)
theorem dX0_keep_23 : decode cX0_keep 23 = .ok (.ifCond .ne 5, 3) := dk_154 0 5 (dk_at dksX0_keep_1 0 rfl rfl)
theorem dX0_keep_26 : decode cX0_keep 26 = .ok (.iconst (-1), 1) := dk_2 (dk_at dksX0_keep_1 3 rfl rfl)
theorem dX0_keep_27 : decode cX0_keep 27 = .ok (.ireturn, 1) := dk_172 (dk_at dksX0_keep_1 4 rfl rfl)
theorem dX0_keep_28 : decode cX0_keep 28 = .ok (.iconst 0, 1) := dk_3 (dk_at dksX0_keep_1 5 rfl rfl)
theorem dX0_keep_29 : decode cX0_keep 29 = .ok (.istore 4, 2) := dk_54 4 (dk_at dksX0_keep_1 6 rfl rfl)
theorem dX0_keep_31 : decode cX0_keep 31 = .ok (.iconst 0, 1) := dk_3 (dk_at dksX0_keep_1 8 rfl rfl)
theorem dX0_keep_32 : decode cX0_keep 32 = .ok (.istore 5, 2) := dk_54 5 (dk_at dksX0_keep_1 9 rfl rfl)
theorem dX0_keep_34 : decode cX0_keep 34 = .ok (.iload 5, 2) := dk_21 5 (dk_at dksX0_keep_1 11 rfl rfl)
theorem dX0_keep_36 : decode cX0_keep 36 = .ok (.bipush 16, 2) := dk_16 16 (dk_at dksX0_keep_1 13 rfl rfl)
theorem dX0_keep_38 : decode cX0_keep 38 = .ok (.if_icmp .ge 34, 3) := dk_162 0 34 (dk_at dksX0_keep_1 15 rfl rfl)
theorem dX0_keep_41 : decode cX0_keep 41 = .ok (.iload 4, 2) := dk_21 4 (dk_at dksX0_keep_1 18 rfl rfl)
theorem dX0_keep_43 : decode cX0_keep 43 = .ok (.aload_n 0, 1) := dk_42 (dk_at dksX0_keep_1 20 rfl rfl)
theorem dX0_keep_44 : decode cX0_keep 44 = .ok (.invokevirtual 161, 3) := dk_182 0 161 (dk_at dksX0_keep_1 21 rfl rfl)
theorem dX0_keep_47 : decode cX0_keep 47 = .ok (.iload 5, 2) := dk_21 5 (dk_at dksX0_keep_2 0 rfl rfl)
theorem dX0_keep_49 : decode cX0_keep 49 = .ok (.invokevirtual 177, 3) := dk_182 0 177 (dk_at dksX0_keep_2 2 rfl rfl)
theorem dX0_keep_52 : decode cX0_keep 52 = .ok (.ifCond .eq 10, 3) := dk_153 0 10 (dk_at dksX0_keep_2 5 rfl rfl)
theorem dX0_keep_55 : decode cX0_keep 55 = .ok (.iconst 1, 1) := dk_4 (dk_at dksX0_keep_2 8 rfl rfl)
theorem dX0_keep_56 : decode cX0_keep 56 = .ok (.iload 5, 2) := dk_21 5 (dk_at dksX0_keep_2 9 rfl rfl)
theorem dX0_keep_58 : decode cX0_keep 58 = .ok (.ishl, 1) := dk_120 (dk_at dksX0_keep_2 11 rfl rfl)
theorem dX0_keep_59 : decode cX0_keep 59 = .ok (.goto 4, 3) := dk_167 0 4 (dk_at dksX0_keep_2 12 rfl rfl)
theorem dX0_keep_62 : decode cX0_keep 62 = .ok (.iconst 0, 1) := dk_3 (dk_at dksX0_keep_2 15 rfl rfl)
theorem dX0_keep_63 : decode cX0_keep 63 = .ok (.ior, 1) := dk_128 (dk_at dksX0_keep_2 16 rfl rfl)
theorem dX0_keep_64 : decode cX0_keep 64 = .ok (.istore 4, 2) := dk_54 4 (dk_at dksX0_keep_2 17 rfl rfl)
theorem dX0_keep_66 : decode cX0_keep 66 = .ok (.iinc 5 1, 3) := dk_132 5 1 (dk_at dksX0_keep_2 19 rfl rfl)
theorem dX0_keep_69 : decode cX0_keep 69 = .ok (.goto (-35), 3) := dk_167 255 221 (dk_at dksX0_keep_3 0 rfl rfl)
theorem dX0_keep_72 : decode cX0_keep 72 = .ok (.iconst 0, 1) := dk_3 (dk_at dksX0_keep_3 3 rfl rfl)
theorem dX0_keep_73 : decode cX0_keep 73 = .ok (.istore 5, 2) := dk_54 5 (dk_at dksX0_keep_3 4 rfl rfl)
theorem dX0_keep_75 : decode cX0_keep 75 = .ok (.iload 5, 2) := dk_21 5 (dk_at dksX0_keep_3 6 rfl rfl)
theorem dX0_keep_77 : decode cX0_keep 77 = .ok (.iconst 3, 1) := dk_6 (dk_at dksX0_keep_3 8 rfl rfl)
theorem dX0_keep_78 : decode cX0_keep 78 = .ok (.if_icmp .gt 68, 3) := dk_163 0 68 (dk_at dksX0_keep_3 9 rfl rfl)
theorem dX0_keep_81 : decode cX0_keep 81 = .ok (.iconst 0, 1) := dk_3 (dk_at dksX0_keep_3 12 rfl rfl)
theorem dX0_keep_82 : decode cX0_keep 82 = .ok (.istore 6, 2) := dk_54 6 (dk_at dksX0_keep_3 13 rfl rfl)
theorem dX0_keep_84 : decode cX0_keep 84 = .ok (.iload 6, 2) := dk_21 6 (dk_at dksX0_keep_3 15 rfl rfl)
theorem dX0_keep_86 : decode cX0_keep 86 = .ok (.iload 4, 2) := dk_21 4 (dk_at dksX0_keep_3 17 rfl rfl)
theorem dX0_keep_88 : decode cX0_keep 88 = .ok (.if_icmp .gt 52, 3) := dk_163 0 52 (dk_at dksX0_keep_3 19 rfl rfl)
theorem dX0_keep_91 : decode cX0_keep 91 = .ok (.iload 6, 2) := dk_21 6 (dk_at dksX0_keep_3 22 rfl rfl)
theorem dX0_keep_93 : decode cX0_keep 93 = .ok (.invokestatic 364, 3) := dk_184 1 108 (dk_at dksX0_keep_4 0 rfl rfl)
theorem dX0_keep_96 : decode cX0_keep 96 = .ok (.iload 5, 2) := dk_21 5 (dk_at dksX0_keep_4 3 rfl rfl)
theorem dX0_keep_98 : decode cX0_keep 98 = .ok (.if_icmp .ne 36, 3) := dk_160 0 36 (dk_at dksX0_keep_4 5 rfl rfl)
theorem dX0_keep_101 : decode cX0_keep 101 = .ok (.iload 6, 2) := dk_21 6 (dk_at dksX0_keep_4 8 rfl rfl)
theorem dX0_keep_103 : decode cX0_keep 103 = .ok (.iload 4, 2) := dk_21 4 (dk_at dksX0_keep_4 10 rfl rfl)
theorem dX0_keep_105 : decode cX0_keep 105 = .ok (.iconst (-1), 1) := dk_2 (dk_at dksX0_keep_4 12 rfl rfl)
theorem dX0_keep_106 : decode cX0_keep 106 = .ok (.ixor, 1) := dk_130 (dk_at dksX0_keep_4 13 rfl rfl)
theorem dX0_keep_107 : decode cX0_keep 107 = .ok (.iand, 1) := dk_126 (dk_at dksX0_keep_4 14 rfl rfl)
theorem dX0_keep_108 : decode cX0_keep 108 = .ok (.ifCond .ne 26, 3) := dk_154 0 26 (dk_at dksX0_keep_4 15 rfl rfl)
theorem dX0_keep_111 : decode cX0_keep 111 = .ok (.aload_n 0, 1) := dk_42 (dk_at dksX0_keep_4 18 rfl rfl)
theorem dX0_keep_112 : decode cX0_keep 112 = .ok (.iload_n 1, 1) := dk_27 (dk_at dksX0_keep_4 19 rfl rfl)
theorem dX0_keep_113 : decode cX0_keep 113 = .ok (.iload_n 2, 1) := dk_28 (dk_at dksX0_keep_4 20 rfl rfl)
theorem dX0_keep_114 : decode cX0_keep 114 = .ok (.iload 6, 2) := dk_21 6 (dk_at dksX0_keep_4 21 rfl rfl)
theorem dX0_keep_116 : decode cX0_keep 116 = .ok (.invokevirtual 367, 3) := dk_182 1 111 (dk_at dksX0_keep_5 0 rfl rfl)
theorem dX0_keep_119 : decode cX0_keep 119 = .ok (.ifCond .eq 15, 3) := dk_153 0 15 (dk_at dksX0_keep_5 3 rfl rfl)
theorem dX0_keep_122 : decode cX0_keep 122 = .ok (.iload_n 3, 1) := dk_29 (dk_at dksX0_keep_5 6 rfl rfl)
theorem dX0_keep_123 : decode cX0_keep 123 = .ok (.ifCond .ne 8, 3) := dk_154 0 8 (dk_at dksX0_keep_5 7 rfl rfl)
theorem dX0_keep_126 : decode cX0_keep 126 = .ok (.iload 5, 2) := dk_21 5 (dk_at dksX0_keep_5 10 rfl rfl)
theorem dX0_keep_128 : decode cX0_keep 128 = .ok (.goto 5, 3) := dk_167 0 5 (dk_at dksX0_keep_5 12 rfl rfl)
theorem dX0_keep_131 : decode cX0_keep 131 = .ok (.iload 6, 2) := dk_21 6 (dk_at dksX0_keep_5 15 rfl rfl)
theorem dX0_keep_133 : decode cX0_keep 133 = .ok (.ireturn, 1) := dk_172 (dk_at dksX0_keep_5 17 rfl rfl)
theorem dX0_keep_134 : decode cX0_keep 134 = .ok (.iinc 6 1, 3) := dk_132 6 1 (dk_at dksX0_keep_5 18 rfl rfl)
theorem dX0_keep_137 : decode cX0_keep 137 = .ok (.goto (-53), 3) := dk_167 255 203 (dk_at dksX0_keep_5 21 rfl rfl)
theorem dX0_keep_140 : decode cX0_keep 140 = .ok (.iinc 5 1, 3) := dk_132 5 1 (dk_at dksX0_keep_6 0 rfl rfl)
theorem dX0_keep_143 : decode cX0_keep 143 = .ok (.goto (-68), 3) := dk_167 255 188 (dk_at dksX0_keep_6 3 rfl rfl)
theorem dX0_keep_146 : decode cX0_keep 146 = .ok (.iconst (-1), 1) := dk_2 (dk_at dksX0_keep_6 6 rfl rfl)
theorem dX0_keep_147 : decode cX0_keep 147 = .ok (.ireturn, 1) := dk_172 (dk_at dksX0_keep_6 7 rfl rfl)
abbrev cX0_ones : ByteArray := prog_1_method_5_code
def yX0_ones : MethodName := ⟨RX0, "ones", "(I)I"⟩
theorem dX0_ones_0 : decode cX0_ones 0 = .ok (.iload_n 0, 1) := by decide +kernel
theorem dX0_ones_1 : decode cX0_ones 1 = .ok (.invokestatic 11, 3) := by decide +kernel
theorem dX0_ones_4 : decode cX0_ones 4 = .ok (.ireturn, 1) := by decide +kernel
abbrev cX0_isKept : ByteArray := prog_1_method_61_code
def yX0_isKept : MethodName := ⟨RX0, "isKept", "(III)Z"⟩
def dkwX0_isKept_4 : List UInt8 := [27, 182, 0, 173, 154, 0, 7, 4, 167, 0, 4, 3, 172]
abbrev dktX0_isKept_4 : List UInt8 := dkwX0_isKept_4 ++ []
def dkwX0_isKept_3 : List UInt8 := [153, 0, 5, 3, 172, 42, 25, 4, 182, 1, 80, 87, 132, 5, 1, 167, 255, 225, 42, 180, 0, 39, 25, 4]
abbrev dktX0_isKept_3 : List UInt8 := dkwX0_isKept_3 ++ dktX0_isKept_4
def dkwX0_isKept_2 : List UInt8 := [167, 255, 230, 3, 54, 5, 21, 5, 28, 162, 0, 31, 42, 180, 0, 39, 25, 4, 27, 182, 0, 173]
abbrev dktX0_isKept_2 : List UInt8 := dkwX0_isKept_2 ++ dktX0_isKept_3
def dkwX0_isKept_1 : List UInt8 := [162, 0, 25, 29, 21, 5, 184, 1, 38, 153, 0, 10, 25, 4, 21, 5, 182, 1, 77, 132, 5, 1]
abbrev dktX0_isKept_1 : List UInt8 := dkwX0_isKept_1 ++ dktX0_isKept_2
def dkwX0_isKept_0 : List UInt8 := [42, 180, 0, 67, 58, 4, 25, 4, 42, 182, 0, 161, 182, 1, 71, 3, 54, 5, 21, 5, 16, 16]
abbrev dktX0_isKept_0 : List UInt8 := dkwX0_isKept_0 ++ dktX0_isKept_1
theorem dksX0_isKept_0 : cX0_isKept.data.toList.drop 0 = dktX0_isKept_0 := by decide +kernel
theorem dksX0_isKept_1 : cX0_isKept.data.toList.drop 22 = dktX0_isKept_1 := dk_seg dksX0_isKept_0 22 rfl rfl
theorem dksX0_isKept_2 : cX0_isKept.data.toList.drop 44 = dktX0_isKept_2 := dk_seg dksX0_isKept_1 22 rfl rfl
theorem dksX0_isKept_3 : cX0_isKept.data.toList.drop 66 = dktX0_isKept_3 := dk_seg dksX0_isKept_2 22 rfl rfl
theorem dksX0_isKept_4 : cX0_isKept.data.toList.drop 90 = dktX0_isKept_4 := dk_seg dksX0_isKept_3 24 rfl rfl
theorem dX0_isKept_0 : decode cX0_isKept 0 = .ok (.aload_n 0, 1) := dk_42 (dk_at dksX0_isKept_0 0 rfl rfl)
theorem dX0_isKept_1 : decode cX0_isKept 1 = .ok (.getfield 67, 3) := dk_180 0 67 (dk_at dksX0_isKept_0 1 rfl rfl)
theorem dX0_isKept_4 : decode cX0_isKept 4 = .ok (.astore 4, 2) := dk_58 4 (dk_at dksX0_isKept_0 4 rfl rfl)
theorem dX0_isKept_6 : decode cX0_isKept 6 = .ok (.aload 4, 2) := dk_25 4 (dk_at dksX0_isKept_0 6 rfl rfl)
theorem dX0_isKept_8 : decode cX0_isKept 8 = .ok (.aload_n 0, 1) := dk_42 (dk_at dksX0_isKept_0 8 rfl rfl)
theorem dX0_isKept_9 : decode cX0_isKept 9 = .ok (.invokevirtual 161, 3) := dk_182 0 161 (dk_at dksX0_isKept_0 9 rfl rfl)
theorem dX0_isKept_12 : decode cX0_isKept 12 = .ok (.invokevirtual 327, 3) := dk_182 1 71 (dk_at dksX0_isKept_0 12 rfl rfl)
theorem dX0_isKept_15 : decode cX0_isKept 15 = .ok (.iconst 0, 1) := dk_3 (dk_at dksX0_isKept_0 15 rfl rfl)
theorem dX0_isKept_16 : decode cX0_isKept 16 = .ok (.istore 5, 2) := dk_54 5 (dk_at dksX0_isKept_0 16 rfl rfl)
theorem dX0_isKept_18 : decode cX0_isKept 18 = .ok (.iload 5, 2) := dk_21 5 (dk_at dksX0_isKept_0 18 rfl rfl)
theorem dX0_isKept_20 : decode cX0_isKept 20 = .ok (.bipush 16, 2) := dk_16 16 (dk_at dksX0_isKept_0 20 rfl rfl)
theorem dX0_isKept_22 : decode cX0_isKept 22 = .ok (.if_icmp .ge 25, 3) := dk_162 0 25 (dk_at dksX0_isKept_1 0 rfl rfl)
theorem dX0_isKept_25 : decode cX0_isKept 25 = .ok (.iload_n 3, 1) := dk_29 (dk_at dksX0_isKept_1 3 rfl rfl)
theorem dX0_isKept_26 : decode cX0_isKept 26 = .ok (.iload 5, 2) := dk_21 5 (dk_at dksX0_isKept_1 4 rfl rfl)
theorem dX0_isKept_28 : decode cX0_isKept 28 = .ok (.invokestatic 294, 3) := dk_184 1 38 (dk_at dksX0_isKept_1 6 rfl rfl)
theorem dX0_isKept_31 : decode cX0_isKept 31 = .ok (.ifCond .eq 10, 3) := dk_153 0 10 (dk_at dksX0_isKept_1 9 rfl rfl)
theorem dX0_isKept_34 : decode cX0_isKept 34 = .ok (.aload 4, 2) := dk_25 4 (dk_at dksX0_isKept_1 12 rfl rfl)
theorem dX0_isKept_36 : decode cX0_isKept 36 = .ok (.iload 5, 2) := dk_21 5 (dk_at dksX0_isKept_1 14 rfl rfl)
theorem dX0_isKept_38 : decode cX0_isKept 38 = .ok (.invokevirtual 333, 3) := dk_182 1 77 (dk_at dksX0_isKept_1 16 rfl rfl)
theorem dX0_isKept_41 : decode cX0_isKept 41 = .ok (.iinc 5 1, 3) := dk_132 5 1 (dk_at dksX0_isKept_1 19 rfl rfl)
theorem dX0_isKept_44 : decode cX0_isKept 44 = .ok (.goto (-26), 3) := dk_167 255 230 (dk_at dksX0_isKept_2 0 rfl rfl)
theorem dX0_isKept_47 : decode cX0_isKept 47 = .ok (.iconst 0, 1) := dk_3 (dk_at dksX0_isKept_2 3 rfl rfl)
theorem dX0_isKept_48 : decode cX0_isKept 48 = .ok (.istore 5, 2) := dk_54 5 (dk_at dksX0_isKept_2 4 rfl rfl)
theorem dX0_isKept_50 : decode cX0_isKept 50 = .ok (.iload 5, 2) := dk_21 5 (dk_at dksX0_isKept_2 6 rfl rfl)
theorem dX0_isKept_52 : decode cX0_isKept 52 = .ok (.iload_n 2, 1) := dk_28 (dk_at dksX0_isKept_2 8 rfl rfl)
theorem dX0_isKept_53 : decode cX0_isKept 53 = .ok (.if_icmp .ge 31, 3) := dk_162 0 31 (dk_at dksX0_isKept_2 9 rfl rfl)
theorem dX0_isKept_56 : decode cX0_isKept 56 = .ok (.aload_n 0, 1) := dk_42 (dk_at dksX0_isKept_2 12 rfl rfl)
theorem dX0_isKept_57 : decode cX0_isKept 57 = .ok (.getfield 39, 3) := dk_180 0 39 (dk_at dksX0_isKept_2 13 rfl rfl)
theorem dX0_isKept_60 : decode cX0_isKept 60 = .ok (.aload 4, 2) := dk_25 4 (dk_at dksX0_isKept_2 16 rfl rfl)
theorem dX0_isKept_62 : decode cX0_isKept 62 = .ok (.iload_n 1, 1) := dk_27 (dk_at dksX0_isKept_2 18 rfl rfl)
theorem dX0_isKept_63 : decode cX0_isKept 63 = .ok (.invokevirtual 173, 3) := dk_182 0 173 (dk_at dksX0_isKept_2 19 rfl rfl)
theorem dX0_isKept_66 : decode cX0_isKept 66 = .ok (.ifCond .eq 5, 3) := dk_153 0 5 (dk_at dksX0_isKept_3 0 rfl rfl)
theorem dX0_isKept_69 : decode cX0_isKept 69 = .ok (.iconst 0, 1) := dk_3 (dk_at dksX0_isKept_3 3 rfl rfl)
theorem dX0_isKept_70 : decode cX0_isKept 70 = .ok (.ireturn, 1) := dk_172 (dk_at dksX0_isKept_3 4 rfl rfl)
theorem dX0_isKept_71 : decode cX0_isKept 71 = .ok (.aload_n 0, 1) := dk_42 (dk_at dksX0_isKept_3 5 rfl rfl)
theorem dX0_isKept_72 : decode cX0_isKept 72 = .ok (.aload 4, 2) := dk_25 4 (dk_at dksX0_isKept_3 6 rfl rfl)
theorem dX0_isKept_74 : decode cX0_isKept 74 = .ok (.invokevirtual 336, 3) := dk_182 1 80 (dk_at dksX0_isKept_3 8 rfl rfl)
theorem dX0_isKept_77 : decode cX0_isKept 77 = .ok (.pop, 1) := dk_87 (dk_at dksX0_isKept_3 11 rfl rfl)
theorem dX0_isKept_78 : decode cX0_isKept 78 = .ok (.iinc 5 1, 3) := dk_132 5 1 (dk_at dksX0_isKept_3 12 rfl rfl)
theorem dX0_isKept_81 : decode cX0_isKept 81 = .ok (.goto (-31), 3) := dk_167 255 225 (dk_at dksX0_isKept_3 15 rfl rfl)
theorem dX0_isKept_84 : decode cX0_isKept 84 = .ok (.aload_n 0, 1) := dk_42 (dk_at dksX0_isKept_3 18 rfl rfl)
theorem dX0_isKept_85 : decode cX0_isKept 85 = .ok (.getfield 39, 3) := dk_180 0 39 (dk_at dksX0_isKept_3 19 rfl rfl)
theorem dX0_isKept_88 : decode cX0_isKept 88 = .ok (.aload 4, 2) := dk_25 4 (dk_at dksX0_isKept_3 22 rfl rfl)
theorem dX0_isKept_90 : decode cX0_isKept 90 = .ok (.iload_n 1, 1) := dk_27 (dk_at dksX0_isKept_4 0 rfl rfl)
theorem dX0_isKept_91 : decode cX0_isKept 91 = .ok (.invokevirtual 173, 3) := dk_182 0 173 (dk_at dksX0_isKept_4 1 rfl rfl)
theorem dX0_isKept_94 : decode cX0_isKept 94 = .ok (.ifCond .ne 7, 3) := dk_154 0 7 (dk_at dksX0_isKept_4 4 rfl rfl)
theorem dX0_isKept_97 : decode cX0_isKept 97 = .ok (.iconst 1, 1) := dk_4 (dk_at dksX0_isKept_4 7 rfl rfl)
theorem dX0_isKept_98 : decode cX0_isKept 98 = .ok (.goto 4, 3) := dk_167 0 4 (dk_at dksX0_isKept_4 8 rfl rfl)
theorem dX0_isKept_101 : decode cX0_isKept 101 = .ok (.iconst 0, 1) := dk_3 (dk_at dksX0_isKept_4 11 rfl rfl)
theorem dX0_isKept_102 : decode cX0_isKept 102 = .ok (.ireturn, 1) := dk_172 (dk_at dksX0_isKept_4 12 rfl rfl)
abbrev cX0_homes : ByteArray := prog_1_method_64_code
def yX0_homes : MethodName := ⟨RX0, "homes", "(II)I"⟩
def dkwX0_homes_11 : List UInt8 := [21, 6, 104, 21, 7, 96, 46, 100, 62, 21, 5, 4, 21, 7, 120, 128, 54, 5, 132, 6, 1, 167, 255, 128]
abbrev dktX0_homes_11 : List UInt8 := dkwX0_homes_11 ++ []
def dkwX0_homes_10 : List UInt8 := [132, 7, 1, 167, 255, 196, 21, 6, 28, 4, 100, 160, 0, 6, 21, 7, 172, 29, 42, 180, 0, 93, 16, 16]
abbrev dktX0_homes_10 : List UInt8 := dkwX0_homes_10 ++ dktX0_homes_11
def dkwX0_homes_9 : List UInt8 := [21, 7, 96, 46, 42, 21, 4, 21, 5, 4, 21, 7, 120, 128, 182, 1, 121, 96, 29, 159, 0, 9]
abbrev dktX0_homes_9 : List UInt8 := dkwX0_homes_9 ++ dktX0_homes_10
def dkwX0_homes_8 : List UInt8 := [180, 0, 93, 16, 16, 21, 6, 104, 21, 7, 96, 46, 155, 0, 34, 42, 180, 0, 93, 16, 16, 21, 6, 104]
abbrev dktX0_homes_8 : List UInt8 := dkwX0_homes_8 ++ dktX0_homes_9
def dkwX0_homes_7 : List UInt8 := [21, 6, 120, 2, 130, 126, 54, 4, 3, 54, 7, 21, 5, 21, 7, 184, 1, 38, 154, 0, 50, 42]
abbrev dktX0_homes_7 : List UInt8 := dkwX0_homes_7 ++ dktX0_homes_8
def dkwX0_homes_6 : List UInt8 := [54, 4, 3, 54, 5, 3, 54, 6, 27, 21, 6, 184, 1, 38, 154, 0, 6, 167, 0, 116, 21, 4, 4]
abbrev dktX0_homes_6 : List UInt8 := dkwX0_homes_6 ++ dktX0_homes_7
def dkwX0_homes_5 : List UInt8 := [29, 156, 0, 7, 2, 167, 0, 4, 29, 172, 27, 28, 4, 100, 184, 1, 38, 154, 0, 5, 2, 172, 27]
abbrev dktX0_homes_5 : List UInt8 := dkwX0_homes_5 ++ dktX0_homes_6
def dkwX0_homes_4 : List UInt8 := [167, 255, 195, 132, 3, 1, 167, 255, 180, 42, 27, 3, 182, 1, 121, 62, 29, 155, 0, 7, 28, 154, 0, 13]
abbrev dktX0_homes_4 : List UInt8 := dkwX0_homes_4 ++ dktX0_homes_5
def dkwX0_homes_3 : List UInt8 := [182, 1, 48, 153, 0, 9, 19, 1, 114, 167, 0, 10, 42, 29, 21, 4, 182, 1, 44, 79, 132, 4, 1]
abbrev dktX0_homes_3 : List UInt8 := dkwX0_homes_3 ++ dktX0_homes_4
def dkwX0_homes_2 : List UInt8 := [21, 4, 96, 42, 180, 0, 39, 42, 182, 0, 161, 21, 4, 182, 0, 173, 154, 0, 13, 42, 29, 21, 4]
abbrev dktX0_homes_2 : List UInt8 := dkwX0_homes_2 ++ dktX0_homes_3
def dkwX0_homes_1 : List UInt8 := [29, 16, 6, 162, 0, 76, 3, 54, 4, 21, 4, 16, 16, 162, 0, 60, 42, 180, 0, 93, 16, 16, 29, 104]
abbrev dktX0_homes_1 : List UInt8 := dkwX0_homes_1 ++ dktX0_homes_2
def dkwX0_homes_0 : List UInt8 := [27, 3, 16, 63, 184, 0, 26, 153, 0, 13, 28, 3, 16, 6, 184, 0, 26, 154, 0, 5, 2, 172, 3, 62]
abbrev dktX0_homes_0 : List UInt8 := dkwX0_homes_0 ++ dktX0_homes_1
theorem dksX0_homes_0 : cX0_homes.data.toList.drop 0 = dktX0_homes_0 := by decide +kernel
theorem dksX0_homes_1 : cX0_homes.data.toList.drop 24 = dktX0_homes_1 := dk_seg dksX0_homes_0 24 rfl rfl
theorem dksX0_homes_2 : cX0_homes.data.toList.drop 48 = dktX0_homes_2 := dk_seg dksX0_homes_1 24 rfl rfl
theorem dksX0_homes_3 : cX0_homes.data.toList.drop 71 = dktX0_homes_3 := dk_seg dksX0_homes_2 23 rfl rfl
theorem dksX0_homes_4 : cX0_homes.data.toList.drop 94 = dktX0_homes_4 := dk_seg dksX0_homes_3 23 rfl rfl
theorem dksX0_homes_5 : cX0_homes.data.toList.drop 118 = dktX0_homes_5 := dk_seg dksX0_homes_4 24 rfl rfl
theorem dksX0_homes_6 : cX0_homes.data.toList.drop 141 = dktX0_homes_6 := dk_seg dksX0_homes_5 23 rfl rfl
theorem dksX0_homes_7 : cX0_homes.data.toList.drop 164 = dktX0_homes_7 := dk_seg dksX0_homes_6 23 rfl rfl
theorem dksX0_homes_8 : cX0_homes.data.toList.drop 186 = dktX0_homes_8 := dk_seg dksX0_homes_7 22 rfl rfl
theorem dksX0_homes_9 : cX0_homes.data.toList.drop 210 = dktX0_homes_9 := dk_seg dksX0_homes_8 24 rfl rfl
theorem dksX0_homes_10 : cX0_homes.data.toList.drop 232 = dktX0_homes_10 := dk_seg dksX0_homes_9 22 rfl rfl
theorem dksX0_homes_11 : cX0_homes.data.toList.drop 256 = dktX0_homes_11 := dk_seg dksX0_homes_10 24 rfl rfl
theorem dX0_homes_0 : decode cX0_homes 0 = .ok (.iload_n 1, 1) := dk_27 (dk_at dksX0_homes_0 0 rfl rfl)
theorem dX0_homes_1 : decode cX0_homes 1 = .ok (.iconst 0, 1) := dk_3 (dk_at dksX0_homes_0 1 rfl rfl)
theorem dX0_homes_2 : decode cX0_homes 2 = .ok (.bipush 63, 2) := dk_16 63 (dk_at dksX0_homes_0 2 rfl rfl)
theorem dX0_homes_4 : decode cX0_homes 4 = .ok (.invokestatic 26, 3) := dk_184 0 26 (dk_at dksX0_homes_0 4 rfl rfl)
theorem dX0_homes_7 : decode cX0_homes 7 = .ok (.ifCond .eq 13, 3) := dk_153 0 13 (dk_at dksX0_homes_0 7 rfl rfl)
theorem dX0_homes_10 : decode cX0_homes 10 = .ok (.iload_n 2, 1) := dk_28 (dk_at dksX0_homes_0 10 rfl rfl)
theorem dX0_homes_11 : decode cX0_homes 11 = .ok (.iconst 0, 1) := dk_3 (dk_at dksX0_homes_0 11 rfl rfl)
theorem dX0_homes_12 : decode cX0_homes 12 = .ok (.bipush 6, 2) := dk_16 6 (dk_at dksX0_homes_0 12 rfl rfl)
theorem dX0_homes_14 : decode cX0_homes 14 = .ok (.invokestatic 26, 3) := dk_184 0 26 (dk_at dksX0_homes_0 14 rfl rfl)
theorem dX0_homes_17 : decode cX0_homes 17 = .ok (.ifCond .ne 5, 3) := dk_154 0 5 (dk_at dksX0_homes_0 17 rfl rfl)
theorem dX0_homes_20 : decode cX0_homes 20 = .ok (.iconst (-1), 1) := dk_2 (dk_at dksX0_homes_0 20 rfl rfl)
theorem dX0_homes_21 : decode cX0_homes 21 = .ok (.ireturn, 1) := dk_172 (dk_at dksX0_homes_0 21 rfl rfl)
theorem dX0_homes_22 : decode cX0_homes 22 = .ok (.iconst 0, 1) := dk_3 (dk_at dksX0_homes_0 22 rfl rfl)
theorem dX0_homes_23 : decode cX0_homes 23 = .ok (.istore_n 3, 1) := dk_62 (dk_at dksX0_homes_0 23 rfl rfl)
theorem dX0_homes_24 : decode cX0_homes 24 = .ok (.iload_n 3, 1) := dk_29 (dk_at dksX0_homes_1 0 rfl rfl)
theorem dX0_homes_25 : decode cX0_homes 25 = .ok (.bipush 6, 2) := dk_16 6 (dk_at dksX0_homes_1 1 rfl rfl)
theorem dX0_homes_27 : decode cX0_homes 27 = .ok (.if_icmp .ge 76, 3) := dk_162 0 76 (dk_at dksX0_homes_1 3 rfl rfl)
theorem dX0_homes_30 : decode cX0_homes 30 = .ok (.iconst 0, 1) := dk_3 (dk_at dksX0_homes_1 6 rfl rfl)
theorem dX0_homes_31 : decode cX0_homes 31 = .ok (.istore 4, 2) := dk_54 4 (dk_at dksX0_homes_1 7 rfl rfl)
theorem dX0_homes_33 : decode cX0_homes 33 = .ok (.iload 4, 2) := dk_21 4 (dk_at dksX0_homes_1 9 rfl rfl)
theorem dX0_homes_35 : decode cX0_homes 35 = .ok (.bipush 16, 2) := dk_16 16 (dk_at dksX0_homes_1 11 rfl rfl)
theorem dX0_homes_37 : decode cX0_homes 37 = .ok (.if_icmp .ge 60, 3) := dk_162 0 60 (dk_at dksX0_homes_1 13 rfl rfl)
theorem dX0_homes_40 : decode cX0_homes 40 = .ok (.aload_n 0, 1) := dk_42 (dk_at dksX0_homes_1 16 rfl rfl)
theorem dX0_homes_41 : decode cX0_homes 41 = .ok (.getfield 93, 3) := dk_180 0 93 (dk_at dksX0_homes_1 17 rfl rfl)
theorem dX0_homes_44 : decode cX0_homes 44 = .ok (.bipush 16, 2) := dk_16 16 (dk_at dksX0_homes_1 20 rfl rfl)
theorem dX0_homes_46 : decode cX0_homes 46 = .ok (.iload_n 3, 1) := dk_29 (dk_at dksX0_homes_1 22 rfl rfl)
theorem dX0_homes_47 : decode cX0_homes 47 = .ok (.imul, 1) := dk_104 (dk_at dksX0_homes_1 23 rfl rfl)
theorem dX0_homes_48 : decode cX0_homes 48 = .ok (.iload 4, 2) := dk_21 4 (dk_at dksX0_homes_2 0 rfl rfl)
theorem dX0_homes_50 : decode cX0_homes 50 = .ok (.iadd, 1) := dk_96 (dk_at dksX0_homes_2 2 rfl rfl)
theorem dX0_homes_51 : decode cX0_homes 51 = .ok (.aload_n 0, 1) := dk_42 (dk_at dksX0_homes_2 3 rfl rfl)
theorem dX0_homes_52 : decode cX0_homes 52 = .ok (.getfield 39, 3) := dk_180 0 39 (dk_at dksX0_homes_2 4 rfl rfl)
theorem dX0_homes_55 : decode cX0_homes 55 = .ok (.aload_n 0, 1) := dk_42 (dk_at dksX0_homes_2 7 rfl rfl)
theorem dX0_homes_56 : decode cX0_homes 56 = .ok (.invokevirtual 161, 3) := dk_182 0 161 (dk_at dksX0_homes_2 8 rfl rfl)
theorem dX0_homes_59 : decode cX0_homes 59 = .ok (.iload 4, 2) := dk_21 4 (dk_at dksX0_homes_2 11 rfl rfl)
theorem dX0_homes_61 : decode cX0_homes 61 = .ok (.invokevirtual 173, 3) := dk_182 0 173 (dk_at dksX0_homes_2 13 rfl rfl)
theorem dX0_homes_64 : decode cX0_homes 64 = .ok (.ifCond .ne 13, 3) := dk_154 0 13 (dk_at dksX0_homes_2 16 rfl rfl)
theorem dX0_homes_67 : decode cX0_homes 67 = .ok (.aload_n 0, 1) := dk_42 (dk_at dksX0_homes_2 19 rfl rfl)
theorem dX0_homes_68 : decode cX0_homes 68 = .ok (.iload_n 3, 1) := dk_29 (dk_at dksX0_homes_2 20 rfl rfl)
theorem dX0_homes_69 : decode cX0_homes 69 = .ok (.iload 4, 2) := dk_21 4 (dk_at dksX0_homes_2 21 rfl rfl)
theorem dX0_homes_71 : decode cX0_homes 71 = .ok (.invokevirtual 304, 3) := dk_182 1 48 (dk_at dksX0_homes_3 0 rfl rfl)
theorem dX0_homes_74 : decode cX0_homes 74 = .ok (.ifCond .eq 9, 3) := dk_153 0 9 (dk_at dksX0_homes_3 3 rfl rfl)
theorem dX0_homes_77 : decode cX0_homes 77 = .ok (.ldc_w 370, 3) := dk_19 1 114 (dk_at dksX0_homes_3 6 rfl rfl)
theorem dX0_homes_80 : decode cX0_homes 80 = .ok (.goto 10, 3) := dk_167 0 10 (dk_at dksX0_homes_3 9 rfl rfl)
theorem dX0_homes_83 : decode cX0_homes 83 = .ok (.aload_n 0, 1) := dk_42 (dk_at dksX0_homes_3 12 rfl rfl)
theorem dX0_homes_84 : decode cX0_homes 84 = .ok (.iload_n 3, 1) := dk_29 (dk_at dksX0_homes_3 13 rfl rfl)
theorem dX0_homes_85 : decode cX0_homes 85 = .ok (.iload 4, 2) := dk_21 4 (dk_at dksX0_homes_3 14 rfl rfl)
theorem dX0_homes_87 : decode cX0_homes 87 = .ok (.invokevirtual 300, 3) := dk_182 1 44 (dk_at dksX0_homes_3 16 rfl rfl)
theorem dX0_homes_90 : decode cX0_homes 90 = .ok (.iastore, 1) := dk_79 (dk_at dksX0_homes_3 19 rfl rfl)
theorem dX0_homes_91 : decode cX0_homes 91 = .ok (.iinc 4 1, 3) := dk_132 4 1 (dk_at dksX0_homes_3 20 rfl rfl)
theorem dX0_homes_94 : decode cX0_homes 94 = .ok (.goto (-61), 3) := dk_167 255 195 (dk_at dksX0_homes_4 0 rfl rfl)
theorem dX0_homes_97 : decode cX0_homes 97 = .ok (.iinc 3 1, 3) := dk_132 3 1 (dk_at dksX0_homes_4 3 rfl rfl)
theorem dX0_homes_100 : decode cX0_homes 100 = .ok (.goto (-76), 3) := dk_167 255 180 (dk_at dksX0_homes_4 6 rfl rfl)
theorem dX0_homes_103 : decode cX0_homes 103 = .ok (.aload_n 0, 1) := dk_42 (dk_at dksX0_homes_4 9 rfl rfl)
theorem dX0_homes_104 : decode cX0_homes 104 = .ok (.iload_n 1, 1) := dk_27 (dk_at dksX0_homes_4 10 rfl rfl)
theorem dX0_homes_105 : decode cX0_homes 105 = .ok (.iconst 0, 1) := dk_3 (dk_at dksX0_homes_4 11 rfl rfl)
theorem dX0_homes_106 : decode cX0_homes 106 = .ok (.invokevirtual 377, 3) := dk_182 1 121 (dk_at dksX0_homes_4 12 rfl rfl)
theorem dX0_homes_109 : decode cX0_homes 109 = .ok (.istore_n 3, 1) := dk_62 (dk_at dksX0_homes_4 15 rfl rfl)
theorem dX0_homes_110 : decode cX0_homes 110 = .ok (.iload_n 3, 1) := dk_29 (dk_at dksX0_homes_4 16 rfl rfl)
theorem dX0_homes_111 : decode cX0_homes 111 = .ok (.ifCond .lt 7, 3) := dk_155 0 7 (dk_at dksX0_homes_4 17 rfl rfl)
theorem dX0_homes_114 : decode cX0_homes 114 = .ok (.iload_n 2, 1) := dk_28 (dk_at dksX0_homes_4 20 rfl rfl)
theorem dX0_homes_115 : decode cX0_homes 115 = .ok (.ifCond .ne 13, 3) := dk_154 0 13 (dk_at dksX0_homes_4 21 rfl rfl)
theorem dX0_homes_118 : decode cX0_homes 118 = .ok (.iload_n 3, 1) := dk_29 (dk_at dksX0_homes_5 0 rfl rfl)
theorem dX0_homes_119 : decode cX0_homes 119 = .ok (.ifCond .ge 7, 3) := dk_156 0 7 (dk_at dksX0_homes_5 1 rfl rfl)
theorem dX0_homes_122 : decode cX0_homes 122 = .ok (.iconst (-1), 1) := dk_2 (dk_at dksX0_homes_5 4 rfl rfl)
theorem dX0_homes_123 : decode cX0_homes 123 = .ok (.goto 4, 3) := dk_167 0 4 (dk_at dksX0_homes_5 5 rfl rfl)
theorem dX0_homes_126 : decode cX0_homes 126 = .ok (.iload_n 3, 1) := dk_29 (dk_at dksX0_homes_5 8 rfl rfl)
theorem dX0_homes_127 : decode cX0_homes 127 = .ok (.ireturn, 1) := dk_172 (dk_at dksX0_homes_5 9 rfl rfl)
theorem dX0_homes_128 : decode cX0_homes 128 = .ok (.iload_n 1, 1) := dk_27 (dk_at dksX0_homes_5 10 rfl rfl)
theorem dX0_homes_129 : decode cX0_homes 129 = .ok (.iload_n 2, 1) := dk_28 (dk_at dksX0_homes_5 11 rfl rfl)
theorem dX0_homes_130 : decode cX0_homes 130 = .ok (.iconst 1, 1) := dk_4 (dk_at dksX0_homes_5 12 rfl rfl)
theorem dX0_homes_131 : decode cX0_homes 131 = .ok (.isub, 1) := dk_100 (dk_at dksX0_homes_5 13 rfl rfl)
theorem dX0_homes_132 : decode cX0_homes 132 = .ok (.invokestatic 294, 3) := dk_184 1 38 (dk_at dksX0_homes_5 14 rfl rfl)
theorem dX0_homes_135 : decode cX0_homes 135 = .ok (.ifCond .ne 5, 3) := dk_154 0 5 (dk_at dksX0_homes_5 17 rfl rfl)
theorem dX0_homes_138 : decode cX0_homes 138 = .ok (.iconst (-1), 1) := dk_2 (dk_at dksX0_homes_5 20 rfl rfl)
theorem dX0_homes_139 : decode cX0_homes 139 = .ok (.ireturn, 1) := dk_172 (dk_at dksX0_homes_5 21 rfl rfl)
theorem dX0_homes_140 : decode cX0_homes 140 = .ok (.iload_n 1, 1) := dk_27 (dk_at dksX0_homes_5 22 rfl rfl)
theorem dX0_homes_141 : decode cX0_homes 141 = .ok (.istore 4, 2) := dk_54 4 (dk_at dksX0_homes_6 0 rfl rfl)
theorem dX0_homes_143 : decode cX0_homes 143 = .ok (.iconst 0, 1) := dk_3 (dk_at dksX0_homes_6 2 rfl rfl)
theorem dX0_homes_144 : decode cX0_homes 144 = .ok (.istore 5, 2) := dk_54 5 (dk_at dksX0_homes_6 3 rfl rfl)
theorem dX0_homes_146 : decode cX0_homes 146 = .ok (.iconst 0, 1) := dk_3 (dk_at dksX0_homes_6 5 rfl rfl)
theorem dX0_homes_147 : decode cX0_homes 147 = .ok (.istore 6, 2) := dk_54 6 (dk_at dksX0_homes_6 6 rfl rfl)
theorem dX0_homes_149 : decode cX0_homes 149 = .ok (.iload_n 1, 1) := dk_27 (dk_at dksX0_homes_6 8 rfl rfl)
theorem dX0_homes_150 : decode cX0_homes 150 = .ok (.iload 6, 2) := dk_21 6 (dk_at dksX0_homes_6 9 rfl rfl)
theorem dX0_homes_152 : decode cX0_homes 152 = .ok (.invokestatic 294, 3) := dk_184 1 38 (dk_at dksX0_homes_6 11 rfl rfl)
theorem dX0_homes_155 : decode cX0_homes 155 = .ok (.ifCond .ne 6, 3) := dk_154 0 6 (dk_at dksX0_homes_6 14 rfl rfl)
theorem dX0_homes_158 : decode cX0_homes 158 = .ok (.goto 116, 3) := dk_167 0 116 (dk_at dksX0_homes_6 17 rfl rfl)
theorem dX0_homes_161 : decode cX0_homes 161 = .ok (.iload 4, 2) := dk_21 4 (dk_at dksX0_homes_6 20 rfl rfl)
theorem dX0_homes_163 : decode cX0_homes 163 = .ok (.iconst 1, 1) := dk_4 (dk_at dksX0_homes_6 22 rfl rfl)
theorem dX0_homes_164 : decode cX0_homes 164 = .ok (.iload 6, 2) := dk_21 6 (dk_at dksX0_homes_7 0 rfl rfl)
theorem dX0_homes_166 : decode cX0_homes 166 = .ok (.ishl, 1) := dk_120 (dk_at dksX0_homes_7 2 rfl rfl)
theorem dX0_homes_167 : decode cX0_homes 167 = .ok (.iconst (-1), 1) := dk_2 (dk_at dksX0_homes_7 3 rfl rfl)
theorem dX0_homes_168 : decode cX0_homes 168 = .ok (.ixor, 1) := dk_130 (dk_at dksX0_homes_7 4 rfl rfl)
theorem dX0_homes_169 : decode cX0_homes 169 = .ok (.iand, 1) := dk_126 (dk_at dksX0_homes_7 5 rfl rfl)
theorem dX0_homes_170 : decode cX0_homes 170 = .ok (.istore 4, 2) := dk_54 4 (dk_at dksX0_homes_7 6 rfl rfl)
theorem dX0_homes_172 : decode cX0_homes 172 = .ok (.iconst 0, 1) := dk_3 (dk_at dksX0_homes_7 8 rfl rfl)
theorem dX0_homes_173 : decode cX0_homes 173 = .ok (.istore 7, 2) := dk_54 7 (dk_at dksX0_homes_7 9 rfl rfl)
theorem dX0_homes_175 : decode cX0_homes 175 = .ok (.iload 5, 2) := dk_21 5 (dk_at dksX0_homes_7 11 rfl rfl)
theorem dX0_homes_177 : decode cX0_homes 177 = .ok (.iload 7, 2) := dk_21 7 (dk_at dksX0_homes_7 13 rfl rfl)
theorem dX0_homes_179 : decode cX0_homes 179 = .ok (.invokestatic 294, 3) := dk_184 1 38 (dk_at dksX0_homes_7 15 rfl rfl)
theorem dX0_homes_182 : decode cX0_homes 182 = .ok (.ifCond .ne 50, 3) := dk_154 0 50 (dk_at dksX0_homes_7 18 rfl rfl)
theorem dX0_homes_185 : decode cX0_homes 185 = .ok (.aload_n 0, 1) := dk_42 (dk_at dksX0_homes_7 21 rfl rfl)
theorem dX0_homes_186 : decode cX0_homes 186 = .ok (.getfield 93, 3) := dk_180 0 93 (dk_at dksX0_homes_8 0 rfl rfl)
theorem dX0_homes_189 : decode cX0_homes 189 = .ok (.bipush 16, 2) := dk_16 16 (dk_at dksX0_homes_8 3 rfl rfl)
theorem dX0_homes_191 : decode cX0_homes 191 = .ok (.iload 6, 2) := dk_21 6 (dk_at dksX0_homes_8 5 rfl rfl)
theorem dX0_homes_193 : decode cX0_homes 193 = .ok (.imul, 1) := dk_104 (dk_at dksX0_homes_8 7 rfl rfl)
theorem dX0_homes_194 : decode cX0_homes 194 = .ok (.iload 7, 2) := dk_21 7 (dk_at dksX0_homes_8 8 rfl rfl)
theorem dX0_homes_196 : decode cX0_homes 196 = .ok (.iadd, 1) := dk_96 (dk_at dksX0_homes_8 10 rfl rfl)
theorem dX0_homes_197 : decode cX0_homes 197 = .ok (.iaload, 1) := dk_46 (dk_at dksX0_homes_8 11 rfl rfl)
theorem dX0_homes_198 : decode cX0_homes 198 = .ok (.ifCond .lt 34, 3) := dk_155 0 34 (dk_at dksX0_homes_8 12 rfl rfl)
theorem dX0_homes_201 : decode cX0_homes 201 = .ok (.aload_n 0, 1) := dk_42 (dk_at dksX0_homes_8 15 rfl rfl)
theorem dX0_homes_202 : decode cX0_homes 202 = .ok (.getfield 93, 3) := dk_180 0 93 (dk_at dksX0_homes_8 16 rfl rfl)
theorem dX0_homes_205 : decode cX0_homes 205 = .ok (.bipush 16, 2) := dk_16 16 (dk_at dksX0_homes_8 19 rfl rfl)
theorem dX0_homes_207 : decode cX0_homes 207 = .ok (.iload 6, 2) := dk_21 6 (dk_at dksX0_homes_8 21 rfl rfl)
theorem dX0_homes_209 : decode cX0_homes 209 = .ok (.imul, 1) := dk_104 (dk_at dksX0_homes_8 23 rfl rfl)
theorem dX0_homes_210 : decode cX0_homes 210 = .ok (.iload 7, 2) := dk_21 7 (dk_at dksX0_homes_9 0 rfl rfl)
theorem dX0_homes_212 : decode cX0_homes 212 = .ok (.iadd, 1) := dk_96 (dk_at dksX0_homes_9 2 rfl rfl)
theorem dX0_homes_213 : decode cX0_homes 213 = .ok (.iaload, 1) := dk_46 (dk_at dksX0_homes_9 3 rfl rfl)
theorem dX0_homes_214 : decode cX0_homes 214 = .ok (.aload_n 0, 1) := dk_42 (dk_at dksX0_homes_9 4 rfl rfl)
theorem dX0_homes_215 : decode cX0_homes 215 = .ok (.iload 4, 2) := dk_21 4 (dk_at dksX0_homes_9 5 rfl rfl)
theorem dX0_homes_217 : decode cX0_homes 217 = .ok (.iload 5, 2) := dk_21 5 (dk_at dksX0_homes_9 7 rfl rfl)
theorem dX0_homes_219 : decode cX0_homes 219 = .ok (.iconst 1, 1) := dk_4 (dk_at dksX0_homes_9 9 rfl rfl)
theorem dX0_homes_220 : decode cX0_homes 220 = .ok (.iload 7, 2) := dk_21 7 (dk_at dksX0_homes_9 10 rfl rfl)
theorem dX0_homes_222 : decode cX0_homes 222 = .ok (.ishl, 1) := dk_120 (dk_at dksX0_homes_9 12 rfl rfl)
theorem dX0_homes_223 : decode cX0_homes 223 = .ok (.ior, 1) := dk_128 (dk_at dksX0_homes_9 13 rfl rfl)
theorem dX0_homes_224 : decode cX0_homes 224 = .ok (.invokevirtual 377, 3) := dk_182 1 121 (dk_at dksX0_homes_9 14 rfl rfl)
theorem dX0_homes_227 : decode cX0_homes 227 = .ok (.iadd, 1) := dk_96 (dk_at dksX0_homes_9 17 rfl rfl)
theorem dX0_homes_228 : decode cX0_homes 228 = .ok (.iload_n 3, 1) := dk_29 (dk_at dksX0_homes_9 18 rfl rfl)
theorem dX0_homes_229 : decode cX0_homes 229 = .ok (.if_icmp .eq 9, 3) := dk_159 0 9 (dk_at dksX0_homes_9 19 rfl rfl)
theorem dX0_homes_232 : decode cX0_homes 232 = .ok (.iinc 7 1, 3) := dk_132 7 1 (dk_at dksX0_homes_10 0 rfl rfl)
theorem dX0_homes_235 : decode cX0_homes 235 = .ok (.goto (-60), 3) := dk_167 255 196 (dk_at dksX0_homes_10 3 rfl rfl)
theorem dX0_homes_238 : decode cX0_homes 238 = .ok (.iload 6, 2) := dk_21 6 (dk_at dksX0_homes_10 6 rfl rfl)
theorem dX0_homes_240 : decode cX0_homes 240 = .ok (.iload_n 2, 1) := dk_28 (dk_at dksX0_homes_10 8 rfl rfl)
theorem dX0_homes_241 : decode cX0_homes 241 = .ok (.iconst 1, 1) := dk_4 (dk_at dksX0_homes_10 9 rfl rfl)
theorem dX0_homes_242 : decode cX0_homes 242 = .ok (.isub, 1) := dk_100 (dk_at dksX0_homes_10 10 rfl rfl)
theorem dX0_homes_243 : decode cX0_homes 243 = .ok (.if_icmp .ne 6, 3) := dk_160 0 6 (dk_at dksX0_homes_10 11 rfl rfl)
theorem dX0_homes_246 : decode cX0_homes 246 = .ok (.iload 7, 2) := dk_21 7 (dk_at dksX0_homes_10 14 rfl rfl)
theorem dX0_homes_248 : decode cX0_homes 248 = .ok (.ireturn, 1) := dk_172 (dk_at dksX0_homes_10 16 rfl rfl)
theorem dX0_homes_249 : decode cX0_homes 249 = .ok (.iload_n 3, 1) := dk_29 (dk_at dksX0_homes_10 17 rfl rfl)
theorem dX0_homes_250 : decode cX0_homes 250 = .ok (.aload_n 0, 1) := dk_42 (dk_at dksX0_homes_10 18 rfl rfl)
theorem dX0_homes_251 : decode cX0_homes 251 = .ok (.getfield 93, 3) := dk_180 0 93 (dk_at dksX0_homes_10 19 rfl rfl)
theorem dX0_homes_254 : decode cX0_homes 254 = .ok (.bipush 16, 2) := dk_16 16 (dk_at dksX0_homes_10 22 rfl rfl)
theorem dX0_homes_256 : decode cX0_homes 256 = .ok (.iload 6, 2) := dk_21 6 (dk_at dksX0_homes_11 0 rfl rfl)
theorem dX0_homes_258 : decode cX0_homes 258 = .ok (.imul, 1) := dk_104 (dk_at dksX0_homes_11 2 rfl rfl)
theorem dX0_homes_259 : decode cX0_homes 259 = .ok (.iload 7, 2) := dk_21 7 (dk_at dksX0_homes_11 3 rfl rfl)
theorem dX0_homes_261 : decode cX0_homes 261 = .ok (.iadd, 1) := dk_96 (dk_at dksX0_homes_11 5 rfl rfl)
theorem dX0_homes_262 : decode cX0_homes 262 = .ok (.iaload, 1) := dk_46 (dk_at dksX0_homes_11 6 rfl rfl)
theorem dX0_homes_263 : decode cX0_homes 263 = .ok (.isub, 1) := dk_100 (dk_at dksX0_homes_11 7 rfl rfl)
theorem dX0_homes_264 : decode cX0_homes 264 = .ok (.istore_n 3, 1) := dk_62 (dk_at dksX0_homes_11 8 rfl rfl)
theorem dX0_homes_265 : decode cX0_homes 265 = .ok (.iload 5, 2) := dk_21 5 (dk_at dksX0_homes_11 9 rfl rfl)
theorem dX0_homes_267 : decode cX0_homes 267 = .ok (.iconst 1, 1) := dk_4 (dk_at dksX0_homes_11 11 rfl rfl)
theorem dX0_homes_268 : decode cX0_homes 268 = .ok (.iload 7, 2) := dk_21 7 (dk_at dksX0_homes_11 12 rfl rfl)
theorem dX0_homes_270 : decode cX0_homes 270 = .ok (.ishl, 1) := dk_120 (dk_at dksX0_homes_11 14 rfl rfl)
theorem dX0_homes_271 : decode cX0_homes 271 = .ok (.ior, 1) := dk_128 (dk_at dksX0_homes_11 15 rfl rfl)
theorem dX0_homes_272 : decode cX0_homes 272 = .ok (.istore 5, 2) := dk_54 5 (dk_at dksX0_homes_11 16 rfl rfl)
theorem dX0_homes_274 : decode cX0_homes 274 = .ok (.iinc 6 1, 3) := dk_132 6 1 (dk_at dksX0_homes_11 18 rfl rfl)
theorem dX0_homes_277 : decode cX0_homes 277 = .ok (.goto (-128), 3) := dk_167 255 128 (dk_at dksX0_homes_11 21 rfl rfl)
abbrev cX0_bestOf : ByteArray := prog_1_method_63_code
def yX0_bestOf : MethodName := ⟨RX0, "bestOf", "(II)I"⟩
def dkwX0_bestOf_7 : List UInt8 := [180, 0, 96, 190, 184, 1, 115, 132, 3, 1, 167, 255, 114, 42, 180, 0, 96, 27, 46, 172]
abbrev dktX0_bestOf_7 : List UInt8 := dkwX0_bestOf_7 ++ []
def dkwX0_bestOf_6 : List UInt8 := [132, 5, 1, 167, 255, 192, 132, 4, 1, 167, 255, 176, 42, 180, 0, 99, 3, 42, 180, 0, 96, 3, 42]
abbrev dktX0_bestOf_6 : List UInt8 := dkwX0_bestOf_6 ++ dktX0_bestOf_7
def dkwX0_bestOf_5 : List UInt8 := [21, 5, 120, 2, 130, 126, 46, 42, 180, 0, 93, 16, 16, 21, 5, 104, 29, 96, 46, 96, 184, 1, 60, 79]
abbrev dktX0_bestOf_5 : List UInt8 := dkwX0_bestOf_5 ++ dktX0_bestOf_6
def dkwX0_bestOf_4 : List UInt8 := [153, 0, 47, 42, 180, 0, 99, 21, 4, 42, 180, 0, 99, 21, 4, 46, 42, 180, 0, 96, 21, 4, 4]
abbrev dktX0_bestOf_4 : List UInt8 := dkwX0_bestOf_4 ++ dktX0_bestOf_5
def dkwX0_bestOf_3 : List UInt8 := [21, 4, 16, 64, 162, 0, 79, 3, 54, 5, 21, 5, 16, 6, 162, 0, 63, 21, 4, 21, 5, 184, 1, 38]
abbrev dktX0_bestOf_3 : List UInt8 := dkwX0_bestOf_3 ++ dktX0_bestOf_4
def dkwX0_bestOf_2 : List UInt8 := [167, 0, 125, 42, 180, 0, 96, 3, 42, 180, 0, 99, 3, 42, 180, 0, 96, 190, 184, 1, 115, 4, 54, 4]
abbrev dktX0_bestOf_2 : List UInt8 := dkwX0_bestOf_2 ++ dktX0_bestOf_3
def dkwX0_bestOf_1 : List UInt8 := [79, 132, 3, 1, 167, 255, 230, 3, 62, 29, 16, 16, 162, 0, 142, 28, 29, 184, 1, 38, 153, 0, 6]
abbrev dktX0_bestOf_1 : List UInt8 := dkwX0_bestOf_1 ++ dktX0_bestOf_2
def dkwX0_bestOf_0 : List UInt8 := [3, 62, 29, 16, 64, 162, 0, 26, 42, 180, 0, 96, 29, 29, 154, 0, 7, 3, 167, 0, 6, 19, 1, 114]
abbrev dktX0_bestOf_0 : List UInt8 := dkwX0_bestOf_0 ++ dktX0_bestOf_1
theorem dksX0_bestOf_0 : cX0_bestOf.data.toList.drop 0 = dktX0_bestOf_0 := by decide +kernel
theorem dksX0_bestOf_1 : cX0_bestOf.data.toList.drop 24 = dktX0_bestOf_1 := dk_seg dksX0_bestOf_0 24 rfl rfl
theorem dksX0_bestOf_2 : cX0_bestOf.data.toList.drop 47 = dktX0_bestOf_2 := dk_seg dksX0_bestOf_1 23 rfl rfl
theorem dksX0_bestOf_3 : cX0_bestOf.data.toList.drop 71 = dktX0_bestOf_3 := dk_seg dksX0_bestOf_2 24 rfl rfl
theorem dksX0_bestOf_4 : cX0_bestOf.data.toList.drop 95 = dktX0_bestOf_4 := dk_seg dksX0_bestOf_3 24 rfl rfl
theorem dksX0_bestOf_5 : cX0_bestOf.data.toList.drop 118 = dktX0_bestOf_5 := dk_seg dksX0_bestOf_4 23 rfl rfl
theorem dksX0_bestOf_6 : cX0_bestOf.data.toList.drop 142 = dktX0_bestOf_6 := dk_seg dksX0_bestOf_5 24 rfl rfl
theorem dksX0_bestOf_7 : cX0_bestOf.data.toList.drop 165 = dktX0_bestOf_7 := dk_seg dksX0_bestOf_6 23 rfl rfl
theorem dX0_bestOf_0 : decode cX0_bestOf 0 = .ok (.iconst 0, 1) := dk_3 (dk_at dksX0_bestOf_0 0 rfl rfl)
theorem dX0_bestOf_1 : decode cX0_bestOf 1 = .ok (.istore_n 3, 1) := dk_62 (dk_at dksX0_bestOf_0 1 rfl rfl)
theorem dX0_bestOf_2 : decode cX0_bestOf 2 = .ok (.iload_n 3, 1) := dk_29 (dk_at dksX0_bestOf_0 2 rfl rfl)
theorem dX0_bestOf_3 : decode cX0_bestOf 3 = .ok (.bipush 64, 2) := dk_16 64 (dk_at dksX0_bestOf_0 3 rfl rfl)
theorem dX0_bestOf_5 : decode cX0_bestOf 5 = .ok (.if_icmp .ge 26, 3) := dk_162 0 26 (dk_at dksX0_bestOf_0 5 rfl rfl)
theorem dX0_bestOf_8 : decode cX0_bestOf 8 = .ok (.aload_n 0, 1) := dk_42 (dk_at dksX0_bestOf_0 8 rfl rfl)
theorem dX0_bestOf_9 : decode cX0_bestOf 9 = .ok (.getfield 96, 3) := dk_180 0 96 (dk_at dksX0_bestOf_0 9 rfl rfl)
theorem dX0_bestOf_12 : decode cX0_bestOf 12 = .ok (.iload_n 3, 1) := dk_29 (dk_at dksX0_bestOf_0 12 rfl rfl)
theorem dX0_bestOf_13 : decode cX0_bestOf 13 = .ok (.iload_n 3, 1) := dk_29 (dk_at dksX0_bestOf_0 13 rfl rfl)
theorem dX0_bestOf_14 : decode cX0_bestOf 14 = .ok (.ifCond .ne 7, 3) := dk_154 0 7 (dk_at dksX0_bestOf_0 14 rfl rfl)
theorem dX0_bestOf_17 : decode cX0_bestOf 17 = .ok (.iconst 0, 1) := dk_3 (dk_at dksX0_bestOf_0 17 rfl rfl)
theorem dX0_bestOf_18 : decode cX0_bestOf 18 = .ok (.goto 6, 3) := dk_167 0 6 (dk_at dksX0_bestOf_0 18 rfl rfl)
theorem dX0_bestOf_21 : decode cX0_bestOf 21 = .ok (.ldc_w 370, 3) := dk_19 1 114 (dk_at dksX0_bestOf_0 21 rfl rfl)
theorem dX0_bestOf_24 : decode cX0_bestOf 24 = .ok (.iastore, 1) := dk_79 (dk_at dksX0_bestOf_1 0 rfl rfl)
theorem dX0_bestOf_25 : decode cX0_bestOf 25 = .ok (.iinc 3 1, 3) := dk_132 3 1 (dk_at dksX0_bestOf_1 1 rfl rfl)
theorem dX0_bestOf_28 : decode cX0_bestOf 28 = .ok (.goto (-26), 3) := dk_167 255 230 (dk_at dksX0_bestOf_1 4 rfl rfl)
theorem dX0_bestOf_31 : decode cX0_bestOf 31 = .ok (.iconst 0, 1) := dk_3 (dk_at dksX0_bestOf_1 7 rfl rfl)
theorem dX0_bestOf_32 : decode cX0_bestOf 32 = .ok (.istore_n 3, 1) := dk_62 (dk_at dksX0_bestOf_1 8 rfl rfl)
theorem dX0_bestOf_33 : decode cX0_bestOf 33 = .ok (.iload_n 3, 1) := dk_29 (dk_at dksX0_bestOf_1 9 rfl rfl)
theorem dX0_bestOf_34 : decode cX0_bestOf 34 = .ok (.bipush 16, 2) := dk_16 16 (dk_at dksX0_bestOf_1 10 rfl rfl)
theorem dX0_bestOf_36 : decode cX0_bestOf 36 = .ok (.if_icmp .ge 142, 3) := dk_162 0 142 (dk_at dksX0_bestOf_1 12 rfl rfl)
theorem dX0_bestOf_39 : decode cX0_bestOf 39 = .ok (.iload_n 2, 1) := dk_28 (dk_at dksX0_bestOf_1 15 rfl rfl)
theorem dX0_bestOf_40 : decode cX0_bestOf 40 = .ok (.iload_n 3, 1) := dk_29 (dk_at dksX0_bestOf_1 16 rfl rfl)
theorem dX0_bestOf_41 : decode cX0_bestOf 41 = .ok (.invokestatic 294, 3) := dk_184 1 38 (dk_at dksX0_bestOf_1 17 rfl rfl)
theorem dX0_bestOf_44 : decode cX0_bestOf 44 = .ok (.ifCond .eq 6, 3) := dk_153 0 6 (dk_at dksX0_bestOf_1 20 rfl rfl)
theorem dX0_bestOf_47 : decode cX0_bestOf 47 = .ok (.goto 125, 3) := dk_167 0 125 (dk_at dksX0_bestOf_2 0 rfl rfl)
theorem dX0_bestOf_50 : decode cX0_bestOf 50 = .ok (.aload_n 0, 1) := dk_42 (dk_at dksX0_bestOf_2 3 rfl rfl)
theorem dX0_bestOf_51 : decode cX0_bestOf 51 = .ok (.getfield 96, 3) := dk_180 0 96 (dk_at dksX0_bestOf_2 4 rfl rfl)
theorem dX0_bestOf_54 : decode cX0_bestOf 54 = .ok (.iconst 0, 1) := dk_3 (dk_at dksX0_bestOf_2 7 rfl rfl)
theorem dX0_bestOf_55 : decode cX0_bestOf 55 = .ok (.aload_n 0, 1) := dk_42 (dk_at dksX0_bestOf_2 8 rfl rfl)
theorem dX0_bestOf_56 : decode cX0_bestOf 56 = .ok (.getfield 99, 3) := dk_180 0 99 (dk_at dksX0_bestOf_2 9 rfl rfl)
theorem dX0_bestOf_59 : decode cX0_bestOf 59 = .ok (.iconst 0, 1) := dk_3 (dk_at dksX0_bestOf_2 12 rfl rfl)
theorem dX0_bestOf_60 : decode cX0_bestOf 60 = .ok (.aload_n 0, 1) := dk_42 (dk_at dksX0_bestOf_2 13 rfl rfl)
theorem dX0_bestOf_61 : decode cX0_bestOf 61 = .ok (.getfield 96, 3) := dk_180 0 96 (dk_at dksX0_bestOf_2 14 rfl rfl)
theorem dX0_bestOf_64 : decode cX0_bestOf 64 = .ok (.arraylength, 1) := dk_190 (dk_at dksX0_bestOf_2 17 rfl rfl)
theorem dX0_bestOf_65 : decode cX0_bestOf 65 = .ok (.invokestatic 371, 3) := dk_184 1 115 (dk_at dksX0_bestOf_2 18 rfl rfl)
theorem dX0_bestOf_68 : decode cX0_bestOf 68 = .ok (.iconst 1, 1) := dk_4 (dk_at dksX0_bestOf_2 21 rfl rfl)
theorem dX0_bestOf_69 : decode cX0_bestOf 69 = .ok (.istore 4, 2) := dk_54 4 (dk_at dksX0_bestOf_2 22 rfl rfl)
theorem dX0_bestOf_71 : decode cX0_bestOf 71 = .ok (.iload 4, 2) := dk_21 4 (dk_at dksX0_bestOf_3 0 rfl rfl)
theorem dX0_bestOf_73 : decode cX0_bestOf 73 = .ok (.bipush 64, 2) := dk_16 64 (dk_at dksX0_bestOf_3 2 rfl rfl)
theorem dX0_bestOf_75 : decode cX0_bestOf 75 = .ok (.if_icmp .ge 79, 3) := dk_162 0 79 (dk_at dksX0_bestOf_3 4 rfl rfl)
theorem dX0_bestOf_78 : decode cX0_bestOf 78 = .ok (.iconst 0, 1) := dk_3 (dk_at dksX0_bestOf_3 7 rfl rfl)
theorem dX0_bestOf_79 : decode cX0_bestOf 79 = .ok (.istore 5, 2) := dk_54 5 (dk_at dksX0_bestOf_3 8 rfl rfl)
theorem dX0_bestOf_81 : decode cX0_bestOf 81 = .ok (.iload 5, 2) := dk_21 5 (dk_at dksX0_bestOf_3 10 rfl rfl)
theorem dX0_bestOf_83 : decode cX0_bestOf 83 = .ok (.bipush 6, 2) := dk_16 6 (dk_at dksX0_bestOf_3 12 rfl rfl)
theorem dX0_bestOf_85 : decode cX0_bestOf 85 = .ok (.if_icmp .ge 63, 3) := dk_162 0 63 (dk_at dksX0_bestOf_3 14 rfl rfl)
theorem dX0_bestOf_88 : decode cX0_bestOf 88 = .ok (.iload 4, 2) := dk_21 4 (dk_at dksX0_bestOf_3 17 rfl rfl)
theorem dX0_bestOf_90 : decode cX0_bestOf 90 = .ok (.iload 5, 2) := dk_21 5 (dk_at dksX0_bestOf_3 19 rfl rfl)
theorem dX0_bestOf_92 : decode cX0_bestOf 92 = .ok (.invokestatic 294, 3) := dk_184 1 38 (dk_at dksX0_bestOf_3 21 rfl rfl)
theorem dX0_bestOf_95 : decode cX0_bestOf 95 = .ok (.ifCond .eq 47, 3) := dk_153 0 47 (dk_at dksX0_bestOf_4 0 rfl rfl)
theorem dX0_bestOf_98 : decode cX0_bestOf 98 = .ok (.aload_n 0, 1) := dk_42 (dk_at dksX0_bestOf_4 3 rfl rfl)
theorem dX0_bestOf_99 : decode cX0_bestOf 99 = .ok (.getfield 99, 3) := dk_180 0 99 (dk_at dksX0_bestOf_4 4 rfl rfl)
theorem dX0_bestOf_102 : decode cX0_bestOf 102 = .ok (.iload 4, 2) := dk_21 4 (dk_at dksX0_bestOf_4 7 rfl rfl)
theorem dX0_bestOf_104 : decode cX0_bestOf 104 = .ok (.aload_n 0, 1) := dk_42 (dk_at dksX0_bestOf_4 9 rfl rfl)
theorem dX0_bestOf_105 : decode cX0_bestOf 105 = .ok (.getfield 99, 3) := dk_180 0 99 (dk_at dksX0_bestOf_4 10 rfl rfl)
theorem dX0_bestOf_108 : decode cX0_bestOf 108 = .ok (.iload 4, 2) := dk_21 4 (dk_at dksX0_bestOf_4 13 rfl rfl)
theorem dX0_bestOf_110 : decode cX0_bestOf 110 = .ok (.iaload, 1) := dk_46 (dk_at dksX0_bestOf_4 15 rfl rfl)
theorem dX0_bestOf_111 : decode cX0_bestOf 111 = .ok (.aload_n 0, 1) := dk_42 (dk_at dksX0_bestOf_4 16 rfl rfl)
theorem dX0_bestOf_112 : decode cX0_bestOf 112 = .ok (.getfield 96, 3) := dk_180 0 96 (dk_at dksX0_bestOf_4 17 rfl rfl)
theorem dX0_bestOf_115 : decode cX0_bestOf 115 = .ok (.iload 4, 2) := dk_21 4 (dk_at dksX0_bestOf_4 20 rfl rfl)
theorem dX0_bestOf_117 : decode cX0_bestOf 117 = .ok (.iconst 1, 1) := dk_4 (dk_at dksX0_bestOf_4 22 rfl rfl)
theorem dX0_bestOf_118 : decode cX0_bestOf 118 = .ok (.iload 5, 2) := dk_21 5 (dk_at dksX0_bestOf_5 0 rfl rfl)
theorem dX0_bestOf_120 : decode cX0_bestOf 120 = .ok (.ishl, 1) := dk_120 (dk_at dksX0_bestOf_5 2 rfl rfl)
theorem dX0_bestOf_121 : decode cX0_bestOf 121 = .ok (.iconst (-1), 1) := dk_2 (dk_at dksX0_bestOf_5 3 rfl rfl)
theorem dX0_bestOf_122 : decode cX0_bestOf 122 = .ok (.ixor, 1) := dk_130 (dk_at dksX0_bestOf_5 4 rfl rfl)
theorem dX0_bestOf_123 : decode cX0_bestOf 123 = .ok (.iand, 1) := dk_126 (dk_at dksX0_bestOf_5 5 rfl rfl)
theorem dX0_bestOf_124 : decode cX0_bestOf 124 = .ok (.iaload, 1) := dk_46 (dk_at dksX0_bestOf_5 6 rfl rfl)
theorem dX0_bestOf_125 : decode cX0_bestOf 125 = .ok (.aload_n 0, 1) := dk_42 (dk_at dksX0_bestOf_5 7 rfl rfl)
theorem dX0_bestOf_126 : decode cX0_bestOf 126 = .ok (.getfield 93, 3) := dk_180 0 93 (dk_at dksX0_bestOf_5 8 rfl rfl)
theorem dX0_bestOf_129 : decode cX0_bestOf 129 = .ok (.bipush 16, 2) := dk_16 16 (dk_at dksX0_bestOf_5 11 rfl rfl)
theorem dX0_bestOf_131 : decode cX0_bestOf 131 = .ok (.iload 5, 2) := dk_21 5 (dk_at dksX0_bestOf_5 13 rfl rfl)
theorem dX0_bestOf_133 : decode cX0_bestOf 133 = .ok (.imul, 1) := dk_104 (dk_at dksX0_bestOf_5 15 rfl rfl)
theorem dX0_bestOf_134 : decode cX0_bestOf 134 = .ok (.iload_n 3, 1) := dk_29 (dk_at dksX0_bestOf_5 16 rfl rfl)
theorem dX0_bestOf_135 : decode cX0_bestOf 135 = .ok (.iadd, 1) := dk_96 (dk_at dksX0_bestOf_5 17 rfl rfl)
theorem dX0_bestOf_136 : decode cX0_bestOf 136 = .ok (.iaload, 1) := dk_46 (dk_at dksX0_bestOf_5 18 rfl rfl)
theorem dX0_bestOf_137 : decode cX0_bestOf 137 = .ok (.iadd, 1) := dk_96 (dk_at dksX0_bestOf_5 19 rfl rfl)
theorem dX0_bestOf_138 : decode cX0_bestOf 138 = .ok (.invokestatic 316, 3) := dk_184 1 60 (dk_at dksX0_bestOf_5 20 rfl rfl)
theorem dX0_bestOf_141 : decode cX0_bestOf 141 = .ok (.iastore, 1) := dk_79 (dk_at dksX0_bestOf_5 23 rfl rfl)
theorem dX0_bestOf_142 : decode cX0_bestOf 142 = .ok (.iinc 5 1, 3) := dk_132 5 1 (dk_at dksX0_bestOf_6 0 rfl rfl)
theorem dX0_bestOf_145 : decode cX0_bestOf 145 = .ok (.goto (-64), 3) := dk_167 255 192 (dk_at dksX0_bestOf_6 3 rfl rfl)
theorem dX0_bestOf_148 : decode cX0_bestOf 148 = .ok (.iinc 4 1, 3) := dk_132 4 1 (dk_at dksX0_bestOf_6 6 rfl rfl)
theorem dX0_bestOf_151 : decode cX0_bestOf 151 = .ok (.goto (-80), 3) := dk_167 255 176 (dk_at dksX0_bestOf_6 9 rfl rfl)
theorem dX0_bestOf_154 : decode cX0_bestOf 154 = .ok (.aload_n 0, 1) := dk_42 (dk_at dksX0_bestOf_6 12 rfl rfl)
theorem dX0_bestOf_155 : decode cX0_bestOf 155 = .ok (.getfield 99, 3) := dk_180 0 99 (dk_at dksX0_bestOf_6 13 rfl rfl)
theorem dX0_bestOf_158 : decode cX0_bestOf 158 = .ok (.iconst 0, 1) := dk_3 (dk_at dksX0_bestOf_6 16 rfl rfl)
theorem dX0_bestOf_159 : decode cX0_bestOf 159 = .ok (.aload_n 0, 1) := dk_42 (dk_at dksX0_bestOf_6 17 rfl rfl)
theorem dX0_bestOf_160 : decode cX0_bestOf 160 = .ok (.getfield 96, 3) := dk_180 0 96 (dk_at dksX0_bestOf_6 18 rfl rfl)
theorem dX0_bestOf_163 : decode cX0_bestOf 163 = .ok (.iconst 0, 1) := dk_3 (dk_at dksX0_bestOf_6 21 rfl rfl)
theorem dX0_bestOf_164 : decode cX0_bestOf 164 = .ok (.aload_n 0, 1) := dk_42 (dk_at dksX0_bestOf_6 22 rfl rfl)
theorem dX0_bestOf_165 : decode cX0_bestOf 165 = .ok (.getfield 96, 3) := dk_180 0 96 (dk_at dksX0_bestOf_7 0 rfl rfl)
theorem dX0_bestOf_168 : decode cX0_bestOf 168 = .ok (.arraylength, 1) := dk_190 (dk_at dksX0_bestOf_7 3 rfl rfl)
theorem dX0_bestOf_169 : decode cX0_bestOf 169 = .ok (.invokestatic 371, 3) := dk_184 1 115 (dk_at dksX0_bestOf_7 4 rfl rfl)
theorem dX0_bestOf_172 : decode cX0_bestOf 172 = .ok (.iinc 3 1, 3) := dk_132 3 1 (dk_at dksX0_bestOf_7 7 rfl rfl)
theorem dX0_bestOf_175 : decode cX0_bestOf 175 = .ok (.goto (-142), 3) := dk_167 255 114 (dk_at dksX0_bestOf_7 10 rfl rfl)
theorem dX0_bestOf_178 : decode cX0_bestOf 178 = .ok (.aload_n 0, 1) := dk_42 (dk_at dksX0_bestOf_7 13 rfl rfl)
theorem dX0_bestOf_179 : decode cX0_bestOf 179 = .ok (.getfield 96, 3) := dk_180 0 96 (dk_at dksX0_bestOf_7 14 rfl rfl)
theorem dX0_bestOf_182 : decode cX0_bestOf 182 = .ok (.iload_n 1, 1) := dk_27 (dk_at dksX0_bestOf_7 17 rfl rfl)
theorem dX0_bestOf_183 : decode cX0_bestOf 183 = .ok (.iaload, 1) := dk_46 (dk_at dksX0_bestOf_7 18 rfl rfl)
theorem dX0_bestOf_184 : decode cX0_bestOf 184 = .ok (.ireturn, 1) := dk_172 (dk_at dksX0_bestOf_7 19 rfl rfl)
abbrev cX0_sight : ByteArray := prog_1_method_65_code
def yX0_sight : MethodName := ⟨RX0, "sight", "(III)I"⟩
def dkwX0_sight_5 : List UInt8 := [180, 1, 124, 4, 96, 181, 1, 124, 42, 42, 180, 0, 39, 180, 1, 124, 182, 0, 124, 172]
abbrev dktX0_sight_5 : List UInt8 := dkwX0_sight_5 ++ []
def dkwX0_sight_4 : List UInt8 := [180, 0, 39, 180, 1, 127, 6, 42, 180, 0, 39, 180, 1, 124, 104, 5, 96, 29, 79, 42, 180, 0, 39, 89]
abbrev dktX0_sight_4 : List UInt8 := dkwX0_sight_4 ++ dktX0_sight_5
def dkwX0_sight_3 : List UInt8 := [79, 42, 180, 0, 39, 180, 1, 127, 6, 42, 180, 0, 39, 180, 1, 124, 104, 4, 96, 28, 79, 42]
abbrev dktX0_sight_3 : List UInt8 := dkwX0_sight_3 ++ dktX0_sight_4
def dkwX0_sight_2 : List UInt8 := [42, 16, 251, 182, 0, 130, 172, 42, 180, 0, 39, 180, 1, 127, 6, 42, 180, 0, 39, 180, 1, 124, 104, 27]
abbrev dktX0_sight_2 : List UInt8 := dkwX0_sight_2 ++ dktX0_sight_3
def dkwX0_sight_1 : List UInt8 := [184, 0, 187, 154, 0, 9, 42, 2, 182, 0, 130, 172, 42, 180, 0, 39, 180, 1, 124, 16, 8, 160, 0, 10]
abbrev dktX0_sight_1 : List UInt8 := dkwX0_sight_1 ++ dktX0_sight_2
def dkwX0_sight_0 : List UInt8 := [27, 3, 16, 9, 184, 0, 26, 153, 0, 22, 28, 184, 0, 149, 153, 0, 15, 29, 2, 159, 0, 16, 29]
abbrev dktX0_sight_0 : List UInt8 := dkwX0_sight_0 ++ dktX0_sight_1
theorem dksX0_sight_0 : cX0_sight.data.toList.drop 0 = dktX0_sight_0 := by decide +kernel
theorem dksX0_sight_1 : cX0_sight.data.toList.drop 23 = dktX0_sight_1 := dk_seg dksX0_sight_0 23 rfl rfl
theorem dksX0_sight_2 : cX0_sight.data.toList.drop 47 = dktX0_sight_2 := dk_seg dksX0_sight_1 24 rfl rfl
theorem dksX0_sight_3 : cX0_sight.data.toList.drop 71 = dktX0_sight_3 := dk_seg dksX0_sight_2 24 rfl rfl
theorem dksX0_sight_4 : cX0_sight.data.toList.drop 93 = dktX0_sight_4 := dk_seg dksX0_sight_3 22 rfl rfl
theorem dksX0_sight_5 : cX0_sight.data.toList.drop 117 = dktX0_sight_5 := dk_seg dksX0_sight_4 24 rfl rfl
theorem dX0_sight_0 : decode cX0_sight 0 = .ok (.iload_n 1, 1) := dk_27 (dk_at dksX0_sight_0 0 rfl rfl)
theorem dX0_sight_1 : decode cX0_sight 1 = .ok (.iconst 0, 1) := dk_3 (dk_at dksX0_sight_0 1 rfl rfl)
theorem dX0_sight_2 : decode cX0_sight 2 = .ok (.bipush 9, 2) := dk_16 9 (dk_at dksX0_sight_0 2 rfl rfl)
theorem dX0_sight_4 : decode cX0_sight 4 = .ok (.invokestatic 26, 3) := dk_184 0 26 (dk_at dksX0_sight_0 4 rfl rfl)
theorem dX0_sight_7 : decode cX0_sight 7 = .ok (.ifCond .eq 22, 3) := dk_153 0 22 (dk_at dksX0_sight_0 7 rfl rfl)
theorem dX0_sight_10 : decode cX0_sight 10 = .ok (.iload_n 2, 1) := dk_28 (dk_at dksX0_sight_0 10 rfl rfl)
theorem dX0_sight_11 : decode cX0_sight 11 = .ok (.invokestatic 149, 3) := dk_184 0 149 (dk_at dksX0_sight_0 11 rfl rfl)
theorem dX0_sight_14 : decode cX0_sight 14 = .ok (.ifCond .eq 15, 3) := dk_153 0 15 (dk_at dksX0_sight_0 14 rfl rfl)
theorem dX0_sight_17 : decode cX0_sight 17 = .ok (.iload_n 3, 1) := dk_29 (dk_at dksX0_sight_0 17 rfl rfl)
theorem dX0_sight_18 : decode cX0_sight 18 = .ok (.iconst (-1), 1) := dk_2 (dk_at dksX0_sight_0 18 rfl rfl)
theorem dX0_sight_19 : decode cX0_sight 19 = .ok (.if_icmp .eq 16, 3) := dk_159 0 16 (dk_at dksX0_sight_0 19 rfl rfl)
theorem dX0_sight_22 : decode cX0_sight 22 = .ok (.iload_n 3, 1) := dk_29 (dk_at dksX0_sight_0 22 rfl rfl)
theorem dX0_sight_23 : decode cX0_sight 23 = .ok (.invokestatic 187, 3) := dk_184 0 187 (dk_at dksX0_sight_1 0 rfl rfl)
theorem dX0_sight_26 : decode cX0_sight 26 = .ok (.ifCond .ne 9, 3) := dk_154 0 9 (dk_at dksX0_sight_1 3 rfl rfl)
theorem dX0_sight_29 : decode cX0_sight 29 = .ok (.aload_n 0, 1) := dk_42 (dk_at dksX0_sight_1 6 rfl rfl)
theorem dX0_sight_30 : decode cX0_sight 30 = .ok (.iconst (-1), 1) := dk_2 (dk_at dksX0_sight_1 7 rfl rfl)
theorem dX0_sight_31 : decode cX0_sight 31 = .ok (.invokevirtual 130, 3) := dk_182 0 130 (dk_at dksX0_sight_1 8 rfl rfl)
theorem dX0_sight_34 : decode cX0_sight 34 = .ok (.ireturn, 1) := dk_172 (dk_at dksX0_sight_1 11 rfl rfl)
theorem dX0_sight_35 : decode cX0_sight 35 = .ok (.aload_n 0, 1) := dk_42 (dk_at dksX0_sight_1 12 rfl rfl)
theorem dX0_sight_36 : decode cX0_sight 36 = .ok (.getfield 39, 3) := dk_180 0 39 (dk_at dksX0_sight_1 13 rfl rfl)
theorem dX0_sight_39 : decode cX0_sight 39 = .ok (.getfield 380, 3) := dk_180 1 124 (dk_at dksX0_sight_1 16 rfl rfl)
theorem dX0_sight_42 : decode cX0_sight 42 = .ok (.bipush 8, 2) := dk_16 8 (dk_at dksX0_sight_1 19 rfl rfl)
theorem dX0_sight_44 : decode cX0_sight 44 = .ok (.if_icmp .ne 10, 3) := dk_160 0 10 (dk_at dksX0_sight_1 21 rfl rfl)
theorem dX0_sight_47 : decode cX0_sight 47 = .ok (.aload_n 0, 1) := dk_42 (dk_at dksX0_sight_2 0 rfl rfl)
theorem dX0_sight_48 : decode cX0_sight 48 = .ok (.bipush (-5), 2) := dk_16 251 (dk_at dksX0_sight_2 1 rfl rfl)
theorem dX0_sight_50 : decode cX0_sight 50 = .ok (.invokevirtual 130, 3) := dk_182 0 130 (dk_at dksX0_sight_2 3 rfl rfl)
theorem dX0_sight_53 : decode cX0_sight 53 = .ok (.ireturn, 1) := dk_172 (dk_at dksX0_sight_2 6 rfl rfl)
theorem dX0_sight_54 : decode cX0_sight 54 = .ok (.aload_n 0, 1) := dk_42 (dk_at dksX0_sight_2 7 rfl rfl)
theorem dX0_sight_55 : decode cX0_sight 55 = .ok (.getfield 39, 3) := dk_180 0 39 (dk_at dksX0_sight_2 8 rfl rfl)
theorem dX0_sight_58 : decode cX0_sight 58 = .ok (.getfield 383, 3) := dk_180 1 127 (dk_at dksX0_sight_2 11 rfl rfl)
theorem dX0_sight_61 : decode cX0_sight 61 = .ok (.iconst 3, 1) := dk_6 (dk_at dksX0_sight_2 14 rfl rfl)
theorem dX0_sight_62 : decode cX0_sight 62 = .ok (.aload_n 0, 1) := dk_42 (dk_at dksX0_sight_2 15 rfl rfl)
theorem dX0_sight_63 : decode cX0_sight 63 = .ok (.getfield 39, 3) := dk_180 0 39 (dk_at dksX0_sight_2 16 rfl rfl)
theorem dX0_sight_66 : decode cX0_sight 66 = .ok (.getfield 380, 3) := dk_180 1 124 (dk_at dksX0_sight_2 19 rfl rfl)
theorem dX0_sight_69 : decode cX0_sight 69 = .ok (.imul, 1) := dk_104 (dk_at dksX0_sight_2 22 rfl rfl)
theorem dX0_sight_70 : decode cX0_sight 70 = .ok (.iload_n 1, 1) := dk_27 (dk_at dksX0_sight_2 23 rfl rfl)
theorem dX0_sight_71 : decode cX0_sight 71 = .ok (.iastore, 1) := dk_79 (dk_at dksX0_sight_3 0 rfl rfl)
theorem dX0_sight_72 : decode cX0_sight 72 = .ok (.aload_n 0, 1) := dk_42 (dk_at dksX0_sight_3 1 rfl rfl)
theorem dX0_sight_73 : decode cX0_sight 73 = .ok (.getfield 39, 3) := dk_180 0 39 (dk_at dksX0_sight_3 2 rfl rfl)
theorem dX0_sight_76 : decode cX0_sight 76 = .ok (.getfield 383, 3) := dk_180 1 127 (dk_at dksX0_sight_3 5 rfl rfl)
theorem dX0_sight_79 : decode cX0_sight 79 = .ok (.iconst 3, 1) := dk_6 (dk_at dksX0_sight_3 8 rfl rfl)
theorem dX0_sight_80 : decode cX0_sight 80 = .ok (.aload_n 0, 1) := dk_42 (dk_at dksX0_sight_3 9 rfl rfl)
theorem dX0_sight_81 : decode cX0_sight 81 = .ok (.getfield 39, 3) := dk_180 0 39 (dk_at dksX0_sight_3 10 rfl rfl)
theorem dX0_sight_84 : decode cX0_sight 84 = .ok (.getfield 380, 3) := dk_180 1 124 (dk_at dksX0_sight_3 13 rfl rfl)
theorem dX0_sight_87 : decode cX0_sight 87 = .ok (.imul, 1) := dk_104 (dk_at dksX0_sight_3 16 rfl rfl)
theorem dX0_sight_88 : decode cX0_sight 88 = .ok (.iconst 1, 1) := dk_4 (dk_at dksX0_sight_3 17 rfl rfl)
theorem dX0_sight_89 : decode cX0_sight 89 = .ok (.iadd, 1) := dk_96 (dk_at dksX0_sight_3 18 rfl rfl)
theorem dX0_sight_90 : decode cX0_sight 90 = .ok (.iload_n 2, 1) := dk_28 (dk_at dksX0_sight_3 19 rfl rfl)
theorem dX0_sight_91 : decode cX0_sight 91 = .ok (.iastore, 1) := dk_79 (dk_at dksX0_sight_3 20 rfl rfl)
theorem dX0_sight_92 : decode cX0_sight 92 = .ok (.aload_n 0, 1) := dk_42 (dk_at dksX0_sight_3 21 rfl rfl)
theorem dX0_sight_93 : decode cX0_sight 93 = .ok (.getfield 39, 3) := dk_180 0 39 (dk_at dksX0_sight_4 0 rfl rfl)
theorem dX0_sight_96 : decode cX0_sight 96 = .ok (.getfield 383, 3) := dk_180 1 127 (dk_at dksX0_sight_4 3 rfl rfl)
theorem dX0_sight_99 : decode cX0_sight 99 = .ok (.iconst 3, 1) := dk_6 (dk_at dksX0_sight_4 6 rfl rfl)
theorem dX0_sight_100 : decode cX0_sight 100 = .ok (.aload_n 0, 1) := dk_42 (dk_at dksX0_sight_4 7 rfl rfl)
theorem dX0_sight_101 : decode cX0_sight 101 = .ok (.getfield 39, 3) := dk_180 0 39 (dk_at dksX0_sight_4 8 rfl rfl)
theorem dX0_sight_104 : decode cX0_sight 104 = .ok (.getfield 380, 3) := dk_180 1 124 (dk_at dksX0_sight_4 11 rfl rfl)
theorem dX0_sight_107 : decode cX0_sight 107 = .ok (.imul, 1) := dk_104 (dk_at dksX0_sight_4 14 rfl rfl)
theorem dX0_sight_108 : decode cX0_sight 108 = .ok (.iconst 2, 1) := dk_5 (dk_at dksX0_sight_4 15 rfl rfl)
theorem dX0_sight_109 : decode cX0_sight 109 = .ok (.iadd, 1) := dk_96 (dk_at dksX0_sight_4 16 rfl rfl)
theorem dX0_sight_110 : decode cX0_sight 110 = .ok (.iload_n 3, 1) := dk_29 (dk_at dksX0_sight_4 17 rfl rfl)
theorem dX0_sight_111 : decode cX0_sight 111 = .ok (.iastore, 1) := dk_79 (dk_at dksX0_sight_4 18 rfl rfl)
theorem dX0_sight_112 : decode cX0_sight 112 = .ok (.aload_n 0, 1) := dk_42 (dk_at dksX0_sight_4 19 rfl rfl)
theorem dX0_sight_113 : decode cX0_sight 113 = .ok (.getfield 39, 3) := dk_180 0 39 (dk_at dksX0_sight_4 20 rfl rfl)
theorem dX0_sight_116 : decode cX0_sight 116 = .ok (.dup, 1) := dk_89 (dk_at dksX0_sight_4 23 rfl rfl)
theorem dX0_sight_117 : decode cX0_sight 117 = .ok (.getfield 380, 3) := dk_180 1 124 (dk_at dksX0_sight_5 0 rfl rfl)
theorem dX0_sight_120 : decode cX0_sight 120 = .ok (.iconst 1, 1) := dk_4 (dk_at dksX0_sight_5 3 rfl rfl)
theorem dX0_sight_121 : decode cX0_sight 121 = .ok (.iadd, 1) := dk_96 (dk_at dksX0_sight_5 4 rfl rfl)
theorem dX0_sight_122 : decode cX0_sight 122 = .ok (.putfield 380, 3) := dk_181 1 124 (dk_at dksX0_sight_5 5 rfl rfl)
theorem dX0_sight_125 : decode cX0_sight 125 = .ok (.aload_n 0, 1) := dk_42 (dk_at dksX0_sight_5 8 rfl rfl)
theorem dX0_sight_126 : decode cX0_sight 126 = .ok (.aload_n 0, 1) := dk_42 (dk_at dksX0_sight_5 9 rfl rfl)
theorem dX0_sight_127 : decode cX0_sight 127 = .ok (.getfield 39, 3) := dk_180 0 39 (dk_at dksX0_sight_5 10 rfl rfl)
theorem dX0_sight_130 : decode cX0_sight 130 = .ok (.getfield 380, 3) := dk_180 1 124 (dk_at dksX0_sight_5 13 rfl rfl)
theorem dX0_sight_133 : decode cX0_sight 133 = .ok (.invokevirtual 124, 3) := dk_182 0 124 (dk_at dksX0_sight_5 16 rfl rfl)
theorem dX0_sight_136 : decode cX0_sight 136 = .ok (.ireturn, 1) := dk_172 (dk_at dksX0_sight_5 19 rfl rfl)
abbrev cX0_forget : ByteArray := prog_1_method_66_code
def yX0_forget : MethodName := ⟨RX0, "forget", "()I"⟩
def dkwX0_forget_0 : List UInt8 := [42, 180, 0, 39, 180, 1, 124, 60, 42, 180, 0, 39, 3, 181, 1, 124, 27, 172]
abbrev dktX0_forget_0 : List UInt8 := dkwX0_forget_0 ++ []
theorem dksX0_forget_0 : cX0_forget.data.toList.drop 0 = dktX0_forget_0 := by decide +kernel
theorem dX0_forget_0 : decode cX0_forget 0 = .ok (.aload_n 0, 1) := dk_42 (dk_at dksX0_forget_0 0 rfl rfl)
theorem dX0_forget_1 : decode cX0_forget 1 = .ok (.getfield 39, 3) := dk_180 0 39 (dk_at dksX0_forget_0 1 rfl rfl)
theorem dX0_forget_4 : decode cX0_forget 4 = .ok (.getfield 380, 3) := dk_180 1 124 (dk_at dksX0_forget_0 4 rfl rfl)
theorem dX0_forget_7 : decode cX0_forget 7 = .ok (.istore_n 1, 1) := dk_60 (dk_at dksX0_forget_0 7 rfl rfl)
theorem dX0_forget_8 : decode cX0_forget 8 = .ok (.aload_n 0, 1) := dk_42 (dk_at dksX0_forget_0 8 rfl rfl)
theorem dX0_forget_9 : decode cX0_forget 9 = .ok (.getfield 39, 3) := dk_180 0 39 (dk_at dksX0_forget_0 9 rfl rfl)
theorem dX0_forget_12 : decode cX0_forget 12 = .ok (.iconst 0, 1) := dk_3 (dk_at dksX0_forget_0 12 rfl rfl)
theorem dX0_forget_13 : decode cX0_forget 13 = .ok (.putfield 380, 3) := dk_181 1 124 (dk_at dksX0_forget_0 13 rfl rfl)
theorem dX0_forget_16 : decode cX0_forget 16 = .ok (.iload_n 1, 1) := dk_27 (dk_at dksX0_forget_0 16 rfl rfl)
theorem dX0_forget_17 : decode cX0_forget 17 = .ok (.ireturn, 1) := dk_172 (dk_at dksX0_forget_0 17 rfl rfl)
abbrev cX0_hidden : ByteArray := prog_1_method_69_code
def yX0_hidden : MethodName := ⟨RX0, "hidden", "(I)I"⟩
def dkwX0_hidden_1 : List UInt8 := [162, 0, 12, 42, 180, 0, 102, 27, 46, 167, 0, 4, 2, 172]
abbrev dktX0_hidden_1 : List UInt8 := dkwX0_hidden_1 ++ []
def dkwX0_hidden_0 : List UInt8 := [27, 2, 162, 0, 5, 2, 172, 42, 182, 1, 133, 61, 27, 2, 160, 0, 7, 28, 167, 0, 18, 27, 28]
abbrev dktX0_hidden_0 : List UInt8 := dkwX0_hidden_0 ++ dktX0_hidden_1
theorem dksX0_hidden_0 : cX0_hidden.data.toList.drop 0 = dktX0_hidden_0 := by decide +kernel
theorem dksX0_hidden_1 : cX0_hidden.data.toList.drop 23 = dktX0_hidden_1 := dk_seg dksX0_hidden_0 23 rfl rfl
theorem dX0_hidden_0 : decode cX0_hidden 0 = .ok (.iload_n 1, 1) := dk_27 (dk_at dksX0_hidden_0 0 rfl rfl)
theorem dX0_hidden_1 : decode cX0_hidden 1 = .ok (.iconst (-1), 1) := dk_2 (dk_at dksX0_hidden_0 1 rfl rfl)
theorem dX0_hidden_2 : decode cX0_hidden 2 = .ok (.if_icmp .ge 5, 3) := dk_162 0 5 (dk_at dksX0_hidden_0 2 rfl rfl)
theorem dX0_hidden_5 : decode cX0_hidden 5 = .ok (.iconst (-1), 1) := dk_2 (dk_at dksX0_hidden_0 5 rfl rfl)
theorem dX0_hidden_6 : decode cX0_hidden 6 = .ok (.ireturn, 1) := dk_172 (dk_at dksX0_hidden_0 6 rfl rfl)
theorem dX0_hidden_7 : decode cX0_hidden 7 = .ok (.aload_n 0, 1) := dk_42 (dk_at dksX0_hidden_0 7 rfl rfl)
theorem dX0_hidden_8 : decode cX0_hidden 8 = .ok (.invokevirtual 389, 3) := dk_182 1 133 (dk_at dksX0_hidden_0 8 rfl rfl)
theorem dX0_hidden_11 : decode cX0_hidden 11 = .ok (.istore_n 2, 1) := dk_61 (dk_at dksX0_hidden_0 11 rfl rfl)
theorem dX0_hidden_12 : decode cX0_hidden 12 = .ok (.iload_n 1, 1) := dk_27 (dk_at dksX0_hidden_0 12 rfl rfl)
theorem dX0_hidden_13 : decode cX0_hidden 13 = .ok (.iconst (-1), 1) := dk_2 (dk_at dksX0_hidden_0 13 rfl rfl)
theorem dX0_hidden_14 : decode cX0_hidden 14 = .ok (.if_icmp .ne 7, 3) := dk_160 0 7 (dk_at dksX0_hidden_0 14 rfl rfl)
theorem dX0_hidden_17 : decode cX0_hidden 17 = .ok (.iload_n 2, 1) := dk_28 (dk_at dksX0_hidden_0 17 rfl rfl)
theorem dX0_hidden_18 : decode cX0_hidden 18 = .ok (.goto 18, 3) := dk_167 0 18 (dk_at dksX0_hidden_0 18 rfl rfl)
theorem dX0_hidden_21 : decode cX0_hidden 21 = .ok (.iload_n 1, 1) := dk_27 (dk_at dksX0_hidden_0 21 rfl rfl)
theorem dX0_hidden_22 : decode cX0_hidden 22 = .ok (.iload_n 2, 1) := dk_28 (dk_at dksX0_hidden_0 22 rfl rfl)
theorem dX0_hidden_23 : decode cX0_hidden 23 = .ok (.if_icmp .ge 12, 3) := dk_162 0 12 (dk_at dksX0_hidden_1 0 rfl rfl)
theorem dX0_hidden_26 : decode cX0_hidden 26 = .ok (.aload_n 0, 1) := dk_42 (dk_at dksX0_hidden_1 3 rfl rfl)
theorem dX0_hidden_27 : decode cX0_hidden 27 = .ok (.getfield 102, 3) := dk_180 0 102 (dk_at dksX0_hidden_1 4 rfl rfl)
theorem dX0_hidden_30 : decode cX0_hidden 30 = .ok (.iload_n 1, 1) := dk_27 (dk_at dksX0_hidden_1 7 rfl rfl)
theorem dX0_hidden_31 : decode cX0_hidden 31 = .ok (.iaload, 1) := dk_46 (dk_at dksX0_hidden_1 8 rfl rfl)
theorem dX0_hidden_32 : decode cX0_hidden 32 = .ok (.goto 4, 3) := dk_167 0 4 (dk_at dksX0_hidden_1 9 rfl rfl)
theorem dX0_hidden_35 : decode cX0_hidden 35 = .ok (.iconst (-1), 1) := dk_2 (dk_at dksX0_hidden_1 12 rfl rfl)
theorem dX0_hidden_36 : decode cX0_hidden 36 = .ok (.ireturn, 1) := dk_172 (dk_at dksX0_hidden_1 13 rfl rfl)
abbrev cX0_listsSeeds : ByteArray := prog_1_method_68_code
def yX0_listsSeeds : MethodName := ⟨RX0, "listsSeeds", "()I"⟩
def dkwX0_listsSeeds_2 : List UInt8 := [79, 132, 1, 1, 132, 2, 1, 167, 255, 205, 27, 172]
abbrev dktX0_listsSeeds_2 : List UInt8 := dkwX0_listsSeeds_2 ++ []
def dkwX0_listsSeeds_1 : List UInt8 := [42, 28, 16, 6, 108, 28, 16, 6, 112, 182, 1, 130, 154, 0, 6, 167, 0, 13, 42, 180, 0, 102, 27, 28]
abbrev dktX0_listsSeeds_1 : List UInt8 := dkwX0_listsSeeds_1 ++ dktX0_listsSeeds_2
def dkwX0_listsSeeds_0 : List UInt8 := [3, 60, 3, 61, 28, 16, 96, 162, 0, 51, 42, 182, 0, 161, 28, 16, 6, 108, 182, 0, 177, 154, 0, 31]
abbrev dktX0_listsSeeds_0 : List UInt8 := dkwX0_listsSeeds_0 ++ dktX0_listsSeeds_1
theorem dksX0_listsSeeds_0 : cX0_listsSeeds.data.toList.drop 0 = dktX0_listsSeeds_0 := by decide +kernel
theorem dksX0_listsSeeds_1 : cX0_listsSeeds.data.toList.drop 24 = dktX0_listsSeeds_1 := dk_seg dksX0_listsSeeds_0 24 rfl rfl
theorem dksX0_listsSeeds_2 : cX0_listsSeeds.data.toList.drop 48 = dktX0_listsSeeds_2 := dk_seg dksX0_listsSeeds_1 24 rfl rfl
theorem dX0_listsSeeds_0 : decode cX0_listsSeeds 0 = .ok (.iconst 0, 1) := dk_3 (dk_at dksX0_listsSeeds_0 0 rfl rfl)
theorem dX0_listsSeeds_1 : decode cX0_listsSeeds 1 = .ok (.istore_n 1, 1) := dk_60 (dk_at dksX0_listsSeeds_0 1 rfl rfl)
theorem dX0_listsSeeds_2 : decode cX0_listsSeeds 2 = .ok (.iconst 0, 1) := dk_3 (dk_at dksX0_listsSeeds_0 2 rfl rfl)
theorem dX0_listsSeeds_3 : decode cX0_listsSeeds 3 = .ok (.istore_n 2, 1) := dk_61 (dk_at dksX0_listsSeeds_0 3 rfl rfl)
theorem dX0_listsSeeds_4 : decode cX0_listsSeeds 4 = .ok (.iload_n 2, 1) := dk_28 (dk_at dksX0_listsSeeds_0 4 rfl rfl)
theorem dX0_listsSeeds_5 : decode cX0_listsSeeds 5 = .ok (.bipush 96, 2) := dk_16 96 (dk_at dksX0_listsSeeds_0 5 rfl rfl)
theorem dX0_listsSeeds_7 : decode cX0_listsSeeds 7 = .ok (.if_icmp .ge 51, 3) := dk_162 0 51 (dk_at dksX0_listsSeeds_0 7 rfl rfl)
theorem dX0_listsSeeds_10 : decode cX0_listsSeeds 10 = .ok (.aload_n 0, 1) := dk_42 (dk_at dksX0_listsSeeds_0 10 rfl rfl)
theorem dX0_listsSeeds_11 : decode cX0_listsSeeds 11 = .ok (.invokevirtual 161, 3) := dk_182 0 161 (dk_at dksX0_listsSeeds_0 11 rfl rfl)
theorem dX0_listsSeeds_14 : decode cX0_listsSeeds 14 = .ok (.iload_n 2, 1) := dk_28 (dk_at dksX0_listsSeeds_0 14 rfl rfl)
theorem dX0_listsSeeds_15 : decode cX0_listsSeeds 15 = .ok (.bipush 6, 2) := dk_16 6 (dk_at dksX0_listsSeeds_0 15 rfl rfl)
theorem dX0_listsSeeds_17 : decode cX0_listsSeeds 17 = .ok (.idiv, 1) := dk_108 (dk_at dksX0_listsSeeds_0 17 rfl rfl)
theorem dX0_listsSeeds_18 : decode cX0_listsSeeds 18 = .ok (.invokevirtual 177, 3) := dk_182 0 177 (dk_at dksX0_listsSeeds_0 18 rfl rfl)
theorem dX0_listsSeeds_21 : decode cX0_listsSeeds 21 = .ok (.ifCond .ne 31, 3) := dk_154 0 31 (dk_at dksX0_listsSeeds_0 21 rfl rfl)
theorem dX0_listsSeeds_24 : decode cX0_listsSeeds 24 = .ok (.aload_n 0, 1) := dk_42 (dk_at dksX0_listsSeeds_1 0 rfl rfl)
theorem dX0_listsSeeds_25 : decode cX0_listsSeeds 25 = .ok (.iload_n 2, 1) := dk_28 (dk_at dksX0_listsSeeds_1 1 rfl rfl)
theorem dX0_listsSeeds_26 : decode cX0_listsSeeds 26 = .ok (.bipush 6, 2) := dk_16 6 (dk_at dksX0_listsSeeds_1 2 rfl rfl)
theorem dX0_listsSeeds_28 : decode cX0_listsSeeds 28 = .ok (.idiv, 1) := dk_108 (dk_at dksX0_listsSeeds_1 4 rfl rfl)
theorem dX0_listsSeeds_29 : decode cX0_listsSeeds 29 = .ok (.iload_n 2, 1) := dk_28 (dk_at dksX0_listsSeeds_1 5 rfl rfl)
theorem dX0_listsSeeds_30 : decode cX0_listsSeeds 30 = .ok (.bipush 6, 2) := dk_16 6 (dk_at dksX0_listsSeeds_1 6 rfl rfl)
theorem dX0_listsSeeds_32 : decode cX0_listsSeeds 32 = .ok (.irem, 1) := dk_112 (dk_at dksX0_listsSeeds_1 8 rfl rfl)
theorem dX0_listsSeeds_33 : decode cX0_listsSeeds 33 = .ok (.invokevirtual 386, 3) := dk_182 1 130 (dk_at dksX0_listsSeeds_1 9 rfl rfl)
theorem dX0_listsSeeds_36 : decode cX0_listsSeeds 36 = .ok (.ifCond .ne 6, 3) := dk_154 0 6 (dk_at dksX0_listsSeeds_1 12 rfl rfl)
theorem dX0_listsSeeds_39 : decode cX0_listsSeeds 39 = .ok (.goto 13, 3) := dk_167 0 13 (dk_at dksX0_listsSeeds_1 15 rfl rfl)
theorem dX0_listsSeeds_42 : decode cX0_listsSeeds 42 = .ok (.aload_n 0, 1) := dk_42 (dk_at dksX0_listsSeeds_1 18 rfl rfl)
theorem dX0_listsSeeds_43 : decode cX0_listsSeeds 43 = .ok (.getfield 102, 3) := dk_180 0 102 (dk_at dksX0_listsSeeds_1 19 rfl rfl)
theorem dX0_listsSeeds_46 : decode cX0_listsSeeds 46 = .ok (.iload_n 1, 1) := dk_27 (dk_at dksX0_listsSeeds_1 22 rfl rfl)
theorem dX0_listsSeeds_47 : decode cX0_listsSeeds 47 = .ok (.iload_n 2, 1) := dk_28 (dk_at dksX0_listsSeeds_1 23 rfl rfl)
theorem dX0_listsSeeds_48 : decode cX0_listsSeeds 48 = .ok (.iastore, 1) := dk_79 (dk_at dksX0_listsSeeds_2 0 rfl rfl)
theorem dX0_listsSeeds_49 : decode cX0_listsSeeds 49 = .ok (.iinc 1 1, 3) := dk_132 1 1 (dk_at dksX0_listsSeeds_2 1 rfl rfl)
theorem dX0_listsSeeds_52 : decode cX0_listsSeeds 52 = .ok (.iinc 2 1, 3) := dk_132 2 1 (dk_at dksX0_listsSeeds_2 4 rfl rfl)
theorem dX0_listsSeeds_55 : decode cX0_listsSeeds 55 = .ok (.goto (-51), 3) := dk_167 255 205 (dk_at dksX0_listsSeeds_2 7 rfl rfl)
theorem dX0_listsSeeds_58 : decode cX0_listsSeeds 58 = .ok (.iload_n 1, 1) := dk_27 (dk_at dksX0_listsSeeds_2 10 rfl rfl)
theorem dX0_listsSeeds_59 : decode cX0_listsSeeds 59 = .ok (.ireturn, 1) := dk_172 (dk_at dksX0_listsSeeds_2 11 rfl rfl)
abbrev cX0_areSo : ByteArray := prog_1_method_67_code
def yX0_areSo : MethodName := ⟨RX0, "areSo", "(II)Z"⟩
def dkwX0_areSo_5 : List UInt8 := [172]
abbrev dktX0_areSo_5 : List UInt8 := dkwX0_areSo_5 ++ []
def dkwX0_areSo_4 : List UInt8 := [159, 0, 5, 3, 172, 132, 5, 1, 167, 255, 186, 42, 45, 182, 1, 80, 87, 132, 4, 1, 167, 255, 164, 4]
abbrev dktX0_areSo_4 : List UInt8 := dkwX0_areSo_4 ++ dktX0_areSo_5
def dkwX0_areSo_3 : List UInt8 := [6, 21, 5, 104, 4, 96, 46, 46, 42, 180, 0, 39, 180, 1, 127, 6, 21, 5, 104, 5, 96, 46]
abbrev dktX0_areSo_3 : List UInt8 := dkwX0_areSo_3 ++ dktX0_areSo_4
def dkwX0_areSo_2 : List UInt8 := [180, 1, 127, 6, 21, 5, 104, 46, 21, 4, 160, 0, 41, 45, 180, 0, 164, 42, 180, 0, 39, 180, 1, 127]
abbrev dktX0_areSo_2 : List UInt8 := dkwX0_areSo_2 ++ dktX0_areSo_3
def dkwX0_areSo_1 : List UInt8 := [16, 9, 163, 0, 91, 3, 54, 5, 21, 5, 42, 180, 0, 39, 180, 1, 124, 162, 0, 64, 42, 180, 0, 39]
abbrev dktX0_areSo_1 : List UInt8 := dkwX0_areSo_1 ++ dktX0_areSo_2
def dkwX0_areSo_0 : List UInt8 := [42, 180, 0, 67, 78, 45, 42, 182, 0, 161, 182, 1, 71, 45, 27, 28, 182, 1, 67, 3, 54, 4, 21, 4]
abbrev dktX0_areSo_0 : List UInt8 := dkwX0_areSo_0 ++ dktX0_areSo_1
theorem dksX0_areSo_0 : cX0_areSo.data.toList.drop 0 = dktX0_areSo_0 := by decide +kernel
theorem dksX0_areSo_1 : cX0_areSo.data.toList.drop 24 = dktX0_areSo_1 := dk_seg dksX0_areSo_0 24 rfl rfl
theorem dksX0_areSo_2 : cX0_areSo.data.toList.drop 48 = dktX0_areSo_2 := dk_seg dksX0_areSo_1 24 rfl rfl
theorem dksX0_areSo_3 : cX0_areSo.data.toList.drop 72 = dktX0_areSo_3 := dk_seg dksX0_areSo_2 24 rfl rfl
theorem dksX0_areSo_4 : cX0_areSo.data.toList.drop 94 = dktX0_areSo_4 := dk_seg dksX0_areSo_3 22 rfl rfl
theorem dksX0_areSo_5 : cX0_areSo.data.toList.drop 118 = dktX0_areSo_5 := dk_seg dksX0_areSo_4 24 rfl rfl
theorem dX0_areSo_0 : decode cX0_areSo 0 = .ok (.aload_n 0, 1) := dk_42 (dk_at dksX0_areSo_0 0 rfl rfl)
theorem dX0_areSo_1 : decode cX0_areSo 1 = .ok (.getfield 67, 3) := dk_180 0 67 (dk_at dksX0_areSo_0 1 rfl rfl)
theorem dX0_areSo_4 : decode cX0_areSo 4 = .ok (.astore_n 3, 1) := dk_78 (dk_at dksX0_areSo_0 4 rfl rfl)
theorem dX0_areSo_5 : decode cX0_areSo 5 = .ok (.aload_n 3, 1) := dk_45 (dk_at dksX0_areSo_0 5 rfl rfl)
theorem dX0_areSo_6 : decode cX0_areSo 6 = .ok (.aload_n 0, 1) := dk_42 (dk_at dksX0_areSo_0 6 rfl rfl)
theorem dX0_areSo_7 : decode cX0_areSo 7 = .ok (.invokevirtual 161, 3) := dk_182 0 161 (dk_at dksX0_areSo_0 7 rfl rfl)
theorem dX0_areSo_10 : decode cX0_areSo 10 = .ok (.invokevirtual 327, 3) := dk_182 1 71 (dk_at dksX0_areSo_0 10 rfl rfl)
theorem dX0_areSo_13 : decode cX0_areSo 13 = .ok (.aload_n 3, 1) := dk_45 (dk_at dksX0_areSo_0 13 rfl rfl)
theorem dX0_areSo_14 : decode cX0_areSo 14 = .ok (.iload_n 1, 1) := dk_27 (dk_at dksX0_areSo_0 14 rfl rfl)
theorem dX0_areSo_15 : decode cX0_areSo 15 = .ok (.iload_n 2, 1) := dk_28 (dk_at dksX0_areSo_0 15 rfl rfl)
theorem dX0_areSo_16 : decode cX0_areSo 16 = .ok (.invokevirtual 323, 3) := dk_182 1 67 (dk_at dksX0_areSo_0 16 rfl rfl)
theorem dX0_areSo_19 : decode cX0_areSo 19 = .ok (.iconst 0, 1) := dk_3 (dk_at dksX0_areSo_0 19 rfl rfl)
theorem dX0_areSo_20 : decode cX0_areSo 20 = .ok (.istore 4, 2) := dk_54 4 (dk_at dksX0_areSo_0 20 rfl rfl)
theorem dX0_areSo_22 : decode cX0_areSo 22 = .ok (.iload 4, 2) := dk_21 4 (dk_at dksX0_areSo_0 22 rfl rfl)
theorem dX0_areSo_24 : decode cX0_areSo 24 = .ok (.bipush 9, 2) := dk_16 9 (dk_at dksX0_areSo_1 0 rfl rfl)
theorem dX0_areSo_26 : decode cX0_areSo 26 = .ok (.if_icmp .gt 91, 3) := dk_163 0 91 (dk_at dksX0_areSo_1 2 rfl rfl)
theorem dX0_areSo_29 : decode cX0_areSo 29 = .ok (.iconst 0, 1) := dk_3 (dk_at dksX0_areSo_1 5 rfl rfl)
theorem dX0_areSo_30 : decode cX0_areSo 30 = .ok (.istore 5, 2) := dk_54 5 (dk_at dksX0_areSo_1 6 rfl rfl)
theorem dX0_areSo_32 : decode cX0_areSo 32 = .ok (.iload 5, 2) := dk_21 5 (dk_at dksX0_areSo_1 8 rfl rfl)
theorem dX0_areSo_34 : decode cX0_areSo 34 = .ok (.aload_n 0, 1) := dk_42 (dk_at dksX0_areSo_1 10 rfl rfl)
theorem dX0_areSo_35 : decode cX0_areSo 35 = .ok (.getfield 39, 3) := dk_180 0 39 (dk_at dksX0_areSo_1 11 rfl rfl)
theorem dX0_areSo_38 : decode cX0_areSo 38 = .ok (.getfield 380, 3) := dk_180 1 124 (dk_at dksX0_areSo_1 14 rfl rfl)
theorem dX0_areSo_41 : decode cX0_areSo 41 = .ok (.if_icmp .ge 64, 3) := dk_162 0 64 (dk_at dksX0_areSo_1 17 rfl rfl)
theorem dX0_areSo_44 : decode cX0_areSo 44 = .ok (.aload_n 0, 1) := dk_42 (dk_at dksX0_areSo_1 20 rfl rfl)
theorem dX0_areSo_45 : decode cX0_areSo 45 = .ok (.getfield 39, 3) := dk_180 0 39 (dk_at dksX0_areSo_1 21 rfl rfl)
theorem dX0_areSo_48 : decode cX0_areSo 48 = .ok (.getfield 383, 3) := dk_180 1 127 (dk_at dksX0_areSo_2 0 rfl rfl)
theorem dX0_areSo_51 : decode cX0_areSo 51 = .ok (.iconst 3, 1) := dk_6 (dk_at dksX0_areSo_2 3 rfl rfl)
theorem dX0_areSo_52 : decode cX0_areSo 52 = .ok (.iload 5, 2) := dk_21 5 (dk_at dksX0_areSo_2 4 rfl rfl)
theorem dX0_areSo_54 : decode cX0_areSo 54 = .ok (.imul, 1) := dk_104 (dk_at dksX0_areSo_2 6 rfl rfl)
theorem dX0_areSo_55 : decode cX0_areSo 55 = .ok (.iaload, 1) := dk_46 (dk_at dksX0_areSo_2 7 rfl rfl)
theorem dX0_areSo_56 : decode cX0_areSo 56 = .ok (.iload 4, 2) := dk_21 4 (dk_at dksX0_areSo_2 8 rfl rfl)
theorem dX0_areSo_58 : decode cX0_areSo 58 = .ok (.if_icmp .ne 41, 3) := dk_160 0 41 (dk_at dksX0_areSo_2 10 rfl rfl)
theorem dX0_areSo_61 : decode cX0_areSo 61 = .ok (.aload_n 3, 1) := dk_45 (dk_at dksX0_areSo_2 13 rfl rfl)
theorem dX0_areSo_62 : decode cX0_areSo 62 = .ok (.getfield 164, 3) := dk_180 0 164 (dk_at dksX0_areSo_2 14 rfl rfl)
theorem dX0_areSo_65 : decode cX0_areSo 65 = .ok (.aload_n 0, 1) := dk_42 (dk_at dksX0_areSo_2 17 rfl rfl)
theorem dX0_areSo_66 : decode cX0_areSo 66 = .ok (.getfield 39, 3) := dk_180 0 39 (dk_at dksX0_areSo_2 18 rfl rfl)
theorem dX0_areSo_69 : decode cX0_areSo 69 = .ok (.getfield 383, 3) := dk_180 1 127 (dk_at dksX0_areSo_2 21 rfl rfl)
theorem dX0_areSo_72 : decode cX0_areSo 72 = .ok (.iconst 3, 1) := dk_6 (dk_at dksX0_areSo_3 0 rfl rfl)
theorem dX0_areSo_73 : decode cX0_areSo 73 = .ok (.iload 5, 2) := dk_21 5 (dk_at dksX0_areSo_3 1 rfl rfl)
theorem dX0_areSo_75 : decode cX0_areSo 75 = .ok (.imul, 1) := dk_104 (dk_at dksX0_areSo_3 3 rfl rfl)
theorem dX0_areSo_76 : decode cX0_areSo 76 = .ok (.iconst 1, 1) := dk_4 (dk_at dksX0_areSo_3 4 rfl rfl)
theorem dX0_areSo_77 : decode cX0_areSo 77 = .ok (.iadd, 1) := dk_96 (dk_at dksX0_areSo_3 5 rfl rfl)
theorem dX0_areSo_78 : decode cX0_areSo 78 = .ok (.iaload, 1) := dk_46 (dk_at dksX0_areSo_3 6 rfl rfl)
theorem dX0_areSo_79 : decode cX0_areSo 79 = .ok (.iaload, 1) := dk_46 (dk_at dksX0_areSo_3 7 rfl rfl)
theorem dX0_areSo_80 : decode cX0_areSo 80 = .ok (.aload_n 0, 1) := dk_42 (dk_at dksX0_areSo_3 8 rfl rfl)
theorem dX0_areSo_81 : decode cX0_areSo 81 = .ok (.getfield 39, 3) := dk_180 0 39 (dk_at dksX0_areSo_3 9 rfl rfl)
theorem dX0_areSo_84 : decode cX0_areSo 84 = .ok (.getfield 383, 3) := dk_180 1 127 (dk_at dksX0_areSo_3 12 rfl rfl)
theorem dX0_areSo_87 : decode cX0_areSo 87 = .ok (.iconst 3, 1) := dk_6 (dk_at dksX0_areSo_3 15 rfl rfl)
theorem dX0_areSo_88 : decode cX0_areSo 88 = .ok (.iload 5, 2) := dk_21 5 (dk_at dksX0_areSo_3 16 rfl rfl)
theorem dX0_areSo_90 : decode cX0_areSo 90 = .ok (.imul, 1) := dk_104 (dk_at dksX0_areSo_3 18 rfl rfl)
theorem dX0_areSo_91 : decode cX0_areSo 91 = .ok (.iconst 2, 1) := dk_5 (dk_at dksX0_areSo_3 19 rfl rfl)
theorem dX0_areSo_92 : decode cX0_areSo 92 = .ok (.iadd, 1) := dk_96 (dk_at dksX0_areSo_3 20 rfl rfl)
theorem dX0_areSo_93 : decode cX0_areSo 93 = .ok (.iaload, 1) := dk_46 (dk_at dksX0_areSo_3 21 rfl rfl)
theorem dX0_areSo_94 : decode cX0_areSo 94 = .ok (.if_icmp .eq 5, 3) := dk_159 0 5 (dk_at dksX0_areSo_4 0 rfl rfl)
theorem dX0_areSo_97 : decode cX0_areSo 97 = .ok (.iconst 0, 1) := dk_3 (dk_at dksX0_areSo_4 3 rfl rfl)
theorem dX0_areSo_98 : decode cX0_areSo 98 = .ok (.ireturn, 1) := dk_172 (dk_at dksX0_areSo_4 4 rfl rfl)
theorem dX0_areSo_99 : decode cX0_areSo 99 = .ok (.iinc 5 1, 3) := dk_132 5 1 (dk_at dksX0_areSo_4 5 rfl rfl)
theorem dX0_areSo_102 : decode cX0_areSo 102 = .ok (.goto (-70), 3) := dk_167 255 186 (dk_at dksX0_areSo_4 8 rfl rfl)
theorem dX0_areSo_105 : decode cX0_areSo 105 = .ok (.aload_n 0, 1) := dk_42 (dk_at dksX0_areSo_4 11 rfl rfl)
theorem dX0_areSo_106 : decode cX0_areSo 106 = .ok (.aload_n 3, 1) := dk_45 (dk_at dksX0_areSo_4 12 rfl rfl)
theorem dX0_areSo_107 : decode cX0_areSo 107 = .ok (.invokevirtual 336, 3) := dk_182 1 80 (dk_at dksX0_areSo_4 13 rfl rfl)
theorem dX0_areSo_110 : decode cX0_areSo 110 = .ok (.pop, 1) := dk_87 (dk_at dksX0_areSo_4 16 rfl rfl)
theorem dX0_areSo_111 : decode cX0_areSo 111 = .ok (.iinc 4 1, 3) := dk_132 4 1 (dk_at dksX0_areSo_4 17 rfl rfl)
theorem dX0_areSo_114 : decode cX0_areSo 114 = .ok (.goto (-92), 3) := dk_167 255 164 (dk_at dksX0_areSo_4 20 rfl rfl)
theorem dX0_areSo_117 : decode cX0_areSo 117 = .ok (.iconst 1, 1) := dk_4 (dk_at dksX0_areSo_4 23 rfl rfl)
theorem dX0_areSo_118 : decode cX0_areSo 118 = .ok (.ireturn, 1) := dk_172 (dk_at dksX0_areSo_5 0 rfl rfl)
abbrev cX0_next : ByteArray := prog_1_method_70_code
def yX0_next : MethodName := ⟨RX0, "next", "(II)I"⟩
def dkwX0_next_11 : List UInt8 := [167, 255, 189, 28, 154, 0, 8, 21, 4, 167, 0, 5, 21, 5, 172]
abbrev dktX0_next_11 : List UInt8 := dkwX0_next_11 ++ []
def dkwX0_next_10 : List UInt8 := [167, 255, 226, 21, 7, 21, 5, 161, 0, 6, 167, 0, 11, 21, 7, 54, 5, 21, 6, 54, 4, 132, 6, 1]
abbrev dktX0_next_10 : List UInt8 := dkwX0_next_10 ++ dktX0_next_11
def dkwX0_next_9 : List UInt8 := [21, 7, 42, 180, 0, 105, 16, 7, 21, 6, 104, 21, 8, 96, 46, 184, 1, 60, 54, 7, 132, 8, 1]
abbrev dktX0_next_9 : List UInt8 := dkwX0_next_9 ++ dktX0_next_10
def dkwX0_next_8 : List UInt8 := [3, 54, 6, 21, 6, 16, 16, 162, 0, 66, 3, 54, 7, 3, 54, 8, 21, 8, 16, 6, 163, 0, 29]
abbrev dktX0_next_8 : List UInt8 := dkwX0_next_8 ++ dktX0_next_9
def dkwX0_next_7 : List UInt8 := [46, 4, 96, 79, 132, 6, 1, 167, 255, 221, 132, 4, 1, 167, 255, 144, 2, 54, 4, 19, 1, 136, 54, 5]
abbrev dktX0_next_7 : List UInt8 := dkwX0_next_7 ++ dktX0_next_8
def dkwX0_next_6 : List UInt8 := [162, 0, 34, 42, 180, 0, 105, 16, 7, 21, 6, 104, 4, 96, 25, 5, 180, 0, 164, 21, 6, 46, 96, 92]
abbrev dktX0_next_6 : List UInt8 := dkwX0_next_6 ++ dktX0_next_7
def dkwX0_next_5 : List UInt8 := [162, 0, 16, 42, 25, 5, 182, 1, 80, 87, 132, 6, 1, 167, 255, 240, 3, 54, 6, 21, 6, 16, 16]
abbrev dktX0_next_5 : List UInt8 := dkwX0_next_5 ++ dktX0_next_6
def dkwX0_next_4 : List UInt8 := [16, 6, 108, 42, 180, 0, 102, 21, 4, 46, 16, 6, 112, 182, 1, 67, 3, 54, 6, 21, 6, 27]
abbrev dktX0_next_4 : List UInt8 := dkwX0_next_4 ++ dktX0_next_5
def dkwX0_next_3 : List UInt8 := [180, 0, 67, 58, 5, 25, 5, 42, 182, 0, 161, 182, 1, 71, 25, 5, 42, 180, 0, 102, 21, 4, 46]
abbrev dktX0_next_3 : List UInt8 := dkwX0_next_3 ++ dktX0_next_4
def dkwX0_next_2 : List UInt8 := [180, 0, 105, 21, 4, 3, 79, 132, 4, 1, 167, 255, 235, 3, 54, 4, 21, 4, 29, 162, 0, 112, 42]
abbrev dktX0_next_2 : List UInt8 := dkwX0_next_2 ++ dktX0_next_3
def dkwX0_next_1 : List UInt8 := [182, 1, 133, 62, 29, 154, 0, 5, 2, 172, 3, 54, 4, 21, 4, 42, 180, 0, 105, 190, 162, 0, 17, 42]
abbrev dktX0_next_1 : List UInt8 := dkwX0_next_1 ++ dktX0_next_2
def dkwX0_next_0 : List UInt8 := [27, 3, 16, 20, 184, 0, 26, 153, 0, 12, 28, 3, 4, 184, 0, 26, 154, 0, 5, 2, 172, 42]
abbrev dktX0_next_0 : List UInt8 := dkwX0_next_0 ++ dktX0_next_1
theorem dksX0_next_0 : cX0_next.data.toList.drop 0 = dktX0_next_0 := by decide +kernel
theorem dksX0_next_1 : cX0_next.data.toList.drop 22 = dktX0_next_1 := dk_seg dksX0_next_0 22 rfl rfl
theorem dksX0_next_2 : cX0_next.data.toList.drop 46 = dktX0_next_2 := dk_seg dksX0_next_1 24 rfl rfl
theorem dksX0_next_3 : cX0_next.data.toList.drop 69 = dktX0_next_3 := dk_seg dksX0_next_2 23 rfl rfl
theorem dksX0_next_4 : cX0_next.data.toList.drop 92 = dktX0_next_4 := dk_seg dksX0_next_3 23 rfl rfl
theorem dksX0_next_5 : cX0_next.data.toList.drop 114 = dktX0_next_5 := dk_seg dksX0_next_4 22 rfl rfl
theorem dksX0_next_6 : cX0_next.data.toList.drop 137 = dktX0_next_6 := dk_seg dksX0_next_5 23 rfl rfl
theorem dksX0_next_7 : cX0_next.data.toList.drop 161 = dktX0_next_7 := dk_seg dksX0_next_6 24 rfl rfl
theorem dksX0_next_8 : cX0_next.data.toList.drop 185 = dktX0_next_8 := dk_seg dksX0_next_7 24 rfl rfl
theorem dksX0_next_9 : cX0_next.data.toList.drop 208 = dktX0_next_9 := dk_seg dksX0_next_8 23 rfl rfl
theorem dksX0_next_10 : cX0_next.data.toList.drop 231 = dktX0_next_10 := dk_seg dksX0_next_9 23 rfl rfl
theorem dksX0_next_11 : cX0_next.data.toList.drop 255 = dktX0_next_11 := dk_seg dksX0_next_10 24 rfl rfl
theorem dX0_next_0 : decode cX0_next 0 = .ok (.iload_n 1, 1) := dk_27 (dk_at dksX0_next_0 0 rfl rfl)
theorem dX0_next_1 : decode cX0_next 1 = .ok (.iconst 0, 1) := dk_3 (dk_at dksX0_next_0 1 rfl rfl)
theorem dX0_next_2 : decode cX0_next 2 = .ok (.bipush 20, 2) := dk_16 20 (dk_at dksX0_next_0 2 rfl rfl)
theorem dX0_next_4 : decode cX0_next 4 = .ok (.invokestatic 26, 3) := dk_184 0 26 (dk_at dksX0_next_0 4 rfl rfl)
theorem dX0_next_7 : decode cX0_next 7 = .ok (.ifCond .eq 12, 3) := dk_153 0 12 (dk_at dksX0_next_0 7 rfl rfl)
theorem dX0_next_10 : decode cX0_next 10 = .ok (.iload_n 2, 1) := dk_28 (dk_at dksX0_next_0 10 rfl rfl)
theorem dX0_next_11 : decode cX0_next 11 = .ok (.iconst 0, 1) := dk_3 (dk_at dksX0_next_0 11 rfl rfl)
theorem dX0_next_12 : decode cX0_next 12 = .ok (.iconst 1, 1) := dk_4 (dk_at dksX0_next_0 12 rfl rfl)
theorem dX0_next_13 : decode cX0_next 13 = .ok (.invokestatic 26, 3) := dk_184 0 26 (dk_at dksX0_next_0 13 rfl rfl)
theorem dX0_next_16 : decode cX0_next 16 = .ok (.ifCond .ne 5, 3) := dk_154 0 5 (dk_at dksX0_next_0 16 rfl rfl)
theorem dX0_next_19 : decode cX0_next 19 = .ok (.iconst (-1), 1) := dk_2 (dk_at dksX0_next_0 19 rfl rfl)
theorem dX0_next_20 : decode cX0_next 20 = .ok (.ireturn, 1) := dk_172 (dk_at dksX0_next_0 20 rfl rfl)
theorem dX0_next_21 : decode cX0_next 21 = .ok (.aload_n 0, 1) := dk_42 (dk_at dksX0_next_0 21 rfl rfl)
theorem dX0_next_22 : decode cX0_next 22 = .ok (.invokevirtual 389, 3) := dk_182 1 133 (dk_at dksX0_next_1 0 rfl rfl)
theorem dX0_next_25 : decode cX0_next 25 = .ok (.istore_n 3, 1) := dk_62 (dk_at dksX0_next_1 3 rfl rfl)
theorem dX0_next_26 : decode cX0_next 26 = .ok (.iload_n 3, 1) := dk_29 (dk_at dksX0_next_1 4 rfl rfl)
theorem dX0_next_27 : decode cX0_next 27 = .ok (.ifCond .ne 5, 3) := dk_154 0 5 (dk_at dksX0_next_1 5 rfl rfl)
theorem dX0_next_30 : decode cX0_next 30 = .ok (.iconst (-1), 1) := dk_2 (dk_at dksX0_next_1 8 rfl rfl)
theorem dX0_next_31 : decode cX0_next 31 = .ok (.ireturn, 1) := dk_172 (dk_at dksX0_next_1 9 rfl rfl)
theorem dX0_next_32 : decode cX0_next 32 = .ok (.iconst 0, 1) := dk_3 (dk_at dksX0_next_1 10 rfl rfl)
theorem dX0_next_33 : decode cX0_next 33 = .ok (.istore 4, 2) := dk_54 4 (dk_at dksX0_next_1 11 rfl rfl)
theorem dX0_next_35 : decode cX0_next 35 = .ok (.iload 4, 2) := dk_21 4 (dk_at dksX0_next_1 13 rfl rfl)
theorem dX0_next_37 : decode cX0_next 37 = .ok (.aload_n 0, 1) := dk_42 (dk_at dksX0_next_1 15 rfl rfl)
theorem dX0_next_38 : decode cX0_next 38 = .ok (.getfield 105, 3) := dk_180 0 105 (dk_at dksX0_next_1 16 rfl rfl)
theorem dX0_next_41 : decode cX0_next 41 = .ok (.arraylength, 1) := dk_190 (dk_at dksX0_next_1 19 rfl rfl)
theorem dX0_next_42 : decode cX0_next 42 = .ok (.if_icmp .ge 17, 3) := dk_162 0 17 (dk_at dksX0_next_1 20 rfl rfl)
theorem dX0_next_45 : decode cX0_next 45 = .ok (.aload_n 0, 1) := dk_42 (dk_at dksX0_next_1 23 rfl rfl)
theorem dX0_next_46 : decode cX0_next 46 = .ok (.getfield 105, 3) := dk_180 0 105 (dk_at dksX0_next_2 0 rfl rfl)
theorem dX0_next_49 : decode cX0_next 49 = .ok (.iload 4, 2) := dk_21 4 (dk_at dksX0_next_2 3 rfl rfl)
theorem dX0_next_51 : decode cX0_next 51 = .ok (.iconst 0, 1) := dk_3 (dk_at dksX0_next_2 5 rfl rfl)
theorem dX0_next_52 : decode cX0_next 52 = .ok (.iastore, 1) := dk_79 (dk_at dksX0_next_2 6 rfl rfl)
theorem dX0_next_53 : decode cX0_next 53 = .ok (.iinc 4 1, 3) := dk_132 4 1 (dk_at dksX0_next_2 7 rfl rfl)
theorem dX0_next_56 : decode cX0_next 56 = .ok (.goto (-21), 3) := dk_167 255 235 (dk_at dksX0_next_2 10 rfl rfl)
theorem dX0_next_59 : decode cX0_next 59 = .ok (.iconst 0, 1) := dk_3 (dk_at dksX0_next_2 13 rfl rfl)
theorem dX0_next_60 : decode cX0_next 60 = .ok (.istore 4, 2) := dk_54 4 (dk_at dksX0_next_2 14 rfl rfl)
theorem dX0_next_62 : decode cX0_next 62 = .ok (.iload 4, 2) := dk_21 4 (dk_at dksX0_next_2 16 rfl rfl)
theorem dX0_next_64 : decode cX0_next 64 = .ok (.iload_n 3, 1) := dk_29 (dk_at dksX0_next_2 18 rfl rfl)
theorem dX0_next_65 : decode cX0_next 65 = .ok (.if_icmp .ge 112, 3) := dk_162 0 112 (dk_at dksX0_next_2 19 rfl rfl)
theorem dX0_next_68 : decode cX0_next 68 = .ok (.aload_n 0, 1) := dk_42 (dk_at dksX0_next_2 22 rfl rfl)
theorem dX0_next_69 : decode cX0_next 69 = .ok (.getfield 67, 3) := dk_180 0 67 (dk_at dksX0_next_3 0 rfl rfl)
theorem dX0_next_72 : decode cX0_next 72 = .ok (.astore 5, 2) := dk_58 5 (dk_at dksX0_next_3 3 rfl rfl)
theorem dX0_next_74 : decode cX0_next 74 = .ok (.aload 5, 2) := dk_25 5 (dk_at dksX0_next_3 5 rfl rfl)
theorem dX0_next_76 : decode cX0_next 76 = .ok (.aload_n 0, 1) := dk_42 (dk_at dksX0_next_3 7 rfl rfl)
theorem dX0_next_77 : decode cX0_next 77 = .ok (.invokevirtual 161, 3) := dk_182 0 161 (dk_at dksX0_next_3 8 rfl rfl)
theorem dX0_next_80 : decode cX0_next 80 = .ok (.invokevirtual 327, 3) := dk_182 1 71 (dk_at dksX0_next_3 11 rfl rfl)
theorem dX0_next_83 : decode cX0_next 83 = .ok (.aload 5, 2) := dk_25 5 (dk_at dksX0_next_3 14 rfl rfl)
theorem dX0_next_85 : decode cX0_next 85 = .ok (.aload_n 0, 1) := dk_42 (dk_at dksX0_next_3 16 rfl rfl)
theorem dX0_next_86 : decode cX0_next 86 = .ok (.getfield 102, 3) := dk_180 0 102 (dk_at dksX0_next_3 17 rfl rfl)
theorem dX0_next_89 : decode cX0_next 89 = .ok (.iload 4, 2) := dk_21 4 (dk_at dksX0_next_3 20 rfl rfl)
theorem dX0_next_91 : decode cX0_next 91 = .ok (.iaload, 1) := dk_46 (dk_at dksX0_next_3 22 rfl rfl)
theorem dX0_next_92 : decode cX0_next 92 = .ok (.bipush 6, 2) := dk_16 6 (dk_at dksX0_next_4 0 rfl rfl)
theorem dX0_next_94 : decode cX0_next 94 = .ok (.idiv, 1) := dk_108 (dk_at dksX0_next_4 2 rfl rfl)
theorem dX0_next_95 : decode cX0_next 95 = .ok (.aload_n 0, 1) := dk_42 (dk_at dksX0_next_4 3 rfl rfl)
theorem dX0_next_96 : decode cX0_next 96 = .ok (.getfield 102, 3) := dk_180 0 102 (dk_at dksX0_next_4 4 rfl rfl)
theorem dX0_next_99 : decode cX0_next 99 = .ok (.iload 4, 2) := dk_21 4 (dk_at dksX0_next_4 7 rfl rfl)
theorem dX0_next_101 : decode cX0_next 101 = .ok (.iaload, 1) := dk_46 (dk_at dksX0_next_4 9 rfl rfl)
theorem dX0_next_102 : decode cX0_next 102 = .ok (.bipush 6, 2) := dk_16 6 (dk_at dksX0_next_4 10 rfl rfl)
theorem dX0_next_104 : decode cX0_next 104 = .ok (.irem, 1) := dk_112 (dk_at dksX0_next_4 12 rfl rfl)
theorem dX0_next_105 : decode cX0_next 105 = .ok (.invokevirtual 323, 3) := dk_182 1 67 (dk_at dksX0_next_4 13 rfl rfl)
theorem dX0_next_108 : decode cX0_next 108 = .ok (.iconst 0, 1) := dk_3 (dk_at dksX0_next_4 16 rfl rfl)
theorem dX0_next_109 : decode cX0_next 109 = .ok (.istore 6, 2) := dk_54 6 (dk_at dksX0_next_4 17 rfl rfl)
theorem dX0_next_111 : decode cX0_next 111 = .ok (.iload 6, 2) := dk_21 6 (dk_at dksX0_next_4 19 rfl rfl)
theorem dX0_next_113 : decode cX0_next 113 = .ok (.iload_n 1, 1) := dk_27 (dk_at dksX0_next_4 21 rfl rfl)
theorem dX0_next_114 : decode cX0_next 114 = .ok (.if_icmp .ge 16, 3) := dk_162 0 16 (dk_at dksX0_next_5 0 rfl rfl)
theorem dX0_next_117 : decode cX0_next 117 = .ok (.aload_n 0, 1) := dk_42 (dk_at dksX0_next_5 3 rfl rfl)
theorem dX0_next_118 : decode cX0_next 118 = .ok (.aload 5, 2) := dk_25 5 (dk_at dksX0_next_5 4 rfl rfl)
theorem dX0_next_120 : decode cX0_next 120 = .ok (.invokevirtual 336, 3) := dk_182 1 80 (dk_at dksX0_next_5 6 rfl rfl)
theorem dX0_next_123 : decode cX0_next 123 = .ok (.pop, 1) := dk_87 (dk_at dksX0_next_5 9 rfl rfl)
theorem dX0_next_124 : decode cX0_next 124 = .ok (.iinc 6 1, 3) := dk_132 6 1 (dk_at dksX0_next_5 10 rfl rfl)
theorem dX0_next_127 : decode cX0_next 127 = .ok (.goto (-16), 3) := dk_167 255 240 (dk_at dksX0_next_5 13 rfl rfl)
theorem dX0_next_130 : decode cX0_next 130 = .ok (.iconst 0, 1) := dk_3 (dk_at dksX0_next_5 16 rfl rfl)
theorem dX0_next_131 : decode cX0_next 131 = .ok (.istore 6, 2) := dk_54 6 (dk_at dksX0_next_5 17 rfl rfl)
theorem dX0_next_133 : decode cX0_next 133 = .ok (.iload 6, 2) := dk_21 6 (dk_at dksX0_next_5 19 rfl rfl)
theorem dX0_next_135 : decode cX0_next 135 = .ok (.bipush 16, 2) := dk_16 16 (dk_at dksX0_next_5 21 rfl rfl)
theorem dX0_next_137 : decode cX0_next 137 = .ok (.if_icmp .ge 34, 3) := dk_162 0 34 (dk_at dksX0_next_6 0 rfl rfl)
theorem dX0_next_140 : decode cX0_next 140 = .ok (.aload_n 0, 1) := dk_42 (dk_at dksX0_next_6 3 rfl rfl)
theorem dX0_next_141 : decode cX0_next 141 = .ok (.getfield 105, 3) := dk_180 0 105 (dk_at dksX0_next_6 4 rfl rfl)
theorem dX0_next_144 : decode cX0_next 144 = .ok (.bipush 7, 2) := dk_16 7 (dk_at dksX0_next_6 7 rfl rfl)
theorem dX0_next_146 : decode cX0_next 146 = .ok (.iload 6, 2) := dk_21 6 (dk_at dksX0_next_6 9 rfl rfl)
theorem dX0_next_148 : decode cX0_next 148 = .ok (.imul, 1) := dk_104 (dk_at dksX0_next_6 11 rfl rfl)
theorem dX0_next_149 : decode cX0_next 149 = .ok (.iconst 1, 1) := dk_4 (dk_at dksX0_next_6 12 rfl rfl)
theorem dX0_next_150 : decode cX0_next 150 = .ok (.iadd, 1) := dk_96 (dk_at dksX0_next_6 13 rfl rfl)
theorem dX0_next_151 : decode cX0_next 151 = .ok (.aload 5, 2) := dk_25 5 (dk_at dksX0_next_6 14 rfl rfl)
theorem dX0_next_153 : decode cX0_next 153 = .ok (.getfield 164, 3) := dk_180 0 164 (dk_at dksX0_next_6 16 rfl rfl)
theorem dX0_next_156 : decode cX0_next 156 = .ok (.iload 6, 2) := dk_21 6 (dk_at dksX0_next_6 19 rfl rfl)
theorem dX0_next_158 : decode cX0_next 158 = .ok (.iaload, 1) := dk_46 (dk_at dksX0_next_6 21 rfl rfl)
theorem dX0_next_159 : decode cX0_next 159 = .ok (.iadd, 1) := dk_96 (dk_at dksX0_next_6 22 rfl rfl)
theorem dX0_next_160 : decode cX0_next 160 = .ok (.dup2, 1) := dk_92 (dk_at dksX0_next_6 23 rfl rfl)
theorem dX0_next_161 : decode cX0_next 161 = .ok (.iaload, 1) := dk_46 (dk_at dksX0_next_7 0 rfl rfl)
theorem dX0_next_162 : decode cX0_next 162 = .ok (.iconst 1, 1) := dk_4 (dk_at dksX0_next_7 1 rfl rfl)
theorem dX0_next_163 : decode cX0_next 163 = .ok (.iadd, 1) := dk_96 (dk_at dksX0_next_7 2 rfl rfl)
theorem dX0_next_164 : decode cX0_next 164 = .ok (.iastore, 1) := dk_79 (dk_at dksX0_next_7 3 rfl rfl)
theorem dX0_next_165 : decode cX0_next 165 = .ok (.iinc 6 1, 3) := dk_132 6 1 (dk_at dksX0_next_7 4 rfl rfl)
theorem dX0_next_168 : decode cX0_next 168 = .ok (.goto (-35), 3) := dk_167 255 221 (dk_at dksX0_next_7 7 rfl rfl)
theorem dX0_next_171 : decode cX0_next 171 = .ok (.iinc 4 1, 3) := dk_132 4 1 (dk_at dksX0_next_7 10 rfl rfl)
theorem dX0_next_174 : decode cX0_next 174 = .ok (.goto (-112), 3) := dk_167 255 144 (dk_at dksX0_next_7 13 rfl rfl)
theorem dX0_next_177 : decode cX0_next 177 = .ok (.iconst (-1), 1) := dk_2 (dk_at dksX0_next_7 16 rfl rfl)
theorem dX0_next_178 : decode cX0_next 178 = .ok (.istore 4, 2) := dk_54 4 (dk_at dksX0_next_7 17 rfl rfl)
theorem dX0_next_180 : decode cX0_next 180 = .ok (.ldc_w 392, 3) := dk_19 1 136 (dk_at dksX0_next_7 19 rfl rfl)
theorem dX0_next_183 : decode cX0_next 183 = .ok (.istore 5, 2) := dk_54 5 (dk_at dksX0_next_7 22 rfl rfl)
theorem dX0_next_185 : decode cX0_next 185 = .ok (.iconst 0, 1) := dk_3 (dk_at dksX0_next_8 0 rfl rfl)
theorem dX0_next_186 : decode cX0_next 186 = .ok (.istore 6, 2) := dk_54 6 (dk_at dksX0_next_8 1 rfl rfl)
theorem dX0_next_188 : decode cX0_next 188 = .ok (.iload 6, 2) := dk_21 6 (dk_at dksX0_next_8 3 rfl rfl)
theorem dX0_next_190 : decode cX0_next 190 = .ok (.bipush 16, 2) := dk_16 16 (dk_at dksX0_next_8 5 rfl rfl)
theorem dX0_next_192 : decode cX0_next 192 = .ok (.if_icmp .ge 66, 3) := dk_162 0 66 (dk_at dksX0_next_8 7 rfl rfl)
theorem dX0_next_195 : decode cX0_next 195 = .ok (.iconst 0, 1) := dk_3 (dk_at dksX0_next_8 10 rfl rfl)
theorem dX0_next_196 : decode cX0_next 196 = .ok (.istore 7, 2) := dk_54 7 (dk_at dksX0_next_8 11 rfl rfl)
theorem dX0_next_198 : decode cX0_next 198 = .ok (.iconst 0, 1) := dk_3 (dk_at dksX0_next_8 13 rfl rfl)
theorem dX0_next_199 : decode cX0_next 199 = .ok (.istore 8, 2) := dk_54 8 (dk_at dksX0_next_8 14 rfl rfl)
theorem dX0_next_201 : decode cX0_next 201 = .ok (.iload 8, 2) := dk_21 8 (dk_at dksX0_next_8 16 rfl rfl)
theorem dX0_next_203 : decode cX0_next 203 = .ok (.bipush 6, 2) := dk_16 6 (dk_at dksX0_next_8 18 rfl rfl)
theorem dX0_next_205 : decode cX0_next 205 = .ok (.if_icmp .gt 29, 3) := dk_163 0 29 (dk_at dksX0_next_8 20 rfl rfl)
theorem dX0_next_208 : decode cX0_next 208 = .ok (.iload 7, 2) := dk_21 7 (dk_at dksX0_next_9 0 rfl rfl)
theorem dX0_next_210 : decode cX0_next 210 = .ok (.aload_n 0, 1) := dk_42 (dk_at dksX0_next_9 2 rfl rfl)
theorem dX0_next_211 : decode cX0_next 211 = .ok (.getfield 105, 3) := dk_180 0 105 (dk_at dksX0_next_9 3 rfl rfl)
theorem dX0_next_214 : decode cX0_next 214 = .ok (.bipush 7, 2) := dk_16 7 (dk_at dksX0_next_9 6 rfl rfl)
theorem dX0_next_216 : decode cX0_next 216 = .ok (.iload 6, 2) := dk_21 6 (dk_at dksX0_next_9 8 rfl rfl)
theorem dX0_next_218 : decode cX0_next 218 = .ok (.imul, 1) := dk_104 (dk_at dksX0_next_9 10 rfl rfl)
theorem dX0_next_219 : decode cX0_next 219 = .ok (.iload 8, 2) := dk_21 8 (dk_at dksX0_next_9 11 rfl rfl)
theorem dX0_next_221 : decode cX0_next 221 = .ok (.iadd, 1) := dk_96 (dk_at dksX0_next_9 13 rfl rfl)
theorem dX0_next_222 : decode cX0_next 222 = .ok (.iaload, 1) := dk_46 (dk_at dksX0_next_9 14 rfl rfl)
theorem dX0_next_223 : decode cX0_next 223 = .ok (.invokestatic 316, 3) := dk_184 1 60 (dk_at dksX0_next_9 15 rfl rfl)
theorem dX0_next_226 : decode cX0_next 226 = .ok (.istore 7, 2) := dk_54 7 (dk_at dksX0_next_9 18 rfl rfl)
theorem dX0_next_228 : decode cX0_next 228 = .ok (.iinc 8 1, 3) := dk_132 8 1 (dk_at dksX0_next_9 20 rfl rfl)
theorem dX0_next_231 : decode cX0_next 231 = .ok (.goto (-30), 3) := dk_167 255 226 (dk_at dksX0_next_10 0 rfl rfl)
theorem dX0_next_234 : decode cX0_next 234 = .ok (.iload 7, 2) := dk_21 7 (dk_at dksX0_next_10 3 rfl rfl)
theorem dX0_next_236 : decode cX0_next 236 = .ok (.iload 5, 2) := dk_21 5 (dk_at dksX0_next_10 5 rfl rfl)
theorem dX0_next_238 : decode cX0_next 238 = .ok (.if_icmp .lt 6, 3) := dk_161 0 6 (dk_at dksX0_next_10 7 rfl rfl)
theorem dX0_next_241 : decode cX0_next 241 = .ok (.goto 11, 3) := dk_167 0 11 (dk_at dksX0_next_10 10 rfl rfl)
theorem dX0_next_244 : decode cX0_next 244 = .ok (.iload 7, 2) := dk_21 7 (dk_at dksX0_next_10 13 rfl rfl)
theorem dX0_next_246 : decode cX0_next 246 = .ok (.istore 5, 2) := dk_54 5 (dk_at dksX0_next_10 15 rfl rfl)
theorem dX0_next_248 : decode cX0_next 248 = .ok (.iload 6, 2) := dk_21 6 (dk_at dksX0_next_10 17 rfl rfl)
theorem dX0_next_250 : decode cX0_next 250 = .ok (.istore 4, 2) := dk_54 4 (dk_at dksX0_next_10 19 rfl rfl)
theorem dX0_next_252 : decode cX0_next 252 = .ok (.iinc 6 1, 3) := dk_132 6 1 (dk_at dksX0_next_10 21 rfl rfl)
theorem dX0_next_255 : decode cX0_next 255 = .ok (.goto (-67), 3) := dk_167 255 189 (dk_at dksX0_next_11 0 rfl rfl)
theorem dX0_next_258 : decode cX0_next 258 = .ok (.iload_n 2, 1) := dk_28 (dk_at dksX0_next_11 3 rfl rfl)
theorem dX0_next_259 : decode cX0_next 259 = .ok (.ifCond .ne 8, 3) := dk_154 0 8 (dk_at dksX0_next_11 4 rfl rfl)
theorem dX0_next_262 : decode cX0_next 262 = .ok (.iload 4, 2) := dk_21 4 (dk_at dksX0_next_11 7 rfl rfl)
theorem dX0_next_264 : decode cX0_next 264 = .ok (.goto 5, 3) := dk_167 0 5 (dk_at dksX0_next_11 9 rfl rfl)
theorem dX0_next_267 : decode cX0_next 267 = .ok (.iload 5, 2) := dk_21 5 (dk_at dksX0_next_11 12 rfl rfl)
theorem dX0_next_269 : decode cX0_next 269 = .ok (.ireturn, 1) := dk_172 (dk_at dksX0_next_11 14 rfl rfl)
abbrev cX0_roofs : ByteArray := prog_1_method_72_code
def yX0_roofs : MethodName := ⟨RX0, "roofs", "(II)I"⟩
def dkwX0_roofs_5 : List UInt8 := [28, 154, 0, 10, 29, 184, 1, 108, 167, 0, 4, 29, 172]
abbrev dktX0_roofs_5 : List UInt8 := dkwX0_roofs_5 ++ []
def dkwX0_roofs_4 : List UInt8 := [132, 6, 1, 167, 255, 222, 27, 21, 5, 2, 130, 126, 154, 0, 6, 21, 4, 62, 132, 4, 1, 167, 255, 170]
abbrev dktX0_roofs_4 : List UInt8 := dkwX0_roofs_4 ++ dktX0_roofs_5
def dkwX0_roofs_3 : List UInt8 := [21, 4, 21, 6, 184, 1, 38, 153, 0, 11, 21, 6, 184, 1, 139, 167, 0, 4, 3, 128, 54, 5]
abbrev dktX0_roofs_3 : List UInt8 := dkwX0_roofs_3 ++ dktX0_roofs_4
def dkwX0_roofs_2 : List UInt8 := [184, 1, 108, 161, 0, 6, 167, 0, 58, 3, 54, 5, 3, 54, 6, 21, 6, 16, 16, 162, 0, 33, 21, 5]
abbrev dktX0_roofs_2 : List UInt8 := dkwX0_roofs_2 ++ dktX0_roofs_3
def dkwX0_roofs_1 : List UInt8 := [3, 54, 4, 21, 4, 19, 1, 138, 162, 0, 84, 29, 2, 159, 0, 18, 21, 4, 184, 1, 108, 29]
abbrev dktX0_roofs_1 : List UInt8 := dkwX0_roofs_1 ++ dktX0_roofs_2
def dkwX0_roofs_0 : List UInt8 := [27, 3, 19, 1, 137, 184, 0, 26, 153, 0, 12, 28, 3, 4, 184, 0, 26, 154, 0, 5, 2, 172, 2, 62]
abbrev dktX0_roofs_0 : List UInt8 := dkwX0_roofs_0 ++ dktX0_roofs_1
theorem dksX0_roofs_0 : cX0_roofs.data.toList.drop 0 = dktX0_roofs_0 := by decide +kernel
theorem dksX0_roofs_1 : cX0_roofs.data.toList.drop 24 = dktX0_roofs_1 := dk_seg dksX0_roofs_0 24 rfl rfl
theorem dksX0_roofs_2 : cX0_roofs.data.toList.drop 46 = dktX0_roofs_2 := dk_seg dksX0_roofs_1 22 rfl rfl
theorem dksX0_roofs_3 : cX0_roofs.data.toList.drop 70 = dktX0_roofs_3 := dk_seg dksX0_roofs_2 24 rfl rfl
theorem dksX0_roofs_4 : cX0_roofs.data.toList.drop 92 = dktX0_roofs_4 := dk_seg dksX0_roofs_3 22 rfl rfl
theorem dksX0_roofs_5 : cX0_roofs.data.toList.drop 116 = dktX0_roofs_5 := dk_seg dksX0_roofs_4 24 rfl rfl
theorem dX0_roofs_0 : decode cX0_roofs 0 = .ok (.iload_n 1, 1) := dk_27 (dk_at dksX0_roofs_0 0 rfl rfl)
theorem dX0_roofs_1 : decode cX0_roofs 1 = .ok (.iconst 0, 1) := dk_3 (dk_at dksX0_roofs_0 1 rfl rfl)
theorem dX0_roofs_2 : decode cX0_roofs 2 = .ok (.ldc_w 393, 3) := dk_19 1 137 (dk_at dksX0_roofs_0 2 rfl rfl)
theorem dX0_roofs_5 : decode cX0_roofs 5 = .ok (.invokestatic 26, 3) := dk_184 0 26 (dk_at dksX0_roofs_0 5 rfl rfl)
theorem dX0_roofs_8 : decode cX0_roofs 8 = .ok (.ifCond .eq 12, 3) := dk_153 0 12 (dk_at dksX0_roofs_0 8 rfl rfl)
theorem dX0_roofs_11 : decode cX0_roofs 11 = .ok (.iload_n 2, 1) := dk_28 (dk_at dksX0_roofs_0 11 rfl rfl)
theorem dX0_roofs_12 : decode cX0_roofs 12 = .ok (.iconst 0, 1) := dk_3 (dk_at dksX0_roofs_0 12 rfl rfl)
theorem dX0_roofs_13 : decode cX0_roofs 13 = .ok (.iconst 1, 1) := dk_4 (dk_at dksX0_roofs_0 13 rfl rfl)
theorem dX0_roofs_14 : decode cX0_roofs 14 = .ok (.invokestatic 26, 3) := dk_184 0 26 (dk_at dksX0_roofs_0 14 rfl rfl)
theorem dX0_roofs_17 : decode cX0_roofs 17 = .ok (.ifCond .ne 5, 3) := dk_154 0 5 (dk_at dksX0_roofs_0 17 rfl rfl)
theorem dX0_roofs_20 : decode cX0_roofs 20 = .ok (.iconst (-1), 1) := dk_2 (dk_at dksX0_roofs_0 20 rfl rfl)
theorem dX0_roofs_21 : decode cX0_roofs 21 = .ok (.ireturn, 1) := dk_172 (dk_at dksX0_roofs_0 21 rfl rfl)
theorem dX0_roofs_22 : decode cX0_roofs 22 = .ok (.iconst (-1), 1) := dk_2 (dk_at dksX0_roofs_0 22 rfl rfl)
theorem dX0_roofs_23 : decode cX0_roofs 23 = .ok (.istore_n 3, 1) := dk_62 (dk_at dksX0_roofs_0 23 rfl rfl)
theorem dX0_roofs_24 : decode cX0_roofs 24 = .ok (.iconst 0, 1) := dk_3 (dk_at dksX0_roofs_1 0 rfl rfl)
theorem dX0_roofs_25 : decode cX0_roofs 25 = .ok (.istore 4, 2) := dk_54 4 (dk_at dksX0_roofs_1 1 rfl rfl)
theorem dX0_roofs_27 : decode cX0_roofs 27 = .ok (.iload 4, 2) := dk_21 4 (dk_at dksX0_roofs_1 3 rfl rfl)
theorem dX0_roofs_29 : decode cX0_roofs 29 = .ok (.ldc_w 394, 3) := dk_19 1 138 (dk_at dksX0_roofs_1 5 rfl rfl)
theorem dX0_roofs_32 : decode cX0_roofs 32 = .ok (.if_icmp .ge 84, 3) := dk_162 0 84 (dk_at dksX0_roofs_1 8 rfl rfl)
theorem dX0_roofs_35 : decode cX0_roofs 35 = .ok (.iload_n 3, 1) := dk_29 (dk_at dksX0_roofs_1 11 rfl rfl)
theorem dX0_roofs_36 : decode cX0_roofs 36 = .ok (.iconst (-1), 1) := dk_2 (dk_at dksX0_roofs_1 12 rfl rfl)
theorem dX0_roofs_37 : decode cX0_roofs 37 = .ok (.if_icmp .eq 18, 3) := dk_159 0 18 (dk_at dksX0_roofs_1 13 rfl rfl)
theorem dX0_roofs_40 : decode cX0_roofs 40 = .ok (.iload 4, 2) := dk_21 4 (dk_at dksX0_roofs_1 16 rfl rfl)
theorem dX0_roofs_42 : decode cX0_roofs 42 = .ok (.invokestatic 364, 3) := dk_184 1 108 (dk_at dksX0_roofs_1 18 rfl rfl)
theorem dX0_roofs_45 : decode cX0_roofs 45 = .ok (.iload_n 3, 1) := dk_29 (dk_at dksX0_roofs_1 21 rfl rfl)
theorem dX0_roofs_46 : decode cX0_roofs 46 = .ok (.invokestatic 364, 3) := dk_184 1 108 (dk_at dksX0_roofs_2 0 rfl rfl)
theorem dX0_roofs_49 : decode cX0_roofs 49 = .ok (.if_icmp .lt 6, 3) := dk_161 0 6 (dk_at dksX0_roofs_2 3 rfl rfl)
theorem dX0_roofs_52 : decode cX0_roofs 52 = .ok (.goto 58, 3) := dk_167 0 58 (dk_at dksX0_roofs_2 6 rfl rfl)
theorem dX0_roofs_55 : decode cX0_roofs 55 = .ok (.iconst 0, 1) := dk_3 (dk_at dksX0_roofs_2 9 rfl rfl)
theorem dX0_roofs_56 : decode cX0_roofs 56 = .ok (.istore 5, 2) := dk_54 5 (dk_at dksX0_roofs_2 10 rfl rfl)
theorem dX0_roofs_58 : decode cX0_roofs 58 = .ok (.iconst 0, 1) := dk_3 (dk_at dksX0_roofs_2 12 rfl rfl)
theorem dX0_roofs_59 : decode cX0_roofs 59 = .ok (.istore 6, 2) := dk_54 6 (dk_at dksX0_roofs_2 13 rfl rfl)
theorem dX0_roofs_61 : decode cX0_roofs 61 = .ok (.iload 6, 2) := dk_21 6 (dk_at dksX0_roofs_2 15 rfl rfl)
theorem dX0_roofs_63 : decode cX0_roofs 63 = .ok (.bipush 16, 2) := dk_16 16 (dk_at dksX0_roofs_2 17 rfl rfl)
theorem dX0_roofs_65 : decode cX0_roofs 65 = .ok (.if_icmp .ge 33, 3) := dk_162 0 33 (dk_at dksX0_roofs_2 19 rfl rfl)
theorem dX0_roofs_68 : decode cX0_roofs 68 = .ok (.iload 5, 2) := dk_21 5 (dk_at dksX0_roofs_2 22 rfl rfl)
theorem dX0_roofs_70 : decode cX0_roofs 70 = .ok (.iload 4, 2) := dk_21 4 (dk_at dksX0_roofs_3 0 rfl rfl)
theorem dX0_roofs_72 : decode cX0_roofs 72 = .ok (.iload 6, 2) := dk_21 6 (dk_at dksX0_roofs_3 2 rfl rfl)
theorem dX0_roofs_74 : decode cX0_roofs 74 = .ok (.invokestatic 294, 3) := dk_184 1 38 (dk_at dksX0_roofs_3 4 rfl rfl)
theorem dX0_roofs_77 : decode cX0_roofs 77 = .ok (.ifCond .eq 11, 3) := dk_153 0 11 (dk_at dksX0_roofs_3 7 rfl rfl)
theorem dX0_roofs_80 : decode cX0_roofs 80 = .ok (.iload 6, 2) := dk_21 6 (dk_at dksX0_roofs_3 10 rfl rfl)
theorem dX0_roofs_82 : decode cX0_roofs 82 = .ok (.invokestatic 395, 3) := dk_184 1 139 (dk_at dksX0_roofs_3 12 rfl rfl)
theorem dX0_roofs_85 : decode cX0_roofs 85 = .ok (.goto 4, 3) := dk_167 0 4 (dk_at dksX0_roofs_3 15 rfl rfl)
theorem dX0_roofs_88 : decode cX0_roofs 88 = .ok (.iconst 0, 1) := dk_3 (dk_at dksX0_roofs_3 18 rfl rfl)
theorem dX0_roofs_89 : decode cX0_roofs 89 = .ok (.ior, 1) := dk_128 (dk_at dksX0_roofs_3 19 rfl rfl)
theorem dX0_roofs_90 : decode cX0_roofs 90 = .ok (.istore 5, 2) := dk_54 5 (dk_at dksX0_roofs_3 20 rfl rfl)
theorem dX0_roofs_92 : decode cX0_roofs 92 = .ok (.iinc 6 1, 3) := dk_132 6 1 (dk_at dksX0_roofs_4 0 rfl rfl)
theorem dX0_roofs_95 : decode cX0_roofs 95 = .ok (.goto (-34), 3) := dk_167 255 222 (dk_at dksX0_roofs_4 3 rfl rfl)
theorem dX0_roofs_98 : decode cX0_roofs 98 = .ok (.iload_n 1, 1) := dk_27 (dk_at dksX0_roofs_4 6 rfl rfl)
theorem dX0_roofs_99 : decode cX0_roofs 99 = .ok (.iload 5, 2) := dk_21 5 (dk_at dksX0_roofs_4 7 rfl rfl)
theorem dX0_roofs_101 : decode cX0_roofs 101 = .ok (.iconst (-1), 1) := dk_2 (dk_at dksX0_roofs_4 9 rfl rfl)
theorem dX0_roofs_102 : decode cX0_roofs 102 = .ok (.ixor, 1) := dk_130 (dk_at dksX0_roofs_4 10 rfl rfl)
theorem dX0_roofs_103 : decode cX0_roofs 103 = .ok (.iand, 1) := dk_126 (dk_at dksX0_roofs_4 11 rfl rfl)
theorem dX0_roofs_104 : decode cX0_roofs 104 = .ok (.ifCond .ne 6, 3) := dk_154 0 6 (dk_at dksX0_roofs_4 12 rfl rfl)
theorem dX0_roofs_107 : decode cX0_roofs 107 = .ok (.iload 4, 2) := dk_21 4 (dk_at dksX0_roofs_4 15 rfl rfl)
theorem dX0_roofs_109 : decode cX0_roofs 109 = .ok (.istore_n 3, 1) := dk_62 (dk_at dksX0_roofs_4 17 rfl rfl)
theorem dX0_roofs_110 : decode cX0_roofs 110 = .ok (.iinc 4 1, 3) := dk_132 4 1 (dk_at dksX0_roofs_4 18 rfl rfl)
theorem dX0_roofs_113 : decode cX0_roofs 113 = .ok (.goto (-86), 3) := dk_167 255 170 (dk_at dksX0_roofs_4 21 rfl rfl)
theorem dX0_roofs_116 : decode cX0_roofs 116 = .ok (.iload_n 2, 1) := dk_28 (dk_at dksX0_roofs_5 0 rfl rfl)
theorem dX0_roofs_117 : decode cX0_roofs 117 = .ok (.ifCond .ne 10, 3) := dk_154 0 10 (dk_at dksX0_roofs_5 1 rfl rfl)
theorem dX0_roofs_120 : decode cX0_roofs 120 = .ok (.iload_n 3, 1) := dk_29 (dk_at dksX0_roofs_5 4 rfl rfl)
theorem dX0_roofs_121 : decode cX0_roofs 121 = .ok (.invokestatic 364, 3) := dk_184 1 108 (dk_at dksX0_roofs_5 5 rfl rfl)
theorem dX0_roofs_124 : decode cX0_roofs 124 = .ok (.goto 4, 3) := dk_167 0 4 (dk_at dksX0_roofs_5 8 rfl rfl)
theorem dX0_roofs_127 : decode cX0_roofs 127 = .ok (.iload_n 3, 1) := dk_29 (dk_at dksX0_roofs_5 11 rfl rfl)
theorem dX0_roofs_128 : decode cX0_roofs 128 = .ok (.ireturn, 1) := dk_172 (dk_at dksX0_roofs_5 12 rfl rfl)
abbrev cX0_litBy : ByteArray := prog_1_method_71_code
def yX0_litBy : MethodName := ⟨RX0, "litBy", "(I)I"⟩
def dkwX0_litBy_1 : List UInt8 := [167, 0, 10, 4, 26, 28, 184, 1, 57, 120, 128, 60, 132, 2, 1, 167, 255, 225, 27, 172]
abbrev dktX0_litBy_1 : List UInt8 := dkwX0_litBy_1 ++ []
def dkwX0_litBy_0 : List UInt8 := [4, 26, 120, 60, 3, 61, 28, 7, 162, 0, 32, 27, 26, 28, 184, 1, 57, 2, 160, 0, 7, 3]
abbrev dktX0_litBy_0 : List UInt8 := dkwX0_litBy_0 ++ dktX0_litBy_1
theorem dksX0_litBy_0 : cX0_litBy.data.toList.drop 0 = dktX0_litBy_0 := by decide +kernel
theorem dksX0_litBy_1 : cX0_litBy.data.toList.drop 22 = dktX0_litBy_1 := dk_seg dksX0_litBy_0 22 rfl rfl
theorem dX0_litBy_0 : decode cX0_litBy 0 = .ok (.iconst 1, 1) := dk_4 (dk_at dksX0_litBy_0 0 rfl rfl)
theorem dX0_litBy_1 : decode cX0_litBy 1 = .ok (.iload_n 0, 1) := dk_26 (dk_at dksX0_litBy_0 1 rfl rfl)
theorem dX0_litBy_2 : decode cX0_litBy 2 = .ok (.ishl, 1) := dk_120 (dk_at dksX0_litBy_0 2 rfl rfl)
theorem dX0_litBy_3 : decode cX0_litBy 3 = .ok (.istore_n 1, 1) := dk_60 (dk_at dksX0_litBy_0 3 rfl rfl)
theorem dX0_litBy_4 : decode cX0_litBy 4 = .ok (.iconst 0, 1) := dk_3 (dk_at dksX0_litBy_0 4 rfl rfl)
theorem dX0_litBy_5 : decode cX0_litBy 5 = .ok (.istore_n 2, 1) := dk_61 (dk_at dksX0_litBy_0 5 rfl rfl)
theorem dX0_litBy_6 : decode cX0_litBy 6 = .ok (.iload_n 2, 1) := dk_28 (dk_at dksX0_litBy_0 6 rfl rfl)
theorem dX0_litBy_7 : decode cX0_litBy 7 = .ok (.iconst 4, 1) := dk_7 (dk_at dksX0_litBy_0 7 rfl rfl)
theorem dX0_litBy_8 : decode cX0_litBy 8 = .ok (.if_icmp .ge 32, 3) := dk_162 0 32 (dk_at dksX0_litBy_0 8 rfl rfl)
theorem dX0_litBy_11 : decode cX0_litBy 11 = .ok (.iload_n 1, 1) := dk_27 (dk_at dksX0_litBy_0 11 rfl rfl)
theorem dX0_litBy_12 : decode cX0_litBy 12 = .ok (.iload_n 0, 1) := dk_26 (dk_at dksX0_litBy_0 12 rfl rfl)
theorem dX0_litBy_13 : decode cX0_litBy 13 = .ok (.iload_n 2, 1) := dk_28 (dk_at dksX0_litBy_0 13 rfl rfl)
theorem dX0_litBy_14 : decode cX0_litBy 14 = .ok (.invokestatic 313, 3) := dk_184 1 57 (dk_at dksX0_litBy_0 14 rfl rfl)
theorem dX0_litBy_17 : decode cX0_litBy 17 = .ok (.iconst (-1), 1) := dk_2 (dk_at dksX0_litBy_0 17 rfl rfl)
theorem dX0_litBy_18 : decode cX0_litBy 18 = .ok (.if_icmp .ne 7, 3) := dk_160 0 7 (dk_at dksX0_litBy_0 18 rfl rfl)
theorem dX0_litBy_21 : decode cX0_litBy 21 = .ok (.iconst 0, 1) := dk_3 (dk_at dksX0_litBy_0 21 rfl rfl)
theorem dX0_litBy_22 : decode cX0_litBy 22 = .ok (.goto 10, 3) := dk_167 0 10 (dk_at dksX0_litBy_1 0 rfl rfl)
theorem dX0_litBy_25 : decode cX0_litBy 25 = .ok (.iconst 1, 1) := dk_4 (dk_at dksX0_litBy_1 3 rfl rfl)
theorem dX0_litBy_26 : decode cX0_litBy 26 = .ok (.iload_n 0, 1) := dk_26 (dk_at dksX0_litBy_1 4 rfl rfl)
theorem dX0_litBy_27 : decode cX0_litBy 27 = .ok (.iload_n 2, 1) := dk_28 (dk_at dksX0_litBy_1 5 rfl rfl)
theorem dX0_litBy_28 : decode cX0_litBy 28 = .ok (.invokestatic 313, 3) := dk_184 1 57 (dk_at dksX0_litBy_1 6 rfl rfl)
theorem dX0_litBy_31 : decode cX0_litBy 31 = .ok (.ishl, 1) := dk_120 (dk_at dksX0_litBy_1 9 rfl rfl)
theorem dX0_litBy_32 : decode cX0_litBy 32 = .ok (.ior, 1) := dk_128 (dk_at dksX0_litBy_1 10 rfl rfl)
theorem dX0_litBy_33 : decode cX0_litBy 33 = .ok (.istore_n 1, 1) := dk_60 (dk_at dksX0_litBy_1 11 rfl rfl)
theorem dX0_litBy_34 : decode cX0_litBy 34 = .ok (.iinc 2 1, 3) := dk_132 2 1 (dk_at dksX0_litBy_1 12 rfl rfl)
theorem dX0_litBy_37 : decode cX0_litBy 37 = .ok (.goto (-31), 3) := dk_167 255 225 (dk_at dksX0_litBy_1 15 rfl rfl)
theorem dX0_litBy_40 : decode cX0_litBy 40 = .ok (.iload_n 1, 1) := dk_27 (dk_at dksX0_litBy_1 18 rfl rfl)
theorem dX0_litBy_41 : decode cX0_litBy 41 = .ok (.ireturn, 1) := dk_172 (dk_at dksX0_litBy_1 19 rfl rfl)
abbrev cX0_way : ByteArray := prog_1_method_75_code
def yX0_way : MethodName := ⟨RX0, "way", "(I)I"⟩
def dkwX0_way_1 : List UInt8 := [180, 0, 108, 27, 46, 172]
abbrev dktX0_way_1 : List UInt8 := dkwX0_way_1 ++ []
def dkwX0_way_0 : List UInt8 := [27, 184, 0, 149, 153, 0, 15, 42, 27, 3, 182, 1, 145, 19, 1, 136, 160, 0, 7, 2, 167, 0, 9, 42]
abbrev dktX0_way_0 : List UInt8 := dkwX0_way_0 ++ dktX0_way_1
theorem dksX0_way_0 : cX0_way.data.toList.drop 0 = dktX0_way_0 := by decide +kernel
theorem dksX0_way_1 : cX0_way.data.toList.drop 24 = dktX0_way_1 := dk_seg dksX0_way_0 24 rfl rfl
theorem dX0_way_0 : decode cX0_way 0 = .ok (.iload_n 1, 1) := dk_27 (dk_at dksX0_way_0 0 rfl rfl)
theorem dX0_way_1 : decode cX0_way 1 = .ok (.invokestatic 149, 3) := dk_184 0 149 (dk_at dksX0_way_0 1 rfl rfl)
theorem dX0_way_4 : decode cX0_way 4 = .ok (.ifCond .eq 15, 3) := dk_153 0 15 (dk_at dksX0_way_0 4 rfl rfl)
theorem dX0_way_7 : decode cX0_way 7 = .ok (.aload_n 0, 1) := dk_42 (dk_at dksX0_way_0 7 rfl rfl)
theorem dX0_way_8 : decode cX0_way 8 = .ok (.iload_n 1, 1) := dk_27 (dk_at dksX0_way_0 8 rfl rfl)
theorem dX0_way_9 : decode cX0_way 9 = .ok (.iconst 0, 1) := dk_3 (dk_at dksX0_way_0 9 rfl rfl)
theorem dX0_way_10 : decode cX0_way 10 = .ok (.invokevirtual 401, 3) := dk_182 1 145 (dk_at dksX0_way_0 10 rfl rfl)
theorem dX0_way_13 : decode cX0_way 13 = .ok (.ldc_w 392, 3) := dk_19 1 136 (dk_at dksX0_way_0 13 rfl rfl)
theorem dX0_way_16 : decode cX0_way 16 = .ok (.if_icmp .ne 7, 3) := dk_160 0 7 (dk_at dksX0_way_0 16 rfl rfl)
theorem dX0_way_19 : decode cX0_way 19 = .ok (.iconst (-1), 1) := dk_2 (dk_at dksX0_way_0 19 rfl rfl)
theorem dX0_way_20 : decode cX0_way 20 = .ok (.goto 9, 3) := dk_167 0 9 (dk_at dksX0_way_0 20 rfl rfl)
theorem dX0_way_23 : decode cX0_way 23 = .ok (.aload_n 0, 1) := dk_42 (dk_at dksX0_way_0 23 rfl rfl)
theorem dX0_way_24 : decode cX0_way 24 = .ok (.getfield 108, 3) := dk_180 0 108 (dk_at dksX0_way_1 0 rfl rfl)
theorem dX0_way_27 : decode cX0_way 27 = .ok (.iload_n 1, 1) := dk_27 (dk_at dksX0_way_1 3 rfl rfl)
theorem dX0_way_28 : decode cX0_way 28 = .ok (.iaload, 1) := dk_46 (dk_at dksX0_way_1 4 rfl rfl)
theorem dX0_way_29 : decode cX0_way 29 = .ok (.ireturn, 1) := dk_172 (dk_at dksX0_way_1 5 rfl rfl)
abbrev cX0_wayOf : ByteArray := prog_1_method_73_code
def yX0_wayOf : MethodName := ⟨RX0, "wayOf", "(II)I"⟩
def dkwX0_wayOf_6 : List UInt8 := [167, 255, 169, 132, 3, 1, 167, 255, 154, 42, 180, 0, 108, 27, 46, 172]
abbrev dktX0_wayOf_6 : List UInt8 := dkwX0_wayOf_6 ++ []
def dkwX0_wayOf_5 : List UInt8 := [153, 0, 13, 42, 180, 0, 108, 21, 6, 29, 4, 96, 79, 132, 5, 1, 167, 255, 199, 132, 4, 1]
abbrev dktX0_wayOf_5 : List UInt8 := dkwX0_wayOf_5 ++ dktX0_wayOf_6
def dkwX0_wayOf_4 : List UInt8 := [159, 0, 36, 42, 180, 0, 108, 21, 6, 46, 19, 1, 136, 160, 0, 23, 42, 21, 6, 28, 182, 1, 142]
abbrev dktX0_wayOf_4 : List UInt8 := dkwX0_wayOf_4 ++ dktX0_wayOf_5
def dkwX0_wayOf_3 : List UInt8 := [167, 0, 66, 3, 54, 5, 21, 5, 7, 162, 0, 57, 21, 4, 21, 5, 184, 1, 57, 54, 6, 21, 6, 2]
abbrev dktX0_wayOf_3 : List UInt8 := dkwX0_wayOf_3 ++ dktX0_wayOf_4
def dkwX0_wayOf_2 : List UInt8 := [162, 0, 102, 3, 54, 4, 21, 4, 16, 16, 162, 0, 86, 42, 180, 0, 108, 21, 4, 46, 29, 159, 0, 6]
abbrev dktX0_wayOf_2 : List UInt8 := dkwX0_wayOf_2 ++ dktX0_wayOf_3
def dkwX0_wayOf_1 : List UInt8 := [153, 0, 7, 3, 167, 0, 6, 19, 1, 136, 79, 132, 3, 1, 167, 255, 221, 3, 62, 29, 16, 16]
abbrev dktX0_wayOf_1 : List UInt8 := dkwX0_wayOf_1 ++ dktX0_wayOf_2
def dkwX0_wayOf_0 : List UInt8 := [3, 62, 29, 16, 16, 162, 0, 35, 42, 180, 0, 108, 29, 29, 154, 0, 16, 42, 3, 28, 182, 1, 142]
abbrev dktX0_wayOf_0 : List UInt8 := dkwX0_wayOf_0 ++ dktX0_wayOf_1
theorem dksX0_wayOf_0 : cX0_wayOf.data.toList.drop 0 = dktX0_wayOf_0 := by decide +kernel
theorem dksX0_wayOf_1 : cX0_wayOf.data.toList.drop 23 = dktX0_wayOf_1 := dk_seg dksX0_wayOf_0 23 rfl rfl
theorem dksX0_wayOf_2 : cX0_wayOf.data.toList.drop 45 = dktX0_wayOf_2 := dk_seg dksX0_wayOf_1 22 rfl rfl
theorem dksX0_wayOf_3 : cX0_wayOf.data.toList.drop 69 = dktX0_wayOf_3 := dk_seg dksX0_wayOf_2 24 rfl rfl
theorem dksX0_wayOf_4 : cX0_wayOf.data.toList.drop 93 = dktX0_wayOf_4 := dk_seg dksX0_wayOf_3 24 rfl rfl
theorem dksX0_wayOf_5 : cX0_wayOf.data.toList.drop 116 = dktX0_wayOf_5 := dk_seg dksX0_wayOf_4 23 rfl rfl
theorem dksX0_wayOf_6 : cX0_wayOf.data.toList.drop 138 = dktX0_wayOf_6 := dk_seg dksX0_wayOf_5 22 rfl rfl
theorem dX0_wayOf_0 : decode cX0_wayOf 0 = .ok (.iconst 0, 1) := dk_3 (dk_at dksX0_wayOf_0 0 rfl rfl)
theorem dX0_wayOf_1 : decode cX0_wayOf 1 = .ok (.istore_n 3, 1) := dk_62 (dk_at dksX0_wayOf_0 1 rfl rfl)
theorem dX0_wayOf_2 : decode cX0_wayOf 2 = .ok (.iload_n 3, 1) := dk_29 (dk_at dksX0_wayOf_0 2 rfl rfl)
theorem dX0_wayOf_3 : decode cX0_wayOf 3 = .ok (.bipush 16, 2) := dk_16 16 (dk_at dksX0_wayOf_0 3 rfl rfl)
theorem dX0_wayOf_5 : decode cX0_wayOf 5 = .ok (.if_icmp .ge 35, 3) := dk_162 0 35 (dk_at dksX0_wayOf_0 5 rfl rfl)
theorem dX0_wayOf_8 : decode cX0_wayOf 8 = .ok (.aload_n 0, 1) := dk_42 (dk_at dksX0_wayOf_0 8 rfl rfl)
theorem dX0_wayOf_9 : decode cX0_wayOf 9 = .ok (.getfield 108, 3) := dk_180 0 108 (dk_at dksX0_wayOf_0 9 rfl rfl)
theorem dX0_wayOf_12 : decode cX0_wayOf 12 = .ok (.iload_n 3, 1) := dk_29 (dk_at dksX0_wayOf_0 12 rfl rfl)
theorem dX0_wayOf_13 : decode cX0_wayOf 13 = .ok (.iload_n 3, 1) := dk_29 (dk_at dksX0_wayOf_0 13 rfl rfl)
theorem dX0_wayOf_14 : decode cX0_wayOf 14 = .ok (.ifCond .ne 16, 3) := dk_154 0 16 (dk_at dksX0_wayOf_0 14 rfl rfl)
theorem dX0_wayOf_17 : decode cX0_wayOf 17 = .ok (.aload_n 0, 1) := dk_42 (dk_at dksX0_wayOf_0 17 rfl rfl)
theorem dX0_wayOf_18 : decode cX0_wayOf 18 = .ok (.iconst 0, 1) := dk_3 (dk_at dksX0_wayOf_0 18 rfl rfl)
theorem dX0_wayOf_19 : decode cX0_wayOf 19 = .ok (.iload_n 2, 1) := dk_28 (dk_at dksX0_wayOf_0 19 rfl rfl)
theorem dX0_wayOf_20 : decode cX0_wayOf 20 = .ok (.invokevirtual 398, 3) := dk_182 1 142 (dk_at dksX0_wayOf_0 20 rfl rfl)
theorem dX0_wayOf_23 : decode cX0_wayOf 23 = .ok (.ifCond .eq 7, 3) := dk_153 0 7 (dk_at dksX0_wayOf_1 0 rfl rfl)
theorem dX0_wayOf_26 : decode cX0_wayOf 26 = .ok (.iconst 0, 1) := dk_3 (dk_at dksX0_wayOf_1 3 rfl rfl)
theorem dX0_wayOf_27 : decode cX0_wayOf 27 = .ok (.goto 6, 3) := dk_167 0 6 (dk_at dksX0_wayOf_1 4 rfl rfl)
theorem dX0_wayOf_30 : decode cX0_wayOf 30 = .ok (.ldc_w 392, 3) := dk_19 1 136 (dk_at dksX0_wayOf_1 7 rfl rfl)
theorem dX0_wayOf_33 : decode cX0_wayOf 33 = .ok (.iastore, 1) := dk_79 (dk_at dksX0_wayOf_1 10 rfl rfl)
theorem dX0_wayOf_34 : decode cX0_wayOf 34 = .ok (.iinc 3 1, 3) := dk_132 3 1 (dk_at dksX0_wayOf_1 11 rfl rfl)
theorem dX0_wayOf_37 : decode cX0_wayOf 37 = .ok (.goto (-35), 3) := dk_167 255 221 (dk_at dksX0_wayOf_1 14 rfl rfl)
theorem dX0_wayOf_40 : decode cX0_wayOf 40 = .ok (.iconst 0, 1) := dk_3 (dk_at dksX0_wayOf_1 17 rfl rfl)
theorem dX0_wayOf_41 : decode cX0_wayOf 41 = .ok (.istore_n 3, 1) := dk_62 (dk_at dksX0_wayOf_1 18 rfl rfl)
theorem dX0_wayOf_42 : decode cX0_wayOf 42 = .ok (.iload_n 3, 1) := dk_29 (dk_at dksX0_wayOf_1 19 rfl rfl)
theorem dX0_wayOf_43 : decode cX0_wayOf 43 = .ok (.bipush 16, 2) := dk_16 16 (dk_at dksX0_wayOf_1 20 rfl rfl)
theorem dX0_wayOf_45 : decode cX0_wayOf 45 = .ok (.if_icmp .ge 102, 3) := dk_162 0 102 (dk_at dksX0_wayOf_2 0 rfl rfl)
theorem dX0_wayOf_48 : decode cX0_wayOf 48 = .ok (.iconst 0, 1) := dk_3 (dk_at dksX0_wayOf_2 3 rfl rfl)
theorem dX0_wayOf_49 : decode cX0_wayOf 49 = .ok (.istore 4, 2) := dk_54 4 (dk_at dksX0_wayOf_2 4 rfl rfl)
theorem dX0_wayOf_51 : decode cX0_wayOf 51 = .ok (.iload 4, 2) := dk_21 4 (dk_at dksX0_wayOf_2 6 rfl rfl)
theorem dX0_wayOf_53 : decode cX0_wayOf 53 = .ok (.bipush 16, 2) := dk_16 16 (dk_at dksX0_wayOf_2 8 rfl rfl)
theorem dX0_wayOf_55 : decode cX0_wayOf 55 = .ok (.if_icmp .ge 86, 3) := dk_162 0 86 (dk_at dksX0_wayOf_2 10 rfl rfl)
theorem dX0_wayOf_58 : decode cX0_wayOf 58 = .ok (.aload_n 0, 1) := dk_42 (dk_at dksX0_wayOf_2 13 rfl rfl)
theorem dX0_wayOf_59 : decode cX0_wayOf 59 = .ok (.getfield 108, 3) := dk_180 0 108 (dk_at dksX0_wayOf_2 14 rfl rfl)
theorem dX0_wayOf_62 : decode cX0_wayOf 62 = .ok (.iload 4, 2) := dk_21 4 (dk_at dksX0_wayOf_2 17 rfl rfl)
theorem dX0_wayOf_64 : decode cX0_wayOf 64 = .ok (.iaload, 1) := dk_46 (dk_at dksX0_wayOf_2 19 rfl rfl)
theorem dX0_wayOf_65 : decode cX0_wayOf 65 = .ok (.iload_n 3, 1) := dk_29 (dk_at dksX0_wayOf_2 20 rfl rfl)
theorem dX0_wayOf_66 : decode cX0_wayOf 66 = .ok (.if_icmp .eq 6, 3) := dk_159 0 6 (dk_at dksX0_wayOf_2 21 rfl rfl)
theorem dX0_wayOf_69 : decode cX0_wayOf 69 = .ok (.goto 66, 3) := dk_167 0 66 (dk_at dksX0_wayOf_3 0 rfl rfl)
theorem dX0_wayOf_72 : decode cX0_wayOf 72 = .ok (.iconst 0, 1) := dk_3 (dk_at dksX0_wayOf_3 3 rfl rfl)
theorem dX0_wayOf_73 : decode cX0_wayOf 73 = .ok (.istore 5, 2) := dk_54 5 (dk_at dksX0_wayOf_3 4 rfl rfl)
theorem dX0_wayOf_75 : decode cX0_wayOf 75 = .ok (.iload 5, 2) := dk_21 5 (dk_at dksX0_wayOf_3 6 rfl rfl)
theorem dX0_wayOf_77 : decode cX0_wayOf 77 = .ok (.iconst 4, 1) := dk_7 (dk_at dksX0_wayOf_3 8 rfl rfl)
theorem dX0_wayOf_78 : decode cX0_wayOf 78 = .ok (.if_icmp .ge 57, 3) := dk_162 0 57 (dk_at dksX0_wayOf_3 9 rfl rfl)
theorem dX0_wayOf_81 : decode cX0_wayOf 81 = .ok (.iload 4, 2) := dk_21 4 (dk_at dksX0_wayOf_3 12 rfl rfl)
theorem dX0_wayOf_83 : decode cX0_wayOf 83 = .ok (.iload 5, 2) := dk_21 5 (dk_at dksX0_wayOf_3 14 rfl rfl)
theorem dX0_wayOf_85 : decode cX0_wayOf 85 = .ok (.invokestatic 313, 3) := dk_184 1 57 (dk_at dksX0_wayOf_3 16 rfl rfl)
theorem dX0_wayOf_88 : decode cX0_wayOf 88 = .ok (.istore 6, 2) := dk_54 6 (dk_at dksX0_wayOf_3 19 rfl rfl)
theorem dX0_wayOf_90 : decode cX0_wayOf 90 = .ok (.iload 6, 2) := dk_21 6 (dk_at dksX0_wayOf_3 21 rfl rfl)
theorem dX0_wayOf_92 : decode cX0_wayOf 92 = .ok (.iconst (-1), 1) := dk_2 (dk_at dksX0_wayOf_3 23 rfl rfl)
theorem dX0_wayOf_93 : decode cX0_wayOf 93 = .ok (.if_icmp .eq 36, 3) := dk_159 0 36 (dk_at dksX0_wayOf_4 0 rfl rfl)
theorem dX0_wayOf_96 : decode cX0_wayOf 96 = .ok (.aload_n 0, 1) := dk_42 (dk_at dksX0_wayOf_4 3 rfl rfl)
theorem dX0_wayOf_97 : decode cX0_wayOf 97 = .ok (.getfield 108, 3) := dk_180 0 108 (dk_at dksX0_wayOf_4 4 rfl rfl)
theorem dX0_wayOf_100 : decode cX0_wayOf 100 = .ok (.iload 6, 2) := dk_21 6 (dk_at dksX0_wayOf_4 7 rfl rfl)
theorem dX0_wayOf_102 : decode cX0_wayOf 102 = .ok (.iaload, 1) := dk_46 (dk_at dksX0_wayOf_4 9 rfl rfl)
theorem dX0_wayOf_103 : decode cX0_wayOf 103 = .ok (.ldc_w 392, 3) := dk_19 1 136 (dk_at dksX0_wayOf_4 10 rfl rfl)
theorem dX0_wayOf_106 : decode cX0_wayOf 106 = .ok (.if_icmp .ne 23, 3) := dk_160 0 23 (dk_at dksX0_wayOf_4 13 rfl rfl)
theorem dX0_wayOf_109 : decode cX0_wayOf 109 = .ok (.aload_n 0, 1) := dk_42 (dk_at dksX0_wayOf_4 16 rfl rfl)
theorem dX0_wayOf_110 : decode cX0_wayOf 110 = .ok (.iload 6, 2) := dk_21 6 (dk_at dksX0_wayOf_4 17 rfl rfl)
theorem dX0_wayOf_112 : decode cX0_wayOf 112 = .ok (.iload_n 2, 1) := dk_28 (dk_at dksX0_wayOf_4 19 rfl rfl)
theorem dX0_wayOf_113 : decode cX0_wayOf 113 = .ok (.invokevirtual 398, 3) := dk_182 1 142 (dk_at dksX0_wayOf_4 20 rfl rfl)
theorem dX0_wayOf_116 : decode cX0_wayOf 116 = .ok (.ifCond .eq 13, 3) := dk_153 0 13 (dk_at dksX0_wayOf_5 0 rfl rfl)
theorem dX0_wayOf_119 : decode cX0_wayOf 119 = .ok (.aload_n 0, 1) := dk_42 (dk_at dksX0_wayOf_5 3 rfl rfl)
theorem dX0_wayOf_120 : decode cX0_wayOf 120 = .ok (.getfield 108, 3) := dk_180 0 108 (dk_at dksX0_wayOf_5 4 rfl rfl)
theorem dX0_wayOf_123 : decode cX0_wayOf 123 = .ok (.iload 6, 2) := dk_21 6 (dk_at dksX0_wayOf_5 7 rfl rfl)
theorem dX0_wayOf_125 : decode cX0_wayOf 125 = .ok (.iload_n 3, 1) := dk_29 (dk_at dksX0_wayOf_5 9 rfl rfl)
theorem dX0_wayOf_126 : decode cX0_wayOf 126 = .ok (.iconst 1, 1) := dk_4 (dk_at dksX0_wayOf_5 10 rfl rfl)
theorem dX0_wayOf_127 : decode cX0_wayOf 127 = .ok (.iadd, 1) := dk_96 (dk_at dksX0_wayOf_5 11 rfl rfl)
theorem dX0_wayOf_128 : decode cX0_wayOf 128 = .ok (.iastore, 1) := dk_79 (dk_at dksX0_wayOf_5 12 rfl rfl)
theorem dX0_wayOf_129 : decode cX0_wayOf 129 = .ok (.iinc 5 1, 3) := dk_132 5 1 (dk_at dksX0_wayOf_5 13 rfl rfl)
theorem dX0_wayOf_132 : decode cX0_wayOf 132 = .ok (.goto (-57), 3) := dk_167 255 199 (dk_at dksX0_wayOf_5 16 rfl rfl)
theorem dX0_wayOf_135 : decode cX0_wayOf 135 = .ok (.iinc 4 1, 3) := dk_132 4 1 (dk_at dksX0_wayOf_5 19 rfl rfl)
theorem dX0_wayOf_138 : decode cX0_wayOf 138 = .ok (.goto (-87), 3) := dk_167 255 169 (dk_at dksX0_wayOf_6 0 rfl rfl)
theorem dX0_wayOf_141 : decode cX0_wayOf 141 = .ok (.iinc 3 1, 3) := dk_132 3 1 (dk_at dksX0_wayOf_6 3 rfl rfl)
theorem dX0_wayOf_144 : decode cX0_wayOf 144 = .ok (.goto (-102), 3) := dk_167 255 154 (dk_at dksX0_wayOf_6 6 rfl rfl)
theorem dX0_wayOf_147 : decode cX0_wayOf 147 = .ok (.aload_n 0, 1) := dk_42 (dk_at dksX0_wayOf_6 9 rfl rfl)
theorem dX0_wayOf_148 : decode cX0_wayOf 148 = .ok (.getfield 108, 3) := dk_180 0 108 (dk_at dksX0_wayOf_6 10 rfl rfl)
theorem dX0_wayOf_151 : decode cX0_wayOf 151 = .ok (.iload_n 1, 1) := dk_27 (dk_at dksX0_wayOf_6 13 rfl rfl)
theorem dX0_wayOf_152 : decode cX0_wayOf 152 = .ok (.iaload, 1) := dk_46 (dk_at dksX0_wayOf_6 14 rfl rfl)
theorem dX0_wayOf_153 : decode cX0_wayOf 153 = .ok (.ireturn, 1) := dk_172 (dk_at dksX0_wayOf_6 15 rfl rfl)
abbrev cX0_canPass : ByteArray := prog_1_method_74_code
def yX0_canPass : MethodName := ⟨RX0, "canPass", "(II)Z"⟩
def dkwX0_canPass_1 : List UInt8 := [163, 0, 7, 4, 167, 0, 4, 3, 172]
abbrev dktX0_canPass_1 : List UInt8 := dkwX0_canPass_1 ++ []
def dkwX0_canPass_0 : List UInt8 := [28, 27, 184, 1, 38, 154, 0, 24, 42, 182, 0, 161, 180, 0, 167, 27, 46, 42, 5, 182, 0, 202]
abbrev dktX0_canPass_0 : List UInt8 := dkwX0_canPass_0 ++ dktX0_canPass_1
theorem dksX0_canPass_0 : cX0_canPass.data.toList.drop 0 = dktX0_canPass_0 := by decide +kernel
theorem dksX0_canPass_1 : cX0_canPass.data.toList.drop 22 = dktX0_canPass_1 := dk_seg dksX0_canPass_0 22 rfl rfl
theorem dX0_canPass_0 : decode cX0_canPass 0 = .ok (.iload_n 2, 1) := dk_28 (dk_at dksX0_canPass_0 0 rfl rfl)
theorem dX0_canPass_1 : decode cX0_canPass 1 = .ok (.iload_n 1, 1) := dk_27 (dk_at dksX0_canPass_0 1 rfl rfl)
theorem dX0_canPass_2 : decode cX0_canPass 2 = .ok (.invokestatic 294, 3) := dk_184 1 38 (dk_at dksX0_canPass_0 2 rfl rfl)
theorem dX0_canPass_5 : decode cX0_canPass 5 = .ok (.ifCond .ne 24, 3) := dk_154 0 24 (dk_at dksX0_canPass_0 5 rfl rfl)
theorem dX0_canPass_8 : decode cX0_canPass 8 = .ok (.aload_n 0, 1) := dk_42 (dk_at dksX0_canPass_0 8 rfl rfl)
theorem dX0_canPass_9 : decode cX0_canPass 9 = .ok (.invokevirtual 161, 3) := dk_182 0 161 (dk_at dksX0_canPass_0 9 rfl rfl)
theorem dX0_canPass_12 : decode cX0_canPass 12 = .ok (.getfield 167, 3) := dk_180 0 167 (dk_at dksX0_canPass_0 12 rfl rfl)
theorem dX0_canPass_15 : decode cX0_canPass 15 = .ok (.iload_n 1, 1) := dk_27 (dk_at dksX0_canPass_0 15 rfl rfl)
theorem dX0_canPass_16 : decode cX0_canPass 16 = .ok (.iaload, 1) := dk_46 (dk_at dksX0_canPass_0 16 rfl rfl)
theorem dX0_canPass_17 : decode cX0_canPass 17 = .ok (.aload_n 0, 1) := dk_42 (dk_at dksX0_canPass_0 17 rfl rfl)
theorem dX0_canPass_18 : decode cX0_canPass 18 = .ok (.iconst 2, 1) := dk_5 (dk_at dksX0_canPass_0 18 rfl rfl)
theorem dX0_canPass_19 : decode cX0_canPass 19 = .ok (.invokevirtual 202, 3) := dk_182 0 202 (dk_at dksX0_canPass_0 19 rfl rfl)
theorem dX0_canPass_22 : decode cX0_canPass 22 = .ok (.if_icmp .gt 7, 3) := dk_163 0 7 (dk_at dksX0_canPass_1 0 rfl rfl)
theorem dX0_canPass_25 : decode cX0_canPass 25 = .ok (.iconst 1, 1) := dk_4 (dk_at dksX0_canPass_1 3 rfl rfl)
theorem dX0_canPass_26 : decode cX0_canPass 26 = .ok (.goto 4, 3) := dk_167 0 4 (dk_at dksX0_canPass_1 4 rfl rfl)
theorem dX0_canPass_29 : decode cX0_canPass 29 = .ok (.iconst 0, 1) := dk_3 (dk_at dksX0_canPass_1 7 rfl rfl)
theorem dX0_canPass_30 : decode cX0_canPass 30 = .ok (.ireturn, 1) := dk_172 (dk_at dksX0_canPass_1 8 rfl rfl)
abbrev cX0_cut : ByteArray := prog_1_method_76_code
def yX0_cut : MethodName := ⟨RX0, "cut", "(II)I"⟩
def dkwX0_cut_4 : List UInt8 := [132, 4, 1, 167, 255, 194, 132, 3, 1, 167, 255, 180, 2, 172]
abbrev dktX0_cut_4 : List UInt8 := dkwX0_cut_4 ++ []
def dkwX0_cut_3 : List UInt8 := [21, 4, 182, 1, 145, 19, 1, 136, 160, 0, 14, 28, 154, 0, 7, 29, 167, 0, 5, 21, 4, 172]
abbrev dktX0_cut_3 : List UInt8 := dkwX0_cut_3 ++ dktX0_cut_4
def dkwX0_cut_2 : List UInt8 := [160, 0, 45, 21, 4, 3, 184, 1, 38, 154, 0, 36, 21, 4, 27, 184, 1, 38, 154, 0, 27, 42, 27]
abbrev dktX0_cut_2 : List UInt8 := dkwX0_cut_2 ++ dktX0_cut_3
def dkwX0_cut_1 : List UInt8 := [29, 5, 163, 0, 77, 3, 54, 4, 21, 4, 19, 1, 138, 162, 0, 60, 21, 4, 184, 1, 108, 29]
abbrev dktX0_cut_1 : List UInt8 := dkwX0_cut_1 ++ dktX0_cut_2
def dkwX0_cut_0 : List UInt8 := [27, 184, 0, 149, 153, 0, 16, 27, 153, 0, 12, 28, 3, 4, 184, 0, 26, 154, 0, 5, 2, 172, 3, 62]
abbrev dktX0_cut_0 : List UInt8 := dkwX0_cut_0 ++ dktX0_cut_1
theorem dksX0_cut_0 : cX0_cut.data.toList.drop 0 = dktX0_cut_0 := by decide +kernel
theorem dksX0_cut_1 : cX0_cut.data.toList.drop 24 = dktX0_cut_1 := dk_seg dksX0_cut_0 24 rfl rfl
theorem dksX0_cut_2 : cX0_cut.data.toList.drop 46 = dktX0_cut_2 := dk_seg dksX0_cut_1 22 rfl rfl
theorem dksX0_cut_3 : cX0_cut.data.toList.drop 69 = dktX0_cut_3 := dk_seg dksX0_cut_2 23 rfl rfl
theorem dksX0_cut_4 : cX0_cut.data.toList.drop 91 = dktX0_cut_4 := dk_seg dksX0_cut_3 22 rfl rfl
theorem dX0_cut_0 : decode cX0_cut 0 = .ok (.iload_n 1, 1) := dk_27 (dk_at dksX0_cut_0 0 rfl rfl)
theorem dX0_cut_1 : decode cX0_cut 1 = .ok (.invokestatic 149, 3) := dk_184 0 149 (dk_at dksX0_cut_0 1 rfl rfl)
theorem dX0_cut_4 : decode cX0_cut 4 = .ok (.ifCond .eq 16, 3) := dk_153 0 16 (dk_at dksX0_cut_0 4 rfl rfl)
theorem dX0_cut_7 : decode cX0_cut 7 = .ok (.iload_n 1, 1) := dk_27 (dk_at dksX0_cut_0 7 rfl rfl)
theorem dX0_cut_8 : decode cX0_cut 8 = .ok (.ifCond .eq 12, 3) := dk_153 0 12 (dk_at dksX0_cut_0 8 rfl rfl)
theorem dX0_cut_11 : decode cX0_cut 11 = .ok (.iload_n 2, 1) := dk_28 (dk_at dksX0_cut_0 11 rfl rfl)
theorem dX0_cut_12 : decode cX0_cut 12 = .ok (.iconst 0, 1) := dk_3 (dk_at dksX0_cut_0 12 rfl rfl)
theorem dX0_cut_13 : decode cX0_cut 13 = .ok (.iconst 1, 1) := dk_4 (dk_at dksX0_cut_0 13 rfl rfl)
theorem dX0_cut_14 : decode cX0_cut 14 = .ok (.invokestatic 26, 3) := dk_184 0 26 (dk_at dksX0_cut_0 14 rfl rfl)
theorem dX0_cut_17 : decode cX0_cut 17 = .ok (.ifCond .ne 5, 3) := dk_154 0 5 (dk_at dksX0_cut_0 17 rfl rfl)
theorem dX0_cut_20 : decode cX0_cut 20 = .ok (.iconst (-1), 1) := dk_2 (dk_at dksX0_cut_0 20 rfl rfl)
theorem dX0_cut_21 : decode cX0_cut 21 = .ok (.ireturn, 1) := dk_172 (dk_at dksX0_cut_0 21 rfl rfl)
theorem dX0_cut_22 : decode cX0_cut 22 = .ok (.iconst 0, 1) := dk_3 (dk_at dksX0_cut_0 22 rfl rfl)
theorem dX0_cut_23 : decode cX0_cut 23 = .ok (.istore_n 3, 1) := dk_62 (dk_at dksX0_cut_0 23 rfl rfl)
theorem dX0_cut_24 : decode cX0_cut 24 = .ok (.iload_n 3, 1) := dk_29 (dk_at dksX0_cut_1 0 rfl rfl)
theorem dX0_cut_25 : decode cX0_cut 25 = .ok (.iconst 2, 1) := dk_5 (dk_at dksX0_cut_1 1 rfl rfl)
theorem dX0_cut_26 : decode cX0_cut 26 = .ok (.if_icmp .gt 77, 3) := dk_163 0 77 (dk_at dksX0_cut_1 2 rfl rfl)
theorem dX0_cut_29 : decode cX0_cut 29 = .ok (.iconst 0, 1) := dk_3 (dk_at dksX0_cut_1 5 rfl rfl)
theorem dX0_cut_30 : decode cX0_cut 30 = .ok (.istore 4, 2) := dk_54 4 (dk_at dksX0_cut_1 6 rfl rfl)
theorem dX0_cut_32 : decode cX0_cut 32 = .ok (.iload 4, 2) := dk_21 4 (dk_at dksX0_cut_1 8 rfl rfl)
theorem dX0_cut_34 : decode cX0_cut 34 = .ok (.ldc_w 394, 3) := dk_19 1 138 (dk_at dksX0_cut_1 10 rfl rfl)
theorem dX0_cut_37 : decode cX0_cut 37 = .ok (.if_icmp .ge 60, 3) := dk_162 0 60 (dk_at dksX0_cut_1 13 rfl rfl)
theorem dX0_cut_40 : decode cX0_cut 40 = .ok (.iload 4, 2) := dk_21 4 (dk_at dksX0_cut_1 16 rfl rfl)
theorem dX0_cut_42 : decode cX0_cut 42 = .ok (.invokestatic 364, 3) := dk_184 1 108 (dk_at dksX0_cut_1 18 rfl rfl)
theorem dX0_cut_45 : decode cX0_cut 45 = .ok (.iload_n 3, 1) := dk_29 (dk_at dksX0_cut_1 21 rfl rfl)
theorem dX0_cut_46 : decode cX0_cut 46 = .ok (.if_icmp .ne 45, 3) := dk_160 0 45 (dk_at dksX0_cut_2 0 rfl rfl)
theorem dX0_cut_49 : decode cX0_cut 49 = .ok (.iload 4, 2) := dk_21 4 (dk_at dksX0_cut_2 3 rfl rfl)
theorem dX0_cut_51 : decode cX0_cut 51 = .ok (.iconst 0, 1) := dk_3 (dk_at dksX0_cut_2 5 rfl rfl)
theorem dX0_cut_52 : decode cX0_cut 52 = .ok (.invokestatic 294, 3) := dk_184 1 38 (dk_at dksX0_cut_2 6 rfl rfl)
theorem dX0_cut_55 : decode cX0_cut 55 = .ok (.ifCond .ne 36, 3) := dk_154 0 36 (dk_at dksX0_cut_2 9 rfl rfl)
theorem dX0_cut_58 : decode cX0_cut 58 = .ok (.iload 4, 2) := dk_21 4 (dk_at dksX0_cut_2 12 rfl rfl)
theorem dX0_cut_60 : decode cX0_cut 60 = .ok (.iload_n 1, 1) := dk_27 (dk_at dksX0_cut_2 14 rfl rfl)
theorem dX0_cut_61 : decode cX0_cut 61 = .ok (.invokestatic 294, 3) := dk_184 1 38 (dk_at dksX0_cut_2 15 rfl rfl)
theorem dX0_cut_64 : decode cX0_cut 64 = .ok (.ifCond .ne 27, 3) := dk_154 0 27 (dk_at dksX0_cut_2 18 rfl rfl)
theorem dX0_cut_67 : decode cX0_cut 67 = .ok (.aload_n 0, 1) := dk_42 (dk_at dksX0_cut_2 21 rfl rfl)
theorem dX0_cut_68 : decode cX0_cut 68 = .ok (.iload_n 1, 1) := dk_27 (dk_at dksX0_cut_2 22 rfl rfl)
theorem dX0_cut_69 : decode cX0_cut 69 = .ok (.iload 4, 2) := dk_21 4 (dk_at dksX0_cut_3 0 rfl rfl)
theorem dX0_cut_71 : decode cX0_cut 71 = .ok (.invokevirtual 401, 3) := dk_182 1 145 (dk_at dksX0_cut_3 2 rfl rfl)
theorem dX0_cut_74 : decode cX0_cut 74 = .ok (.ldc_w 392, 3) := dk_19 1 136 (dk_at dksX0_cut_3 5 rfl rfl)
theorem dX0_cut_77 : decode cX0_cut 77 = .ok (.if_icmp .ne 14, 3) := dk_160 0 14 (dk_at dksX0_cut_3 8 rfl rfl)
theorem dX0_cut_80 : decode cX0_cut 80 = .ok (.iload_n 2, 1) := dk_28 (dk_at dksX0_cut_3 11 rfl rfl)
theorem dX0_cut_81 : decode cX0_cut 81 = .ok (.ifCond .ne 7, 3) := dk_154 0 7 (dk_at dksX0_cut_3 12 rfl rfl)
theorem dX0_cut_84 : decode cX0_cut 84 = .ok (.iload_n 3, 1) := dk_29 (dk_at dksX0_cut_3 15 rfl rfl)
theorem dX0_cut_85 : decode cX0_cut 85 = .ok (.goto 5, 3) := dk_167 0 5 (dk_at dksX0_cut_3 16 rfl rfl)
theorem dX0_cut_88 : decode cX0_cut 88 = .ok (.iload 4, 2) := dk_21 4 (dk_at dksX0_cut_3 19 rfl rfl)
theorem dX0_cut_90 : decode cX0_cut 90 = .ok (.ireturn, 1) := dk_172 (dk_at dksX0_cut_3 21 rfl rfl)
theorem dX0_cut_91 : decode cX0_cut 91 = .ok (.iinc 4 1, 3) := dk_132 4 1 (dk_at dksX0_cut_4 0 rfl rfl)
theorem dX0_cut_94 : decode cX0_cut 94 = .ok (.goto (-62), 3) := dk_167 255 194 (dk_at dksX0_cut_4 3 rfl rfl)
theorem dX0_cut_97 : decode cX0_cut 97 = .ok (.iinc 3 1, 3) := dk_132 3 1 (dk_at dksX0_cut_4 6 rfl rfl)
theorem dX0_cut_100 : decode cX0_cut 100 = .ok (.goto (-76), 3) := dk_167 255 180 (dk_at dksX0_cut_4 9 rfl rfl)
theorem dX0_cut_103 : decode cX0_cut 103 = .ok (.iconst (-1), 1) := dk_2 (dk_at dksX0_cut_4 12 rfl rfl)
theorem dX0_cut_104 : decode cX0_cut 104 = .ok (.ireturn, 1) := dk_172 (dk_at dksX0_cut_4 13 rfl rfl)
abbrev cX0_share : ByteArray := prog_1_method_77_code
def yX0_share : MethodName := ⟨RX0, "share", "(II)I"⟩
def dkwX0_share_9 : List UInt8 := [167, 0, 4, 3, 96, 172]
abbrev dktX0_share_9 : List UInt8 := dkwX0_share_9 ++ []
def dkwX0_share_8 : List UInt8 := [27, 133, 42, 28, 16, 8, 182, 1, 149, 133, 105, 33, 109, 136, 21, 7, 133, 22, 5, 148, 156, 0, 7, 4]
abbrev dktX0_share_8 : List UInt8 := dkwX0_share_8 ++ dktX0_share_9
def dkwX0_share_7 : List UInt8 := [148, 154, 0, 13, 21, 8, 28, 162, 0, 7, 4, 167, 0, 4, 3, 96, 54, 7, 132, 8, 1, 167, 255, 196]
abbrev dktX0_share_7 : List UInt8 := dkwX0_share_7 ++ dktX0_share_8
def dkwX0_share_6 : List UInt8 := [47, 42, 180, 0, 111, 28, 47, 148, 157, 0, 26, 42, 180, 0, 111, 21, 8, 47, 42, 180, 0, 111, 28, 47]
abbrev dktX0_share_6 : List UInt8 := dkwX0_share_6 ++ dktX0_share_7
def dkwX0_share_5 : List UInt8 := [167, 255, 206, 3, 54, 7, 3, 54, 8, 21, 8, 16, 16, 162, 0, 59, 21, 7, 42, 180, 0, 111, 21, 8]
abbrev dktX0_share_5 : List UInt8 := dkwX0_share_5 ++ dktX0_share_6
def dkwX0_share_4 : List UInt8 := [180, 0, 111, 21, 7, 27, 133, 42, 21, 7, 16, 8, 182, 1, 149, 133, 105, 33, 113, 80, 132, 7, 1]
abbrev dktX0_share_4 : List UInt8 := dkwX0_share_4 ++ dktX0_share_5
def dkwX0_share_3 : List UInt8 := [162, 0, 49, 22, 5, 27, 133, 42, 21, 7, 16, 8, 182, 1, 149, 133, 105, 33, 109, 101, 55, 5, 42]
abbrev dktX0_share_3 : List UInt8 := dkwX0_share_3 ++ dktX0_share_4
def dkwX0_share_2 : List UInt8 := [167, 255, 234, 33, 9, 148, 154, 0, 5, 2, 172, 27, 133, 55, 5, 3, 54, 7, 21, 7, 16, 16]
abbrev dktX0_share_2 : List UInt8 := dkwX0_share_2 ++ dktX0_share_3
def dkwX0_share_1 : List UInt8 := [54, 5, 21, 5, 16, 16, 162, 0, 21, 33, 42, 21, 5, 16, 8, 182, 1, 149, 133, 97, 66, 132, 5, 1]
abbrev dktX0_share_1 : List UInt8 := dkwX0_share_1 ++ dktX0_share_2
def dkwX0_share_0 : List UInt8 := [27, 3, 19, 1, 148, 184, 0, 26, 153, 0, 10, 28, 184, 0, 149, 154, 0, 5, 2, 172, 9, 66, 3]
abbrev dktX0_share_0 : List UInt8 := dkwX0_share_0 ++ dktX0_share_1
theorem dksX0_share_0 : cX0_share.data.toList.drop 0 = dktX0_share_0 := by decide +kernel
theorem dksX0_share_1 : cX0_share.data.toList.drop 23 = dktX0_share_1 := dk_seg dksX0_share_0 23 rfl rfl
theorem dksX0_share_2 : cX0_share.data.toList.drop 47 = dktX0_share_2 := dk_seg dksX0_share_1 24 rfl rfl
theorem dksX0_share_3 : cX0_share.data.toList.drop 69 = dktX0_share_3 := dk_seg dksX0_share_2 22 rfl rfl
theorem dksX0_share_4 : cX0_share.data.toList.drop 92 = dktX0_share_4 := dk_seg dksX0_share_3 23 rfl rfl
theorem dksX0_share_5 : cX0_share.data.toList.drop 115 = dktX0_share_5 := dk_seg dksX0_share_4 23 rfl rfl
theorem dksX0_share_6 : cX0_share.data.toList.drop 139 = dktX0_share_6 := dk_seg dksX0_share_5 24 rfl rfl
theorem dksX0_share_7 : cX0_share.data.toList.drop 163 = dktX0_share_7 := dk_seg dksX0_share_6 24 rfl rfl
theorem dksX0_share_8 : cX0_share.data.toList.drop 187 = dktX0_share_8 := dk_seg dksX0_share_7 24 rfl rfl
theorem dksX0_share_9 : cX0_share.data.toList.drop 211 = dktX0_share_9 := dk_seg dksX0_share_8 24 rfl rfl
theorem dX0_share_0 : decode cX0_share 0 = .ok (.iload_n 1, 1) := dk_27 (dk_at dksX0_share_0 0 rfl rfl)
theorem dX0_share_1 : decode cX0_share 1 = .ok (.iconst 0, 1) := dk_3 (dk_at dksX0_share_0 1 rfl rfl)
theorem dX0_share_2 : decode cX0_share 2 = .ok (.ldc_w 404, 3) := dk_19 1 148 (dk_at dksX0_share_0 2 rfl rfl)
theorem dX0_share_5 : decode cX0_share 5 = .ok (.invokestatic 26, 3) := dk_184 0 26 (dk_at dksX0_share_0 5 rfl rfl)
theorem dX0_share_8 : decode cX0_share 8 = .ok (.ifCond .eq 10, 3) := dk_153 0 10 (dk_at dksX0_share_0 8 rfl rfl)
theorem dX0_share_11 : decode cX0_share 11 = .ok (.iload_n 2, 1) := dk_28 (dk_at dksX0_share_0 11 rfl rfl)
theorem dX0_share_12 : decode cX0_share 12 = .ok (.invokestatic 149, 3) := dk_184 0 149 (dk_at dksX0_share_0 12 rfl rfl)
theorem dX0_share_15 : decode cX0_share 15 = .ok (.ifCond .ne 5, 3) := dk_154 0 5 (dk_at dksX0_share_0 15 rfl rfl)
theorem dX0_share_18 : decode cX0_share 18 = .ok (.iconst (-1), 1) := dk_2 (dk_at dksX0_share_0 18 rfl rfl)
theorem dX0_share_19 : decode cX0_share 19 = .ok (.ireturn, 1) := dk_172 (dk_at dksX0_share_0 19 rfl rfl)
theorem dX0_share_20 : decode cX0_share 20 = .ok (.lconst 0, 1) := dk_9 (dk_at dksX0_share_0 20 rfl rfl)
theorem dX0_share_21 : decode cX0_share 21 = .ok (.lstore_n 3, 1) := dk_66 (dk_at dksX0_share_0 21 rfl rfl)
theorem dX0_share_22 : decode cX0_share 22 = .ok (.iconst 0, 1) := dk_3 (dk_at dksX0_share_0 22 rfl rfl)
theorem dX0_share_23 : decode cX0_share 23 = .ok (.istore 5, 2) := dk_54 5 (dk_at dksX0_share_1 0 rfl rfl)
theorem dX0_share_25 : decode cX0_share 25 = .ok (.iload 5, 2) := dk_21 5 (dk_at dksX0_share_1 2 rfl rfl)
theorem dX0_share_27 : decode cX0_share 27 = .ok (.bipush 16, 2) := dk_16 16 (dk_at dksX0_share_1 4 rfl rfl)
theorem dX0_share_29 : decode cX0_share 29 = .ok (.if_icmp .ge 21, 3) := dk_162 0 21 (dk_at dksX0_share_1 6 rfl rfl)
theorem dX0_share_32 : decode cX0_share 32 = .ok (.lload_n 3, 1) := dk_33 (dk_at dksX0_share_1 9 rfl rfl)
theorem dX0_share_33 : decode cX0_share 33 = .ok (.aload_n 0, 1) := dk_42 (dk_at dksX0_share_1 10 rfl rfl)
theorem dX0_share_34 : decode cX0_share 34 = .ok (.iload 5, 2) := dk_21 5 (dk_at dksX0_share_1 11 rfl rfl)
theorem dX0_share_36 : decode cX0_share 36 = .ok (.bipush 8, 2) := dk_16 8 (dk_at dksX0_share_1 13 rfl rfl)
theorem dX0_share_38 : decode cX0_share 38 = .ok (.invokevirtual 405, 3) := dk_182 1 149 (dk_at dksX0_share_1 15 rfl rfl)
theorem dX0_share_41 : decode cX0_share 41 = .ok (.i2l, 1) := dk_133 (dk_at dksX0_share_1 18 rfl rfl)
theorem dX0_share_42 : decode cX0_share 42 = .ok (.ladd, 1) := dk_97 (dk_at dksX0_share_1 19 rfl rfl)
theorem dX0_share_43 : decode cX0_share 43 = .ok (.lstore_n 3, 1) := dk_66 (dk_at dksX0_share_1 20 rfl rfl)
theorem dX0_share_44 : decode cX0_share 44 = .ok (.iinc 5 1, 3) := dk_132 5 1 (dk_at dksX0_share_1 21 rfl rfl)
theorem dX0_share_47 : decode cX0_share 47 = .ok (.goto (-22), 3) := dk_167 255 234 (dk_at dksX0_share_2 0 rfl rfl)
theorem dX0_share_50 : decode cX0_share 50 = .ok (.lload_n 3, 1) := dk_33 (dk_at dksX0_share_2 3 rfl rfl)
theorem dX0_share_51 : decode cX0_share 51 = .ok (.lconst 0, 1) := dk_9 (dk_at dksX0_share_2 4 rfl rfl)
theorem dX0_share_52 : decode cX0_share 52 = .ok (.lcmp, 1) := dk_148 (dk_at dksX0_share_2 5 rfl rfl)
theorem dX0_share_53 : decode cX0_share 53 = .ok (.ifCond .ne 5, 3) := dk_154 0 5 (dk_at dksX0_share_2 6 rfl rfl)
theorem dX0_share_56 : decode cX0_share 56 = .ok (.iconst (-1), 1) := dk_2 (dk_at dksX0_share_2 9 rfl rfl)
theorem dX0_share_57 : decode cX0_share 57 = .ok (.ireturn, 1) := dk_172 (dk_at dksX0_share_2 10 rfl rfl)
theorem dX0_share_58 : decode cX0_share 58 = .ok (.iload_n 1, 1) := dk_27 (dk_at dksX0_share_2 11 rfl rfl)
theorem dX0_share_59 : decode cX0_share 59 = .ok (.i2l, 1) := dk_133 (dk_at dksX0_share_2 12 rfl rfl)
theorem dX0_share_60 : decode cX0_share 60 = .ok (.lstore 5, 2) := dk_55 5 (dk_at dksX0_share_2 13 rfl rfl)
theorem dX0_share_62 : decode cX0_share 62 = .ok (.iconst 0, 1) := dk_3 (dk_at dksX0_share_2 15 rfl rfl)
theorem dX0_share_63 : decode cX0_share 63 = .ok (.istore 7, 2) := dk_54 7 (dk_at dksX0_share_2 16 rfl rfl)
theorem dX0_share_65 : decode cX0_share 65 = .ok (.iload 7, 2) := dk_21 7 (dk_at dksX0_share_2 18 rfl rfl)
theorem dX0_share_67 : decode cX0_share 67 = .ok (.bipush 16, 2) := dk_16 16 (dk_at dksX0_share_2 20 rfl rfl)
theorem dX0_share_69 : decode cX0_share 69 = .ok (.if_icmp .ge 49, 3) := dk_162 0 49 (dk_at dksX0_share_3 0 rfl rfl)
theorem dX0_share_72 : decode cX0_share 72 = .ok (.lload 5, 2) := dk_22 5 (dk_at dksX0_share_3 3 rfl rfl)
theorem dX0_share_74 : decode cX0_share 74 = .ok (.iload_n 1, 1) := dk_27 (dk_at dksX0_share_3 5 rfl rfl)
theorem dX0_share_75 : decode cX0_share 75 = .ok (.i2l, 1) := dk_133 (dk_at dksX0_share_3 6 rfl rfl)
theorem dX0_share_76 : decode cX0_share 76 = .ok (.aload_n 0, 1) := dk_42 (dk_at dksX0_share_3 7 rfl rfl)
theorem dX0_share_77 : decode cX0_share 77 = .ok (.iload 7, 2) := dk_21 7 (dk_at dksX0_share_3 8 rfl rfl)
theorem dX0_share_79 : decode cX0_share 79 = .ok (.bipush 8, 2) := dk_16 8 (dk_at dksX0_share_3 10 rfl rfl)
theorem dX0_share_81 : decode cX0_share 81 = .ok (.invokevirtual 405, 3) := dk_182 1 149 (dk_at dksX0_share_3 12 rfl rfl)
theorem dX0_share_84 : decode cX0_share 84 = .ok (.i2l, 1) := dk_133 (dk_at dksX0_share_3 15 rfl rfl)
theorem dX0_share_85 : decode cX0_share 85 = .ok (.lmul, 1) := dk_105 (dk_at dksX0_share_3 16 rfl rfl)
theorem dX0_share_86 : decode cX0_share 86 = .ok (.lload_n 3, 1) := dk_33 (dk_at dksX0_share_3 17 rfl rfl)
theorem dX0_share_87 : decode cX0_share 87 = .ok (.ldiv, 1) := dk_109 (dk_at dksX0_share_3 18 rfl rfl)
theorem dX0_share_88 : decode cX0_share 88 = .ok (.lsub, 1) := dk_101 (dk_at dksX0_share_3 19 rfl rfl)
theorem dX0_share_89 : decode cX0_share 89 = .ok (.lstore 5, 2) := dk_55 5 (dk_at dksX0_share_3 20 rfl rfl)
theorem dX0_share_91 : decode cX0_share 91 = .ok (.aload_n 0, 1) := dk_42 (dk_at dksX0_share_3 22 rfl rfl)
theorem dX0_share_92 : decode cX0_share 92 = .ok (.getfield 111, 3) := dk_180 0 111 (dk_at dksX0_share_4 0 rfl rfl)
theorem dX0_share_95 : decode cX0_share 95 = .ok (.iload 7, 2) := dk_21 7 (dk_at dksX0_share_4 3 rfl rfl)
theorem dX0_share_97 : decode cX0_share 97 = .ok (.iload_n 1, 1) := dk_27 (dk_at dksX0_share_4 5 rfl rfl)
theorem dX0_share_98 : decode cX0_share 98 = .ok (.i2l, 1) := dk_133 (dk_at dksX0_share_4 6 rfl rfl)
theorem dX0_share_99 : decode cX0_share 99 = .ok (.aload_n 0, 1) := dk_42 (dk_at dksX0_share_4 7 rfl rfl)
theorem dX0_share_100 : decode cX0_share 100 = .ok (.iload 7, 2) := dk_21 7 (dk_at dksX0_share_4 8 rfl rfl)
theorem dX0_share_102 : decode cX0_share 102 = .ok (.bipush 8, 2) := dk_16 8 (dk_at dksX0_share_4 10 rfl rfl)
theorem dX0_share_104 : decode cX0_share 104 = .ok (.invokevirtual 405, 3) := dk_182 1 149 (dk_at dksX0_share_4 12 rfl rfl)
theorem dX0_share_107 : decode cX0_share 107 = .ok (.i2l, 1) := dk_133 (dk_at dksX0_share_4 15 rfl rfl)
theorem dX0_share_108 : decode cX0_share 108 = .ok (.lmul, 1) := dk_105 (dk_at dksX0_share_4 16 rfl rfl)
theorem dX0_share_109 : decode cX0_share 109 = .ok (.lload_n 3, 1) := dk_33 (dk_at dksX0_share_4 17 rfl rfl)
theorem dX0_share_110 : decode cX0_share 110 = .ok (.lrem, 1) := dk_113 (dk_at dksX0_share_4 18 rfl rfl)
theorem dX0_share_111 : decode cX0_share 111 = .ok (.lastore, 1) := dk_80 (dk_at dksX0_share_4 19 rfl rfl)
theorem dX0_share_112 : decode cX0_share 112 = .ok (.iinc 7 1, 3) := dk_132 7 1 (dk_at dksX0_share_4 20 rfl rfl)
theorem dX0_share_115 : decode cX0_share 115 = .ok (.goto (-50), 3) := dk_167 255 206 (dk_at dksX0_share_5 0 rfl rfl)
theorem dX0_share_118 : decode cX0_share 118 = .ok (.iconst 0, 1) := dk_3 (dk_at dksX0_share_5 3 rfl rfl)
theorem dX0_share_119 : decode cX0_share 119 = .ok (.istore 7, 2) := dk_54 7 (dk_at dksX0_share_5 4 rfl rfl)
theorem dX0_share_121 : decode cX0_share 121 = .ok (.iconst 0, 1) := dk_3 (dk_at dksX0_share_5 6 rfl rfl)
theorem dX0_share_122 : decode cX0_share 122 = .ok (.istore 8, 2) := dk_54 8 (dk_at dksX0_share_5 7 rfl rfl)
theorem dX0_share_124 : decode cX0_share 124 = .ok (.iload 8, 2) := dk_21 8 (dk_at dksX0_share_5 9 rfl rfl)
theorem dX0_share_126 : decode cX0_share 126 = .ok (.bipush 16, 2) := dk_16 16 (dk_at dksX0_share_5 11 rfl rfl)
theorem dX0_share_128 : decode cX0_share 128 = .ok (.if_icmp .ge 59, 3) := dk_162 0 59 (dk_at dksX0_share_5 13 rfl rfl)
theorem dX0_share_131 : decode cX0_share 131 = .ok (.iload 7, 2) := dk_21 7 (dk_at dksX0_share_5 16 rfl rfl)
theorem dX0_share_133 : decode cX0_share 133 = .ok (.aload_n 0, 1) := dk_42 (dk_at dksX0_share_5 18 rfl rfl)
theorem dX0_share_134 : decode cX0_share 134 = .ok (.getfield 111, 3) := dk_180 0 111 (dk_at dksX0_share_5 19 rfl rfl)
theorem dX0_share_137 : decode cX0_share 137 = .ok (.iload 8, 2) := dk_21 8 (dk_at dksX0_share_5 22 rfl rfl)
theorem dX0_share_139 : decode cX0_share 139 = .ok (.laload, 1) := dk_47 (dk_at dksX0_share_6 0 rfl rfl)
theorem dX0_share_140 : decode cX0_share 140 = .ok (.aload_n 0, 1) := dk_42 (dk_at dksX0_share_6 1 rfl rfl)
theorem dX0_share_141 : decode cX0_share 141 = .ok (.getfield 111, 3) := dk_180 0 111 (dk_at dksX0_share_6 2 rfl rfl)
theorem dX0_share_144 : decode cX0_share 144 = .ok (.iload_n 2, 1) := dk_28 (dk_at dksX0_share_6 5 rfl rfl)
theorem dX0_share_145 : decode cX0_share 145 = .ok (.laload, 1) := dk_47 (dk_at dksX0_share_6 6 rfl rfl)
theorem dX0_share_146 : decode cX0_share 146 = .ok (.lcmp, 1) := dk_148 (dk_at dksX0_share_6 7 rfl rfl)
theorem dX0_share_147 : decode cX0_share 147 = .ok (.ifCond .gt 26, 3) := dk_157 0 26 (dk_at dksX0_share_6 8 rfl rfl)
theorem dX0_share_150 : decode cX0_share 150 = .ok (.aload_n 0, 1) := dk_42 (dk_at dksX0_share_6 11 rfl rfl)
theorem dX0_share_151 : decode cX0_share 151 = .ok (.getfield 111, 3) := dk_180 0 111 (dk_at dksX0_share_6 12 rfl rfl)
theorem dX0_share_154 : decode cX0_share 154 = .ok (.iload 8, 2) := dk_21 8 (dk_at dksX0_share_6 15 rfl rfl)
theorem dX0_share_156 : decode cX0_share 156 = .ok (.laload, 1) := dk_47 (dk_at dksX0_share_6 17 rfl rfl)
theorem dX0_share_157 : decode cX0_share 157 = .ok (.aload_n 0, 1) := dk_42 (dk_at dksX0_share_6 18 rfl rfl)
theorem dX0_share_158 : decode cX0_share 158 = .ok (.getfield 111, 3) := dk_180 0 111 (dk_at dksX0_share_6 19 rfl rfl)
theorem dX0_share_161 : decode cX0_share 161 = .ok (.iload_n 2, 1) := dk_28 (dk_at dksX0_share_6 22 rfl rfl)
theorem dX0_share_162 : decode cX0_share 162 = .ok (.laload, 1) := dk_47 (dk_at dksX0_share_6 23 rfl rfl)
theorem dX0_share_163 : decode cX0_share 163 = .ok (.lcmp, 1) := dk_148 (dk_at dksX0_share_7 0 rfl rfl)
theorem dX0_share_164 : decode cX0_share 164 = .ok (.ifCond .ne 13, 3) := dk_154 0 13 (dk_at dksX0_share_7 1 rfl rfl)
theorem dX0_share_167 : decode cX0_share 167 = .ok (.iload 8, 2) := dk_21 8 (dk_at dksX0_share_7 4 rfl rfl)
theorem dX0_share_169 : decode cX0_share 169 = .ok (.iload_n 2, 1) := dk_28 (dk_at dksX0_share_7 6 rfl rfl)
theorem dX0_share_170 : decode cX0_share 170 = .ok (.if_icmp .ge 7, 3) := dk_162 0 7 (dk_at dksX0_share_7 7 rfl rfl)
theorem dX0_share_173 : decode cX0_share 173 = .ok (.iconst 1, 1) := dk_4 (dk_at dksX0_share_7 10 rfl rfl)
theorem dX0_share_174 : decode cX0_share 174 = .ok (.goto 4, 3) := dk_167 0 4 (dk_at dksX0_share_7 11 rfl rfl)
theorem dX0_share_177 : decode cX0_share 177 = .ok (.iconst 0, 1) := dk_3 (dk_at dksX0_share_7 14 rfl rfl)
theorem dX0_share_178 : decode cX0_share 178 = .ok (.iadd, 1) := dk_96 (dk_at dksX0_share_7 15 rfl rfl)
theorem dX0_share_179 : decode cX0_share 179 = .ok (.istore 7, 2) := dk_54 7 (dk_at dksX0_share_7 16 rfl rfl)
theorem dX0_share_181 : decode cX0_share 181 = .ok (.iinc 8 1, 3) := dk_132 8 1 (dk_at dksX0_share_7 18 rfl rfl)
theorem dX0_share_184 : decode cX0_share 184 = .ok (.goto (-60), 3) := dk_167 255 196 (dk_at dksX0_share_7 21 rfl rfl)
theorem dX0_share_187 : decode cX0_share 187 = .ok (.iload_n 1, 1) := dk_27 (dk_at dksX0_share_8 0 rfl rfl)
theorem dX0_share_188 : decode cX0_share 188 = .ok (.i2l, 1) := dk_133 (dk_at dksX0_share_8 1 rfl rfl)
theorem dX0_share_189 : decode cX0_share 189 = .ok (.aload_n 0, 1) := dk_42 (dk_at dksX0_share_8 2 rfl rfl)
theorem dX0_share_190 : decode cX0_share 190 = .ok (.iload_n 2, 1) := dk_28 (dk_at dksX0_share_8 3 rfl rfl)
theorem dX0_share_191 : decode cX0_share 191 = .ok (.bipush 8, 2) := dk_16 8 (dk_at dksX0_share_8 4 rfl rfl)
theorem dX0_share_193 : decode cX0_share 193 = .ok (.invokevirtual 405, 3) := dk_182 1 149 (dk_at dksX0_share_8 6 rfl rfl)
theorem dX0_share_196 : decode cX0_share 196 = .ok (.i2l, 1) := dk_133 (dk_at dksX0_share_8 9 rfl rfl)
theorem dX0_share_197 : decode cX0_share 197 = .ok (.lmul, 1) := dk_105 (dk_at dksX0_share_8 10 rfl rfl)
theorem dX0_share_198 : decode cX0_share 198 = .ok (.lload_n 3, 1) := dk_33 (dk_at dksX0_share_8 11 rfl rfl)
theorem dX0_share_199 : decode cX0_share 199 = .ok (.ldiv, 1) := dk_109 (dk_at dksX0_share_8 12 rfl rfl)
theorem dX0_share_200 : decode cX0_share 200 = .ok (.l2i, 1) := dk_136 (dk_at dksX0_share_8 13 rfl rfl)
theorem dX0_share_201 : decode cX0_share 201 = .ok (.iload 7, 2) := dk_21 7 (dk_at dksX0_share_8 14 rfl rfl)
theorem dX0_share_203 : decode cX0_share 203 = .ok (.i2l, 1) := dk_133 (dk_at dksX0_share_8 16 rfl rfl)
theorem dX0_share_204 : decode cX0_share 204 = .ok (.lload 5, 2) := dk_22 5 (dk_at dksX0_share_8 17 rfl rfl)
theorem dX0_share_206 : decode cX0_share 206 = .ok (.lcmp, 1) := dk_148 (dk_at dksX0_share_8 19 rfl rfl)
theorem dX0_share_207 : decode cX0_share 207 = .ok (.ifCond .ge 7, 3) := dk_156 0 7 (dk_at dksX0_share_8 20 rfl rfl)
theorem dX0_share_210 : decode cX0_share 210 = .ok (.iconst 1, 1) := dk_4 (dk_at dksX0_share_8 23 rfl rfl)
theorem dX0_share_211 : decode cX0_share 211 = .ok (.goto 4, 3) := dk_167 0 4 (dk_at dksX0_share_9 0 rfl rfl)
theorem dX0_share_214 : decode cX0_share 214 = .ok (.iconst 0, 1) := dk_3 (dk_at dksX0_share_9 3 rfl rfl)
theorem dX0_share_215 : decode cX0_share 215 = .ok (.iadd, 1) := dk_96 (dk_at dksX0_share_9 4 rfl rfl)
theorem dX0_share_216 : decode cX0_share 216 = .ok (.ireturn, 1) := dk_172 (dk_at dksX0_share_9 5 rfl rfl)
abbrev cX0_game : ByteArray := prog_1_method_78_code
def yX0_game : MethodName := ⟨RX0, "game", "(II)I"⟩
def dkwX0_game_7 : List UInt8 := [167, 0, 8, 16, 10, 21, 6, 104, 172, 132, 6, 1, 167, 255, 209, 132, 4, 1, 167, 255, 173]
abbrev dktX0_game_7 : List UInt8 := dkwX0_game_7 ++ []
def dkwX0_game_6 : List UInt8 := [21, 5, 7, 112, 130, 21, 5, 21, 6, 100, 7, 112, 130, 154, 0, 19, 28, 4, 160, 0, 8, 21, 4]
abbrev dktX0_game_6 : List UInt8 := dkwX0_game_6 ++ dktX0_game_7
def dkwX0_game_5 : List UInt8 := [21, 4, 46, 16, 10, 108, 54, 5, 4, 54, 6, 21, 6, 6, 21, 5, 184, 1, 62, 163, 0, 42, 29]
abbrev dktX0_game_5 : List UInt8 := dkwX0_game_5 ++ dktX0_game_6
def dkwX0_game_4 : List UInt8 := [172, 3, 54, 4, 27, 21, 4, 184, 1, 38, 154, 0, 6, 167, 0, 71, 42, 182, 0, 161, 180, 0, 167]
abbrev dktX0_game_4 : List UInt8 := dkwX0_game_4 ++ dktX0_game_5
def dkwX0_game_3 : List UInt8 := [153, 0, 7, 29, 154, 0, 21, 28, 154, 0, 15, 29, 154, 0, 7, 3, 167, 0, 8, 4, 167, 0, 4, 2]
abbrev dktX0_game_3 : List UInt8 := dkwX0_game_3 ++ dktX0_game_4
def dkwX0_game_2 : List UInt8 := [180, 0, 167, 21, 4, 46, 16, 10, 108, 7, 112, 167, 0, 4, 3, 130, 62, 132, 4, 1, 167, 255, 215, 28]
abbrev dktX0_game_2 : List UInt8 := dkwX0_game_2 ++ dktX0_game_3
def dkwX0_game_1 : List UInt8 := [3, 54, 4, 21, 4, 16, 16, 162, 0, 40, 29, 27, 21, 4, 184, 1, 38, 153, 0, 21, 42, 182, 0, 161]
abbrev dktX0_game_1 : List UInt8 := dkwX0_game_1 ++ dktX0_game_2
def dkwX0_game_0 : List UInt8 := [27, 3, 19, 1, 137, 184, 0, 26, 153, 0, 12, 28, 3, 5, 184, 0, 26, 154, 0, 5, 2, 172, 3, 62]
abbrev dktX0_game_0 : List UInt8 := dkwX0_game_0 ++ dktX0_game_1
theorem dksX0_game_0 : cX0_game.data.toList.drop 0 = dktX0_game_0 := by decide +kernel
theorem dksX0_game_1 : cX0_game.data.toList.drop 24 = dktX0_game_1 := dk_seg dksX0_game_0 24 rfl rfl
theorem dksX0_game_2 : cX0_game.data.toList.drop 48 = dktX0_game_2 := dk_seg dksX0_game_1 24 rfl rfl
theorem dksX0_game_3 : cX0_game.data.toList.drop 72 = dktX0_game_3 := dk_seg dksX0_game_2 24 rfl rfl
theorem dksX0_game_4 : cX0_game.data.toList.drop 96 = dktX0_game_4 := dk_seg dksX0_game_3 24 rfl rfl
theorem dksX0_game_5 : cX0_game.data.toList.drop 119 = dktX0_game_5 := dk_seg dksX0_game_4 23 rfl rfl
theorem dksX0_game_6 : cX0_game.data.toList.drop 142 = dktX0_game_6 := dk_seg dksX0_game_5 23 rfl rfl
theorem dksX0_game_7 : cX0_game.data.toList.drop 165 = dktX0_game_7 := dk_seg dksX0_game_6 23 rfl rfl
theorem dX0_game_0 : decode cX0_game 0 = .ok (.iload_n 1, 1) := dk_27 (dk_at dksX0_game_0 0 rfl rfl)
theorem dX0_game_1 : decode cX0_game 1 = .ok (.iconst 0, 1) := dk_3 (dk_at dksX0_game_0 1 rfl rfl)
theorem dX0_game_2 : decode cX0_game 2 = .ok (.ldc_w 393, 3) := dk_19 1 137 (dk_at dksX0_game_0 2 rfl rfl)
theorem dX0_game_5 : decode cX0_game 5 = .ok (.invokestatic 26, 3) := dk_184 0 26 (dk_at dksX0_game_0 5 rfl rfl)
theorem dX0_game_8 : decode cX0_game 8 = .ok (.ifCond .eq 12, 3) := dk_153 0 12 (dk_at dksX0_game_0 8 rfl rfl)
theorem dX0_game_11 : decode cX0_game 11 = .ok (.iload_n 2, 1) := dk_28 (dk_at dksX0_game_0 11 rfl rfl)
theorem dX0_game_12 : decode cX0_game 12 = .ok (.iconst 0, 1) := dk_3 (dk_at dksX0_game_0 12 rfl rfl)
theorem dX0_game_13 : decode cX0_game 13 = .ok (.iconst 2, 1) := dk_5 (dk_at dksX0_game_0 13 rfl rfl)
theorem dX0_game_14 : decode cX0_game 14 = .ok (.invokestatic 26, 3) := dk_184 0 26 (dk_at dksX0_game_0 14 rfl rfl)
theorem dX0_game_17 : decode cX0_game 17 = .ok (.ifCond .ne 5, 3) := dk_154 0 5 (dk_at dksX0_game_0 17 rfl rfl)
theorem dX0_game_20 : decode cX0_game 20 = .ok (.iconst (-1), 1) := dk_2 (dk_at dksX0_game_0 20 rfl rfl)
theorem dX0_game_21 : decode cX0_game 21 = .ok (.ireturn, 1) := dk_172 (dk_at dksX0_game_0 21 rfl rfl)
theorem dX0_game_22 : decode cX0_game 22 = .ok (.iconst 0, 1) := dk_3 (dk_at dksX0_game_0 22 rfl rfl)
theorem dX0_game_23 : decode cX0_game 23 = .ok (.istore_n 3, 1) := dk_62 (dk_at dksX0_game_0 23 rfl rfl)
theorem dX0_game_24 : decode cX0_game 24 = .ok (.iconst 0, 1) := dk_3 (dk_at dksX0_game_1 0 rfl rfl)
theorem dX0_game_25 : decode cX0_game 25 = .ok (.istore 4, 2) := dk_54 4 (dk_at dksX0_game_1 1 rfl rfl)
theorem dX0_game_27 : decode cX0_game 27 = .ok (.iload 4, 2) := dk_21 4 (dk_at dksX0_game_1 3 rfl rfl)
theorem dX0_game_29 : decode cX0_game 29 = .ok (.bipush 16, 2) := dk_16 16 (dk_at dksX0_game_1 5 rfl rfl)
theorem dX0_game_31 : decode cX0_game 31 = .ok (.if_icmp .ge 40, 3) := dk_162 0 40 (dk_at dksX0_game_1 7 rfl rfl)
theorem dX0_game_34 : decode cX0_game 34 = .ok (.iload_n 3, 1) := dk_29 (dk_at dksX0_game_1 10 rfl rfl)
theorem dX0_game_35 : decode cX0_game 35 = .ok (.iload_n 1, 1) := dk_27 (dk_at dksX0_game_1 11 rfl rfl)
theorem dX0_game_36 : decode cX0_game 36 = .ok (.iload 4, 2) := dk_21 4 (dk_at dksX0_game_1 12 rfl rfl)
theorem dX0_game_38 : decode cX0_game 38 = .ok (.invokestatic 294, 3) := dk_184 1 38 (dk_at dksX0_game_1 14 rfl rfl)
theorem dX0_game_41 : decode cX0_game 41 = .ok (.ifCond .eq 21, 3) := dk_153 0 21 (dk_at dksX0_game_1 17 rfl rfl)
theorem dX0_game_44 : decode cX0_game 44 = .ok (.aload_n 0, 1) := dk_42 (dk_at dksX0_game_1 20 rfl rfl)
theorem dX0_game_45 : decode cX0_game 45 = .ok (.invokevirtual 161, 3) := dk_182 0 161 (dk_at dksX0_game_1 21 rfl rfl)
theorem dX0_game_48 : decode cX0_game 48 = .ok (.getfield 167, 3) := dk_180 0 167 (dk_at dksX0_game_2 0 rfl rfl)
theorem dX0_game_51 : decode cX0_game 51 = .ok (.iload 4, 2) := dk_21 4 (dk_at dksX0_game_2 3 rfl rfl)
theorem dX0_game_53 : decode cX0_game 53 = .ok (.iaload, 1) := dk_46 (dk_at dksX0_game_2 5 rfl rfl)
theorem dX0_game_54 : decode cX0_game 54 = .ok (.bipush 10, 2) := dk_16 10 (dk_at dksX0_game_2 6 rfl rfl)
theorem dX0_game_56 : decode cX0_game 56 = .ok (.idiv, 1) := dk_108 (dk_at dksX0_game_2 8 rfl rfl)
theorem dX0_game_57 : decode cX0_game 57 = .ok (.iconst 4, 1) := dk_7 (dk_at dksX0_game_2 9 rfl rfl)
theorem dX0_game_58 : decode cX0_game 58 = .ok (.irem, 1) := dk_112 (dk_at dksX0_game_2 10 rfl rfl)
theorem dX0_game_59 : decode cX0_game 59 = .ok (.goto 4, 3) := dk_167 0 4 (dk_at dksX0_game_2 11 rfl rfl)
theorem dX0_game_62 : decode cX0_game 62 = .ok (.iconst 0, 1) := dk_3 (dk_at dksX0_game_2 14 rfl rfl)
theorem dX0_game_63 : decode cX0_game 63 = .ok (.ixor, 1) := dk_130 (dk_at dksX0_game_2 15 rfl rfl)
theorem dX0_game_64 : decode cX0_game 64 = .ok (.istore_n 3, 1) := dk_62 (dk_at dksX0_game_2 16 rfl rfl)
theorem dX0_game_65 : decode cX0_game 65 = .ok (.iinc 4 1, 3) := dk_132 4 1 (dk_at dksX0_game_2 17 rfl rfl)
theorem dX0_game_68 : decode cX0_game 68 = .ok (.goto (-41), 3) := dk_167 255 215 (dk_at dksX0_game_2 20 rfl rfl)
theorem dX0_game_71 : decode cX0_game 71 = .ok (.iload_n 2, 1) := dk_28 (dk_at dksX0_game_2 23 rfl rfl)
theorem dX0_game_72 : decode cX0_game 72 = .ok (.ifCond .eq 7, 3) := dk_153 0 7 (dk_at dksX0_game_3 0 rfl rfl)
theorem dX0_game_75 : decode cX0_game 75 = .ok (.iload_n 3, 1) := dk_29 (dk_at dksX0_game_3 3 rfl rfl)
theorem dX0_game_76 : decode cX0_game 76 = .ok (.ifCond .ne 21, 3) := dk_154 0 21 (dk_at dksX0_game_3 4 rfl rfl)
theorem dX0_game_79 : decode cX0_game 79 = .ok (.iload_n 2, 1) := dk_28 (dk_at dksX0_game_3 7 rfl rfl)
theorem dX0_game_80 : decode cX0_game 80 = .ok (.ifCond .ne 15, 3) := dk_154 0 15 (dk_at dksX0_game_3 8 rfl rfl)
theorem dX0_game_83 : decode cX0_game 83 = .ok (.iload_n 3, 1) := dk_29 (dk_at dksX0_game_3 11 rfl rfl)
theorem dX0_game_84 : decode cX0_game 84 = .ok (.ifCond .ne 7, 3) := dk_154 0 7 (dk_at dksX0_game_3 12 rfl rfl)
theorem dX0_game_87 : decode cX0_game 87 = .ok (.iconst 0, 1) := dk_3 (dk_at dksX0_game_3 15 rfl rfl)
theorem dX0_game_88 : decode cX0_game 88 = .ok (.goto 8, 3) := dk_167 0 8 (dk_at dksX0_game_3 16 rfl rfl)
theorem dX0_game_91 : decode cX0_game 91 = .ok (.iconst 1, 1) := dk_4 (dk_at dksX0_game_3 19 rfl rfl)
theorem dX0_game_92 : decode cX0_game 92 = .ok (.goto 4, 3) := dk_167 0 4 (dk_at dksX0_game_3 20 rfl rfl)
theorem dX0_game_95 : decode cX0_game 95 = .ok (.iconst (-1), 1) := dk_2 (dk_at dksX0_game_3 23 rfl rfl)
theorem dX0_game_96 : decode cX0_game 96 = .ok (.ireturn, 1) := dk_172 (dk_at dksX0_game_4 0 rfl rfl)
theorem dX0_game_97 : decode cX0_game 97 = .ok (.iconst 0, 1) := dk_3 (dk_at dksX0_game_4 1 rfl rfl)
theorem dX0_game_98 : decode cX0_game 98 = .ok (.istore 4, 2) := dk_54 4 (dk_at dksX0_game_4 2 rfl rfl)
theorem dX0_game_100 : decode cX0_game 100 = .ok (.iload_n 1, 1) := dk_27 (dk_at dksX0_game_4 4 rfl rfl)
theorem dX0_game_101 : decode cX0_game 101 = .ok (.iload 4, 2) := dk_21 4 (dk_at dksX0_game_4 5 rfl rfl)
theorem dX0_game_103 : decode cX0_game 103 = .ok (.invokestatic 294, 3) := dk_184 1 38 (dk_at dksX0_game_4 7 rfl rfl)
theorem dX0_game_106 : decode cX0_game 106 = .ok (.ifCond .ne 6, 3) := dk_154 0 6 (dk_at dksX0_game_4 10 rfl rfl)
theorem dX0_game_109 : decode cX0_game 109 = .ok (.goto 71, 3) := dk_167 0 71 (dk_at dksX0_game_4 13 rfl rfl)
theorem dX0_game_112 : decode cX0_game 112 = .ok (.aload_n 0, 1) := dk_42 (dk_at dksX0_game_4 16 rfl rfl)
theorem dX0_game_113 : decode cX0_game 113 = .ok (.invokevirtual 161, 3) := dk_182 0 161 (dk_at dksX0_game_4 17 rfl rfl)
theorem dX0_game_116 : decode cX0_game 116 = .ok (.getfield 167, 3) := dk_180 0 167 (dk_at dksX0_game_4 20 rfl rfl)
theorem dX0_game_119 : decode cX0_game 119 = .ok (.iload 4, 2) := dk_21 4 (dk_at dksX0_game_5 0 rfl rfl)
theorem dX0_game_121 : decode cX0_game 121 = .ok (.iaload, 1) := dk_46 (dk_at dksX0_game_5 2 rfl rfl)
theorem dX0_game_122 : decode cX0_game 122 = .ok (.bipush 10, 2) := dk_16 10 (dk_at dksX0_game_5 3 rfl rfl)
theorem dX0_game_124 : decode cX0_game 124 = .ok (.idiv, 1) := dk_108 (dk_at dksX0_game_5 5 rfl rfl)
theorem dX0_game_125 : decode cX0_game 125 = .ok (.istore 5, 2) := dk_54 5 (dk_at dksX0_game_5 6 rfl rfl)
theorem dX0_game_127 : decode cX0_game 127 = .ok (.iconst 1, 1) := dk_4 (dk_at dksX0_game_5 8 rfl rfl)
theorem dX0_game_128 : decode cX0_game 128 = .ok (.istore 6, 2) := dk_54 6 (dk_at dksX0_game_5 9 rfl rfl)
theorem dX0_game_130 : decode cX0_game 130 = .ok (.iload 6, 2) := dk_21 6 (dk_at dksX0_game_5 11 rfl rfl)
theorem dX0_game_132 : decode cX0_game 132 = .ok (.iconst 3, 1) := dk_6 (dk_at dksX0_game_5 13 rfl rfl)
theorem dX0_game_133 : decode cX0_game 133 = .ok (.iload 5, 2) := dk_21 5 (dk_at dksX0_game_5 14 rfl rfl)
theorem dX0_game_135 : decode cX0_game 135 = .ok (.invokestatic 318, 3) := dk_184 1 62 (dk_at dksX0_game_5 16 rfl rfl)
theorem dX0_game_138 : decode cX0_game 138 = .ok (.if_icmp .gt 42, 3) := dk_163 0 42 (dk_at dksX0_game_5 19 rfl rfl)
theorem dX0_game_141 : decode cX0_game 141 = .ok (.iload_n 3, 1) := dk_29 (dk_at dksX0_game_5 22 rfl rfl)
theorem dX0_game_142 : decode cX0_game 142 = .ok (.iload 5, 2) := dk_21 5 (dk_at dksX0_game_6 0 rfl rfl)
theorem dX0_game_144 : decode cX0_game 144 = .ok (.iconst 4, 1) := dk_7 (dk_at dksX0_game_6 2 rfl rfl)
theorem dX0_game_145 : decode cX0_game 145 = .ok (.irem, 1) := dk_112 (dk_at dksX0_game_6 3 rfl rfl)
theorem dX0_game_146 : decode cX0_game 146 = .ok (.ixor, 1) := dk_130 (dk_at dksX0_game_6 4 rfl rfl)
theorem dX0_game_147 : decode cX0_game 147 = .ok (.iload 5, 2) := dk_21 5 (dk_at dksX0_game_6 5 rfl rfl)
theorem dX0_game_149 : decode cX0_game 149 = .ok (.iload 6, 2) := dk_21 6 (dk_at dksX0_game_6 7 rfl rfl)
theorem dX0_game_151 : decode cX0_game 151 = .ok (.isub, 1) := dk_100 (dk_at dksX0_game_6 9 rfl rfl)
theorem dX0_game_152 : decode cX0_game 152 = .ok (.iconst 4, 1) := dk_7 (dk_at dksX0_game_6 10 rfl rfl)
theorem dX0_game_153 : decode cX0_game 153 = .ok (.irem, 1) := dk_112 (dk_at dksX0_game_6 11 rfl rfl)
theorem dX0_game_154 : decode cX0_game 154 = .ok (.ixor, 1) := dk_130 (dk_at dksX0_game_6 12 rfl rfl)
theorem dX0_game_155 : decode cX0_game 155 = .ok (.ifCond .ne 19, 3) := dk_154 0 19 (dk_at dksX0_game_6 13 rfl rfl)
theorem dX0_game_158 : decode cX0_game 158 = .ok (.iload_n 2, 1) := dk_28 (dk_at dksX0_game_6 16 rfl rfl)
theorem dX0_game_159 : decode cX0_game 159 = .ok (.iconst 1, 1) := dk_4 (dk_at dksX0_game_6 17 rfl rfl)
theorem dX0_game_160 : decode cX0_game 160 = .ok (.if_icmp .ne 8, 3) := dk_160 0 8 (dk_at dksX0_game_6 18 rfl rfl)
theorem dX0_game_163 : decode cX0_game 163 = .ok (.iload 4, 2) := dk_21 4 (dk_at dksX0_game_6 21 rfl rfl)
theorem dX0_game_165 : decode cX0_game 165 = .ok (.goto 8, 3) := dk_167 0 8 (dk_at dksX0_game_7 0 rfl rfl)
theorem dX0_game_168 : decode cX0_game 168 = .ok (.bipush 10, 2) := dk_16 10 (dk_at dksX0_game_7 3 rfl rfl)
theorem dX0_game_170 : decode cX0_game 170 = .ok (.iload 6, 2) := dk_21 6 (dk_at dksX0_game_7 5 rfl rfl)
theorem dX0_game_172 : decode cX0_game 172 = .ok (.imul, 1) := dk_104 (dk_at dksX0_game_7 7 rfl rfl)
theorem dX0_game_173 : decode cX0_game 173 = .ok (.ireturn, 1) := dk_172 (dk_at dksX0_game_7 8 rfl rfl)
theorem dX0_game_174 : decode cX0_game 174 = .ok (.iinc 6 1, 3) := dk_132 6 1 (dk_at dksX0_game_7 9 rfl rfl)
theorem dX0_game_177 : decode cX0_game 177 = .ok (.goto (-47), 3) := dk_167 255 209 (dk_at dksX0_game_7 12 rfl rfl)
theorem dX0_game_180 : decode cX0_game 180 = .ok (.iinc 4 1, 3) := dk_132 4 1 (dk_at dksX0_game_7 15 rfl rfl)
theorem dX0_game_183 : decode cX0_game 183 = .ok (.goto (-83), 3) := dk_167 255 173 (dk_at dksX0_game_7 18 rfl rfl)
abbrev cX0_orders : ByteArray := prog_1_method_79_code
def yX0_orders : MethodName := ⟨RX0, "orders", "()I"⟩
def dkwX0_orders_10 : List UInt8 := [132, 4, 1, 132, 8, 1, 167, 255, 162, 132, 6, 1, 167, 255, 127, 42, 21, 4, 182, 0, 124, 172]
abbrev dktX0_orders_10 : List UInt8 := dkwX0_orders_10 ++ []
def dkwX0_orders_9 : List UInt8 := [180, 1, 177, 7, 160, 0, 14, 42, 42, 182, 0, 161, 182, 1, 105, 167, 0, 5, 21, 5, 54, 5]
abbrev dktX0_orders_9 : List UInt8 := dkwX0_orders_9 ++ dktX0_orders_10
def dkwX0_orders_8 : List UInt8 := [156, 0, 21, 42, 29, 182, 1, 174, 42, 21, 6, 181, 0, 77, 42, 16, 253, 182, 0, 130, 172, 25, 7]
abbrev dktX0_orders_8 : List UInt8 := dkwX0_orders_8 ++ dktX0_orders_9
def dkwX0_orders_7 : List UInt8 := [180, 0, 83, 182, 1, 166, 154, 0, 6, 167, 0, 61, 42, 25, 7, 182, 1, 170, 54, 9, 21, 9]
abbrev dktX0_orders_7 : List UInt8 := dkwX0_orders_7 ++ dktX0_orders_8
def dkwX0_orders_6 : List UInt8 := [54, 8, 21, 8, 25, 7, 180, 1, 160, 162, 0, 90, 42, 21, 4, 21, 5, 182, 1, 163, 25, 7, 42]
abbrev dktX0_orders_6 : List UInt8 := dkwX0_orders_6 ++ dktX0_orders_7
def dkwX0_orders_5 : List UInt8 := [180, 1, 155, 182, 0, 229, 162, 0, 123, 44, 180, 1, 155, 21, 6, 182, 1, 16, 192, 1, 158, 58, 7, 3]
abbrev dktX0_orders_5 : List UInt8 := dkwX0_orders_5 ++ dktX0_orders_6
def dkwX0_orders_4 : List UInt8 := [16, 16, 184, 1, 115, 42, 180, 0, 121, 62, 3, 54, 4, 2, 54, 5, 3, 54, 6, 21, 6, 44]
abbrev dktX0_orders_4 : List UInt8 := dkwX0_orders_4 ++ dktX0_orders_5
def dkwX0_orders_3 : List UInt8 := [180, 0, 49, 29, 50, 182, 1, 71, 132, 3, 1, 167, 255, 230, 42, 180, 0, 56, 3, 42, 180, 0, 59, 3]
abbrev dktX0_orders_3 : List UInt8 := dkwX0_orders_3 ++ dktX0_orders_4
def dkwX0_orders_2 : List UInt8 := [182, 0, 161, 182, 1, 71, 3, 62, 29, 42, 180, 0, 121, 162, 0, 24, 42, 180, 0, 53, 29, 50, 42]
abbrev dktX0_orders_2 : List UInt8 := dkwX0_orders_2 ++ dktX0_orders_3
def dkwX0_orders_1 : List UInt8 := [183, 1, 154, 77, 42, 44, 182, 0, 239, 154, 0, 10, 42, 16, 250, 182, 0, 130, 172, 42, 180, 0, 63, 42]
abbrev dktX0_orders_1 : List UInt8 := dkwX0_orders_1 ++ dktX0_orders_2
def dkwX0_orders_0 : List UInt8 := [42, 180, 0, 205, 60, 42, 3, 181, 0, 205, 42, 2, 181, 0, 77, 187, 1, 152, 89, 42, 180, 0, 70, 27]
abbrev dktX0_orders_0 : List UInt8 := dkwX0_orders_0 ++ dktX0_orders_1
theorem dksX0_orders_0 : cX0_orders.data.toList.drop 0 = dktX0_orders_0 := by decide +kernel
theorem dksX0_orders_1 : cX0_orders.data.toList.drop 24 = dktX0_orders_1 := dk_seg dksX0_orders_0 24 rfl rfl
theorem dksX0_orders_2 : cX0_orders.data.toList.drop 48 = dktX0_orders_2 := dk_seg dksX0_orders_1 24 rfl rfl
theorem dksX0_orders_3 : cX0_orders.data.toList.drop 71 = dktX0_orders_3 := dk_seg dksX0_orders_2 23 rfl rfl
theorem dksX0_orders_4 : cX0_orders.data.toList.drop 95 = dktX0_orders_4 := dk_seg dksX0_orders_3 24 rfl rfl
theorem dksX0_orders_5 : cX0_orders.data.toList.drop 117 = dktX0_orders_5 := dk_seg dksX0_orders_4 22 rfl rfl
theorem dksX0_orders_6 : cX0_orders.data.toList.drop 141 = dktX0_orders_6 := dk_seg dksX0_orders_5 24 rfl rfl
theorem dksX0_orders_7 : cX0_orders.data.toList.drop 164 = dktX0_orders_7 := dk_seg dksX0_orders_6 23 rfl rfl
theorem dksX0_orders_8 : cX0_orders.data.toList.drop 186 = dktX0_orders_8 := dk_seg dksX0_orders_7 22 rfl rfl
theorem dksX0_orders_9 : cX0_orders.data.toList.drop 209 = dktX0_orders_9 := dk_seg dksX0_orders_8 23 rfl rfl
theorem dksX0_orders_10 : cX0_orders.data.toList.drop 231 = dktX0_orders_10 := dk_seg dksX0_orders_9 22 rfl rfl
theorem dX0_orders_0 : decode cX0_orders 0 = .ok (.aload_n 0, 1) := dk_42 (dk_at dksX0_orders_0 0 rfl rfl)
theorem dX0_orders_1 : decode cX0_orders 1 = .ok (.getfield 205, 3) := dk_180 0 205 (dk_at dksX0_orders_0 1 rfl rfl)
theorem dX0_orders_4 : decode cX0_orders 4 = .ok (.istore_n 1, 1) := dk_60 (dk_at dksX0_orders_0 4 rfl rfl)
theorem dX0_orders_5 : decode cX0_orders 5 = .ok (.aload_n 0, 1) := dk_42 (dk_at dksX0_orders_0 5 rfl rfl)
theorem dX0_orders_6 : decode cX0_orders 6 = .ok (.iconst 0, 1) := dk_3 (dk_at dksX0_orders_0 6 rfl rfl)
theorem dX0_orders_7 : decode cX0_orders 7 = .ok (.putfield 205, 3) := dk_181 0 205 (dk_at dksX0_orders_0 7 rfl rfl)
theorem dX0_orders_10 : decode cX0_orders 10 = .ok (.aload_n 0, 1) := dk_42 (dk_at dksX0_orders_0 10 rfl rfl)
theorem dX0_orders_11 : decode cX0_orders 11 = .ok (.iconst (-1), 1) := dk_2 (dk_at dksX0_orders_0 11 rfl rfl)
theorem dX0_orders_12 : decode cX0_orders 12 = .ok (.putfield 77, 3) := dk_181 0 77 (dk_at dksX0_orders_0 12 rfl rfl)
theorem dX0_orders_15 : decode cX0_orders 15 = .ok (.new 408, 3) := dk_187 1 152 (dk_at dksX0_orders_0 15 rfl rfl)
theorem dX0_orders_18 : decode cX0_orders 18 = .ok (.dup, 1) := dk_89 (dk_at dksX0_orders_0 18 rfl rfl)
theorem dX0_orders_19 : decode cX0_orders 19 = .ok (.aload_n 0, 1) := dk_42 (dk_at dksX0_orders_0 19 rfl rfl)
theorem dX0_orders_20 : decode cX0_orders 20 = .ok (.getfield 70, 3) := dk_180 0 70 (dk_at dksX0_orders_0 20 rfl rfl)
theorem dX0_orders_23 : decode cX0_orders 23 = .ok (.iload_n 1, 1) := dk_27 (dk_at dksX0_orders_0 23 rfl rfl)
theorem dX0_orders_24 : decode cX0_orders 24 = .ok (.invokespecial 410, 3) := dk_183 1 154 (dk_at dksX0_orders_1 0 rfl rfl)
theorem dX0_orders_27 : decode cX0_orders 27 = .ok (.astore_n 2, 1) := dk_77 (dk_at dksX0_orders_1 3 rfl rfl)
theorem dX0_orders_28 : decode cX0_orders 28 = .ok (.aload_n 0, 1) := dk_42 (dk_at dksX0_orders_1 4 rfl rfl)
theorem dX0_orders_29 : decode cX0_orders 29 = .ok (.aload_n 2, 1) := dk_44 (dk_at dksX0_orders_1 5 rfl rfl)
theorem dX0_orders_30 : decode cX0_orders 30 = .ok (.invokevirtual 239, 3) := dk_182 0 239 (dk_at dksX0_orders_1 6 rfl rfl)
theorem dX0_orders_33 : decode cX0_orders 33 = .ok (.ifCond .ne 10, 3) := dk_154 0 10 (dk_at dksX0_orders_1 9 rfl rfl)
theorem dX0_orders_36 : decode cX0_orders 36 = .ok (.aload_n 0, 1) := dk_42 (dk_at dksX0_orders_1 12 rfl rfl)
theorem dX0_orders_37 : decode cX0_orders 37 = .ok (.bipush (-6), 2) := dk_16 250 (dk_at dksX0_orders_1 13 rfl rfl)
theorem dX0_orders_39 : decode cX0_orders 39 = .ok (.invokevirtual 130, 3) := dk_182 0 130 (dk_at dksX0_orders_1 15 rfl rfl)
theorem dX0_orders_42 : decode cX0_orders 42 = .ok (.ireturn, 1) := dk_172 (dk_at dksX0_orders_1 18 rfl rfl)
theorem dX0_orders_43 : decode cX0_orders 43 = .ok (.aload_n 0, 1) := dk_42 (dk_at dksX0_orders_1 19 rfl rfl)
theorem dX0_orders_44 : decode cX0_orders 44 = .ok (.getfield 63, 3) := dk_180 0 63 (dk_at dksX0_orders_1 20 rfl rfl)
theorem dX0_orders_47 : decode cX0_orders 47 = .ok (.aload_n 0, 1) := dk_42 (dk_at dksX0_orders_1 23 rfl rfl)
theorem dX0_orders_48 : decode cX0_orders 48 = .ok (.invokevirtual 161, 3) := dk_182 0 161 (dk_at dksX0_orders_2 0 rfl rfl)
theorem dX0_orders_51 : decode cX0_orders 51 = .ok (.invokevirtual 327, 3) := dk_182 1 71 (dk_at dksX0_orders_2 3 rfl rfl)
theorem dX0_orders_54 : decode cX0_orders 54 = .ok (.iconst 0, 1) := dk_3 (dk_at dksX0_orders_2 6 rfl rfl)
theorem dX0_orders_55 : decode cX0_orders 55 = .ok (.istore_n 3, 1) := dk_62 (dk_at dksX0_orders_2 7 rfl rfl)
theorem dX0_orders_56 : decode cX0_orders 56 = .ok (.iload_n 3, 1) := dk_29 (dk_at dksX0_orders_2 8 rfl rfl)
theorem dX0_orders_57 : decode cX0_orders 57 = .ok (.aload_n 0, 1) := dk_42 (dk_at dksX0_orders_2 9 rfl rfl)
theorem dX0_orders_58 : decode cX0_orders 58 = .ok (.getfield 121, 3) := dk_180 0 121 (dk_at dksX0_orders_2 10 rfl rfl)
theorem dX0_orders_61 : decode cX0_orders 61 = .ok (.if_icmp .ge 24, 3) := dk_162 0 24 (dk_at dksX0_orders_2 13 rfl rfl)
theorem dX0_orders_64 : decode cX0_orders 64 = .ok (.aload_n 0, 1) := dk_42 (dk_at dksX0_orders_2 16 rfl rfl)
theorem dX0_orders_65 : decode cX0_orders 65 = .ok (.getfield 53, 3) := dk_180 0 53 (dk_at dksX0_orders_2 17 rfl rfl)
theorem dX0_orders_68 : decode cX0_orders 68 = .ok (.iload_n 3, 1) := dk_29 (dk_at dksX0_orders_2 20 rfl rfl)
theorem dX0_orders_69 : decode cX0_orders 69 = .ok (.aaload, 1) := dk_50 (dk_at dksX0_orders_2 21 rfl rfl)
theorem dX0_orders_70 : decode cX0_orders 70 = .ok (.aload_n 0, 1) := dk_42 (dk_at dksX0_orders_2 22 rfl rfl)
theorem dX0_orders_71 : decode cX0_orders 71 = .ok (.getfield 49, 3) := dk_180 0 49 (dk_at dksX0_orders_3 0 rfl rfl)
theorem dX0_orders_74 : decode cX0_orders 74 = .ok (.iload_n 3, 1) := dk_29 (dk_at dksX0_orders_3 3 rfl rfl)
theorem dX0_orders_75 : decode cX0_orders 75 = .ok (.aaload, 1) := dk_50 (dk_at dksX0_orders_3 4 rfl rfl)
theorem dX0_orders_76 : decode cX0_orders 76 = .ok (.invokevirtual 327, 3) := dk_182 1 71 (dk_at dksX0_orders_3 5 rfl rfl)
theorem dX0_orders_79 : decode cX0_orders 79 = .ok (.iinc 3 1, 3) := dk_132 3 1 (dk_at dksX0_orders_3 8 rfl rfl)
theorem dX0_orders_82 : decode cX0_orders 82 = .ok (.goto (-26), 3) := dk_167 255 230 (dk_at dksX0_orders_3 11 rfl rfl)
theorem dX0_orders_85 : decode cX0_orders 85 = .ok (.aload_n 0, 1) := dk_42 (dk_at dksX0_orders_3 14 rfl rfl)
theorem dX0_orders_86 : decode cX0_orders 86 = .ok (.getfield 56, 3) := dk_180 0 56 (dk_at dksX0_orders_3 15 rfl rfl)
theorem dX0_orders_89 : decode cX0_orders 89 = .ok (.iconst 0, 1) := dk_3 (dk_at dksX0_orders_3 18 rfl rfl)
theorem dX0_orders_90 : decode cX0_orders 90 = .ok (.aload_n 0, 1) := dk_42 (dk_at dksX0_orders_3 19 rfl rfl)
theorem dX0_orders_91 : decode cX0_orders 91 = .ok (.getfield 59, 3) := dk_180 0 59 (dk_at dksX0_orders_3 20 rfl rfl)
theorem dX0_orders_94 : decode cX0_orders 94 = .ok (.iconst 0, 1) := dk_3 (dk_at dksX0_orders_3 23 rfl rfl)
theorem dX0_orders_95 : decode cX0_orders 95 = .ok (.bipush 16, 2) := dk_16 16 (dk_at dksX0_orders_4 0 rfl rfl)
theorem dX0_orders_97 : decode cX0_orders 97 = .ok (.invokestatic 371, 3) := dk_184 1 115 (dk_at dksX0_orders_4 2 rfl rfl)
theorem dX0_orders_100 : decode cX0_orders 100 = .ok (.aload_n 0, 1) := dk_42 (dk_at dksX0_orders_4 5 rfl rfl)
theorem dX0_orders_101 : decode cX0_orders 101 = .ok (.getfield 121, 3) := dk_180 0 121 (dk_at dksX0_orders_4 6 rfl rfl)
theorem dX0_orders_104 : decode cX0_orders 104 = .ok (.istore_n 3, 1) := dk_62 (dk_at dksX0_orders_4 9 rfl rfl)
theorem dX0_orders_105 : decode cX0_orders 105 = .ok (.iconst 0, 1) := dk_3 (dk_at dksX0_orders_4 10 rfl rfl)
theorem dX0_orders_106 : decode cX0_orders 106 = .ok (.istore 4, 2) := dk_54 4 (dk_at dksX0_orders_4 11 rfl rfl)
theorem dX0_orders_108 : decode cX0_orders 108 = .ok (.iconst (-1), 1) := dk_2 (dk_at dksX0_orders_4 13 rfl rfl)
theorem dX0_orders_109 : decode cX0_orders 109 = .ok (.istore 5, 2) := dk_54 5 (dk_at dksX0_orders_4 14 rfl rfl)
theorem dX0_orders_111 : decode cX0_orders 111 = .ok (.iconst 0, 1) := dk_3 (dk_at dksX0_orders_4 16 rfl rfl)
theorem dX0_orders_112 : decode cX0_orders 112 = .ok (.istore 6, 2) := dk_54 6 (dk_at dksX0_orders_4 17 rfl rfl)
theorem dX0_orders_114 : decode cX0_orders 114 = .ok (.iload 6, 2) := dk_21 6 (dk_at dksX0_orders_4 19 rfl rfl)
theorem dX0_orders_116 : decode cX0_orders 116 = .ok (.aload_n 2, 1) := dk_44 (dk_at dksX0_orders_4 21 rfl rfl)
theorem dX0_orders_117 : decode cX0_orders 117 = .ok (.getfield 411, 3) := dk_180 1 155 (dk_at dksX0_orders_5 0 rfl rfl)
theorem dX0_orders_120 : decode cX0_orders 120 = .ok (.invokevirtual 229, 3) := dk_182 0 229 (dk_at dksX0_orders_5 3 rfl rfl)
theorem dX0_orders_123 : decode cX0_orders 123 = .ok (.if_icmp .ge 123, 3) := dk_162 0 123 (dk_at dksX0_orders_5 6 rfl rfl)
theorem dX0_orders_126 : decode cX0_orders 126 = .ok (.aload_n 2, 1) := dk_44 (dk_at dksX0_orders_5 9 rfl rfl)
theorem dX0_orders_127 : decode cX0_orders 127 = .ok (.getfield 411, 3) := dk_180 1 155 (dk_at dksX0_orders_5 10 rfl rfl)
theorem dX0_orders_130 : decode cX0_orders 130 = .ok (.iload 6, 2) := dk_21 6 (dk_at dksX0_orders_5 13 rfl rfl)
theorem dX0_orders_132 : decode cX0_orders 132 = .ok (.invokevirtual 272, 3) := dk_182 1 16 (dk_at dksX0_orders_5 15 rfl rfl)
theorem dX0_orders_135 : decode cX0_orders 135 = .ok (.checkcast 414, 3) := dk_192 1 158 (dk_at dksX0_orders_5 18 rfl rfl)
theorem dX0_orders_138 : decode cX0_orders 138 = .ok (.astore 7, 2) := dk_58 7 (dk_at dksX0_orders_5 21 rfl rfl)
theorem dX0_orders_140 : decode cX0_orders 140 = .ok (.iconst 0, 1) := dk_3 (dk_at dksX0_orders_5 23 rfl rfl)
theorem dX0_orders_141 : decode cX0_orders 141 = .ok (.istore 8, 2) := dk_54 8 (dk_at dksX0_orders_6 0 rfl rfl)
theorem dX0_orders_143 : decode cX0_orders 143 = .ok (.iload 8, 2) := dk_21 8 (dk_at dksX0_orders_6 2 rfl rfl)
theorem dX0_orders_145 : decode cX0_orders 145 = .ok (.aload 7, 2) := dk_25 7 (dk_at dksX0_orders_6 4 rfl rfl)
theorem dX0_orders_147 : decode cX0_orders 147 = .ok (.getfield 416, 3) := dk_180 1 160 (dk_at dksX0_orders_6 6 rfl rfl)
theorem dX0_orders_150 : decode cX0_orders 150 = .ok (.if_icmp .ge 90, 3) := dk_162 0 90 (dk_at dksX0_orders_6 9 rfl rfl)
theorem dX0_orders_153 : decode cX0_orders 153 = .ok (.aload_n 0, 1) := dk_42 (dk_at dksX0_orders_6 12 rfl rfl)
theorem dX0_orders_154 : decode cX0_orders 154 = .ok (.iload 4, 2) := dk_21 4 (dk_at dksX0_orders_6 13 rfl rfl)
theorem dX0_orders_156 : decode cX0_orders 156 = .ok (.iload 5, 2) := dk_21 5 (dk_at dksX0_orders_6 15 rfl rfl)
theorem dX0_orders_158 : decode cX0_orders 158 = .ok (.invokevirtual 419, 3) := dk_182 1 163 (dk_at dksX0_orders_6 17 rfl rfl)
theorem dX0_orders_161 : decode cX0_orders 161 = .ok (.aload 7, 2) := dk_25 7 (dk_at dksX0_orders_6 20 rfl rfl)
theorem dX0_orders_163 : decode cX0_orders 163 = .ok (.aload_n 0, 1) := dk_42 (dk_at dksX0_orders_6 22 rfl rfl)
theorem dX0_orders_164 : decode cX0_orders 164 = .ok (.getfield 83, 3) := dk_180 0 83 (dk_at dksX0_orders_7 0 rfl rfl)
theorem dX0_orders_167 : decode cX0_orders 167 = .ok (.invokevirtual 422, 3) := dk_182 1 166 (dk_at dksX0_orders_7 3 rfl rfl)
theorem dX0_orders_170 : decode cX0_orders 170 = .ok (.ifCond .ne 6, 3) := dk_154 0 6 (dk_at dksX0_orders_7 6 rfl rfl)
theorem dX0_orders_173 : decode cX0_orders 173 = .ok (.goto 61, 3) := dk_167 0 61 (dk_at dksX0_orders_7 9 rfl rfl)
theorem dX0_orders_176 : decode cX0_orders 176 = .ok (.aload_n 0, 1) := dk_42 (dk_at dksX0_orders_7 12 rfl rfl)
theorem dX0_orders_177 : decode cX0_orders 177 = .ok (.aload 7, 2) := dk_25 7 (dk_at dksX0_orders_7 13 rfl rfl)
theorem dX0_orders_179 : decode cX0_orders 179 = .ok (.invokevirtual 426, 3) := dk_182 1 170 (dk_at dksX0_orders_7 15 rfl rfl)
theorem dX0_orders_182 : decode cX0_orders 182 = .ok (.istore 9, 2) := dk_54 9 (dk_at dksX0_orders_7 18 rfl rfl)
theorem dX0_orders_184 : decode cX0_orders 184 = .ok (.iload 9, 2) := dk_21 9 (dk_at dksX0_orders_7 20 rfl rfl)
theorem dX0_orders_186 : decode cX0_orders 186 = .ok (.ifCond .ge 21, 3) := dk_156 0 21 (dk_at dksX0_orders_8 0 rfl rfl)
theorem dX0_orders_189 : decode cX0_orders 189 = .ok (.aload_n 0, 1) := dk_42 (dk_at dksX0_orders_8 3 rfl rfl)
theorem dX0_orders_190 : decode cX0_orders 190 = .ok (.iload_n 3, 1) := dk_29 (dk_at dksX0_orders_8 4 rfl rfl)
theorem dX0_orders_191 : decode cX0_orders 191 = .ok (.invokevirtual 430, 3) := dk_182 1 174 (dk_at dksX0_orders_8 5 rfl rfl)
theorem dX0_orders_194 : decode cX0_orders 194 = .ok (.aload_n 0, 1) := dk_42 (dk_at dksX0_orders_8 8 rfl rfl)
theorem dX0_orders_195 : decode cX0_orders 195 = .ok (.iload 6, 2) := dk_21 6 (dk_at dksX0_orders_8 9 rfl rfl)
theorem dX0_orders_197 : decode cX0_orders 197 = .ok (.putfield 77, 3) := dk_181 0 77 (dk_at dksX0_orders_8 11 rfl rfl)
theorem dX0_orders_200 : decode cX0_orders 200 = .ok (.aload_n 0, 1) := dk_42 (dk_at dksX0_orders_8 14 rfl rfl)
theorem dX0_orders_201 : decode cX0_orders 201 = .ok (.bipush (-3), 2) := dk_16 253 (dk_at dksX0_orders_8 15 rfl rfl)
theorem dX0_orders_203 : decode cX0_orders 203 = .ok (.invokevirtual 130, 3) := dk_182 0 130 (dk_at dksX0_orders_8 17 rfl rfl)
theorem dX0_orders_206 : decode cX0_orders 206 = .ok (.ireturn, 1) := dk_172 (dk_at dksX0_orders_8 20 rfl rfl)
theorem dX0_orders_207 : decode cX0_orders 207 = .ok (.aload 7, 2) := dk_25 7 (dk_at dksX0_orders_8 21 rfl rfl)
theorem dX0_orders_209 : decode cX0_orders 209 = .ok (.getfield 433, 3) := dk_180 1 177 (dk_at dksX0_orders_9 0 rfl rfl)
theorem dX0_orders_212 : decode cX0_orders 212 = .ok (.iconst 4, 1) := dk_7 (dk_at dksX0_orders_9 3 rfl rfl)
theorem dX0_orders_213 : decode cX0_orders 213 = .ok (.if_icmp .ne 14, 3) := dk_160 0 14 (dk_at dksX0_orders_9 4 rfl rfl)
theorem dX0_orders_216 : decode cX0_orders 216 = .ok (.aload_n 0, 1) := dk_42 (dk_at dksX0_orders_9 7 rfl rfl)
theorem dX0_orders_217 : decode cX0_orders 217 = .ok (.aload_n 0, 1) := dk_42 (dk_at dksX0_orders_9 8 rfl rfl)
theorem dX0_orders_218 : decode cX0_orders 218 = .ok (.invokevirtual 161, 3) := dk_182 0 161 (dk_at dksX0_orders_9 9 rfl rfl)
theorem dX0_orders_221 : decode cX0_orders 221 = .ok (.invokevirtual 361, 3) := dk_182 1 105 (dk_at dksX0_orders_9 12 rfl rfl)
theorem dX0_orders_224 : decode cX0_orders 224 = .ok (.goto 5, 3) := dk_167 0 5 (dk_at dksX0_orders_9 15 rfl rfl)
theorem dX0_orders_227 : decode cX0_orders 227 = .ok (.iload 5, 2) := dk_21 5 (dk_at dksX0_orders_9 18 rfl rfl)
theorem dX0_orders_229 : decode cX0_orders 229 = .ok (.istore 5, 2) := dk_54 5 (dk_at dksX0_orders_9 20 rfl rfl)
theorem dX0_orders_231 : decode cX0_orders 231 = .ok (.iinc 4 1, 3) := dk_132 4 1 (dk_at dksX0_orders_10 0 rfl rfl)
theorem dX0_orders_234 : decode cX0_orders 234 = .ok (.iinc 8 1, 3) := dk_132 8 1 (dk_at dksX0_orders_10 3 rfl rfl)
theorem dX0_orders_237 : decode cX0_orders 237 = .ok (.goto (-94), 3) := dk_167 255 162 (dk_at dksX0_orders_10 6 rfl rfl)
theorem dX0_orders_240 : decode cX0_orders 240 = .ok (.iinc 6 1, 3) := dk_132 6 1 (dk_at dksX0_orders_10 9 rfl rfl)
theorem dX0_orders_243 : decode cX0_orders 243 = .ok (.goto (-129), 3) := dk_167 255 127 (dk_at dksX0_orders_10 12 rfl rfl)
theorem dX0_orders_246 : decode cX0_orders 246 = .ok (.aload_n 0, 1) := dk_42 (dk_at dksX0_orders_10 15 rfl rfl)
theorem dX0_orders_247 : decode cX0_orders 247 = .ok (.iload 4, 2) := dk_21 4 (dk_at dksX0_orders_10 16 rfl rfl)
theorem dX0_orders_249 : decode cX0_orders 249 = .ok (.invokevirtual 124, 3) := dk_182 0 124 (dk_at dksX0_orders_10 18 rfl rfl)
theorem dX0_orders_252 : decode cX0_orders 252 = .ok (.ireturn, 1) := dk_172 (dk_at dksX0_orders_10 21 rfl rfl)
abbrev cX0_tellsOrder : ByteArray := prog_1_method_82_code
def yX0_tellsOrder : MethodName := ⟨RX0, "tellsOrder", "(II)V"⟩
def dkwX0_tellsOrder_4 : List UInt8 := [180, 0, 170, 21, 5, 46, 133, 80, 132, 5, 1, 167, 255, 199, 177]
abbrev dktX0_tellsOrder_4 : List UInt8 := dkwX0_tellsOrder_4 ++ []
def dkwX0_tellsOrder_3 : List UInt8 := [16, 20, 21, 5, 96, 45, 180, 0, 164, 21, 5, 46, 133, 80, 25, 4, 16, 36, 21, 5, 96, 45]
abbrev dktX0_tellsOrder_3 : List UInt8 := dkwX0_tellsOrder_3 ++ dktX0_tellsOrder_4
def dkwX0_tellsOrder_2 : List UInt8 := [21, 5, 16, 16, 162, 0, 56, 25, 4, 7, 21, 5, 96, 45, 180, 0, 167, 21, 5, 46, 133, 80, 25, 4]
abbrev dktX0_tellsOrder_2 : List UInt8 := dkwX0_tellsOrder_2 ++ dktX0_tellsOrder_3
def dkwX0_tellsOrder_1 : List UInt8 := [25, 4, 4, 45, 182, 1, 190, 133, 80, 25, 4, 5, 27, 133, 80, 25, 4, 6, 28, 133, 80, 3, 54, 5]
abbrev dktX0_tellsOrder_1 : List UInt8 := dkwX0_tellsOrder_1 ++ dktX0_tellsOrder_2
def dkwX0_tellsOrder_0 : List UInt8 := [42, 182, 0, 161, 78, 42, 180, 0, 83, 180, 1, 11, 58, 4, 25, 4, 3, 45, 180, 0, 199, 133, 80]
abbrev dktX0_tellsOrder_0 : List UInt8 := dkwX0_tellsOrder_0 ++ dktX0_tellsOrder_1
theorem dksX0_tellsOrder_0 : cX0_tellsOrder.data.toList.drop 0 = dktX0_tellsOrder_0 := by decide +kernel
theorem dksX0_tellsOrder_1 : cX0_tellsOrder.data.toList.drop 23 = dktX0_tellsOrder_1 := dk_seg dksX0_tellsOrder_0 23 rfl rfl
theorem dksX0_tellsOrder_2 : cX0_tellsOrder.data.toList.drop 47 = dktX0_tellsOrder_2 := dk_seg dksX0_tellsOrder_1 24 rfl rfl
theorem dksX0_tellsOrder_3 : cX0_tellsOrder.data.toList.drop 71 = dktX0_tellsOrder_3 := dk_seg dksX0_tellsOrder_2 24 rfl rfl
theorem dksX0_tellsOrder_4 : cX0_tellsOrder.data.toList.drop 93 = dktX0_tellsOrder_4 := dk_seg dksX0_tellsOrder_3 22 rfl rfl
theorem dX0_tellsOrder_0 : decode cX0_tellsOrder 0 = .ok (.aload_n 0, 1) := dk_42 (dk_at dksX0_tellsOrder_0 0 rfl rfl)
theorem dX0_tellsOrder_1 : decode cX0_tellsOrder 1 = .ok (.invokevirtual 161, 3) := dk_182 0 161 (dk_at dksX0_tellsOrder_0 1 rfl rfl)
theorem dX0_tellsOrder_4 : decode cX0_tellsOrder 4 = .ok (.astore_n 3, 1) := dk_78 (dk_at dksX0_tellsOrder_0 4 rfl rfl)
theorem dX0_tellsOrder_5 : decode cX0_tellsOrder 5 = .ok (.aload_n 0, 1) := dk_42 (dk_at dksX0_tellsOrder_0 5 rfl rfl)
theorem dX0_tellsOrder_6 : decode cX0_tellsOrder 6 = .ok (.getfield 83, 3) := dk_180 0 83 (dk_at dksX0_tellsOrder_0 6 rfl rfl)
theorem dX0_tellsOrder_9 : decode cX0_tellsOrder 9 = .ok (.getfield 267, 3) := dk_180 1 11 (dk_at dksX0_tellsOrder_0 9 rfl rfl)
theorem dX0_tellsOrder_12 : decode cX0_tellsOrder 12 = .ok (.astore 4, 2) := dk_58 4 (dk_at dksX0_tellsOrder_0 12 rfl rfl)
theorem dX0_tellsOrder_14 : decode cX0_tellsOrder 14 = .ok (.aload 4, 2) := dk_25 4 (dk_at dksX0_tellsOrder_0 14 rfl rfl)
theorem dX0_tellsOrder_16 : decode cX0_tellsOrder 16 = .ok (.iconst 0, 1) := dk_3 (dk_at dksX0_tellsOrder_0 16 rfl rfl)
theorem dX0_tellsOrder_17 : decode cX0_tellsOrder 17 = .ok (.aload_n 3, 1) := dk_45 (dk_at dksX0_tellsOrder_0 17 rfl rfl)
theorem dX0_tellsOrder_18 : decode cX0_tellsOrder 18 = .ok (.getfield 199, 3) := dk_180 0 199 (dk_at dksX0_tellsOrder_0 18 rfl rfl)
theorem dX0_tellsOrder_21 : decode cX0_tellsOrder 21 = .ok (.i2l, 1) := dk_133 (dk_at dksX0_tellsOrder_0 21 rfl rfl)
theorem dX0_tellsOrder_22 : decode cX0_tellsOrder 22 = .ok (.lastore, 1) := dk_80 (dk_at dksX0_tellsOrder_0 22 rfl rfl)
theorem dX0_tellsOrder_23 : decode cX0_tellsOrder 23 = .ok (.aload 4, 2) := dk_25 4 (dk_at dksX0_tellsOrder_1 0 rfl rfl)
theorem dX0_tellsOrder_25 : decode cX0_tellsOrder 25 = .ok (.iconst 1, 1) := dk_4 (dk_at dksX0_tellsOrder_1 2 rfl rfl)
theorem dX0_tellsOrder_26 : decode cX0_tellsOrder 26 = .ok (.aload_n 3, 1) := dk_45 (dk_at dksX0_tellsOrder_1 3 rfl rfl)
theorem dX0_tellsOrder_27 : decode cX0_tellsOrder 27 = .ok (.invokevirtual 446, 3) := dk_182 1 190 (dk_at dksX0_tellsOrder_1 4 rfl rfl)
theorem dX0_tellsOrder_30 : decode cX0_tellsOrder 30 = .ok (.i2l, 1) := dk_133 (dk_at dksX0_tellsOrder_1 7 rfl rfl)
theorem dX0_tellsOrder_31 : decode cX0_tellsOrder 31 = .ok (.lastore, 1) := dk_80 (dk_at dksX0_tellsOrder_1 8 rfl rfl)
theorem dX0_tellsOrder_32 : decode cX0_tellsOrder 32 = .ok (.aload 4, 2) := dk_25 4 (dk_at dksX0_tellsOrder_1 9 rfl rfl)
theorem dX0_tellsOrder_34 : decode cX0_tellsOrder 34 = .ok (.iconst 2, 1) := dk_5 (dk_at dksX0_tellsOrder_1 11 rfl rfl)
theorem dX0_tellsOrder_35 : decode cX0_tellsOrder 35 = .ok (.iload_n 1, 1) := dk_27 (dk_at dksX0_tellsOrder_1 12 rfl rfl)
theorem dX0_tellsOrder_36 : decode cX0_tellsOrder 36 = .ok (.i2l, 1) := dk_133 (dk_at dksX0_tellsOrder_1 13 rfl rfl)
theorem dX0_tellsOrder_37 : decode cX0_tellsOrder 37 = .ok (.lastore, 1) := dk_80 (dk_at dksX0_tellsOrder_1 14 rfl rfl)
theorem dX0_tellsOrder_38 : decode cX0_tellsOrder 38 = .ok (.aload 4, 2) := dk_25 4 (dk_at dksX0_tellsOrder_1 15 rfl rfl)
theorem dX0_tellsOrder_40 : decode cX0_tellsOrder 40 = .ok (.iconst 3, 1) := dk_6 (dk_at dksX0_tellsOrder_1 17 rfl rfl)
theorem dX0_tellsOrder_41 : decode cX0_tellsOrder 41 = .ok (.iload_n 2, 1) := dk_28 (dk_at dksX0_tellsOrder_1 18 rfl rfl)
theorem dX0_tellsOrder_42 : decode cX0_tellsOrder 42 = .ok (.i2l, 1) := dk_133 (dk_at dksX0_tellsOrder_1 19 rfl rfl)
theorem dX0_tellsOrder_43 : decode cX0_tellsOrder 43 = .ok (.lastore, 1) := dk_80 (dk_at dksX0_tellsOrder_1 20 rfl rfl)
theorem dX0_tellsOrder_44 : decode cX0_tellsOrder 44 = .ok (.iconst 0, 1) := dk_3 (dk_at dksX0_tellsOrder_1 21 rfl rfl)
theorem dX0_tellsOrder_45 : decode cX0_tellsOrder 45 = .ok (.istore 5, 2) := dk_54 5 (dk_at dksX0_tellsOrder_1 22 rfl rfl)
theorem dX0_tellsOrder_47 : decode cX0_tellsOrder 47 = .ok (.iload 5, 2) := dk_21 5 (dk_at dksX0_tellsOrder_2 0 rfl rfl)
theorem dX0_tellsOrder_49 : decode cX0_tellsOrder 49 = .ok (.bipush 16, 2) := dk_16 16 (dk_at dksX0_tellsOrder_2 2 rfl rfl)
theorem dX0_tellsOrder_51 : decode cX0_tellsOrder 51 = .ok (.if_icmp .ge 56, 3) := dk_162 0 56 (dk_at dksX0_tellsOrder_2 4 rfl rfl)
theorem dX0_tellsOrder_54 : decode cX0_tellsOrder 54 = .ok (.aload 4, 2) := dk_25 4 (dk_at dksX0_tellsOrder_2 7 rfl rfl)
theorem dX0_tellsOrder_56 : decode cX0_tellsOrder 56 = .ok (.iconst 4, 1) := dk_7 (dk_at dksX0_tellsOrder_2 9 rfl rfl)
theorem dX0_tellsOrder_57 : decode cX0_tellsOrder 57 = .ok (.iload 5, 2) := dk_21 5 (dk_at dksX0_tellsOrder_2 10 rfl rfl)
theorem dX0_tellsOrder_59 : decode cX0_tellsOrder 59 = .ok (.iadd, 1) := dk_96 (dk_at dksX0_tellsOrder_2 12 rfl rfl)
theorem dX0_tellsOrder_60 : decode cX0_tellsOrder 60 = .ok (.aload_n 3, 1) := dk_45 (dk_at dksX0_tellsOrder_2 13 rfl rfl)
theorem dX0_tellsOrder_61 : decode cX0_tellsOrder 61 = .ok (.getfield 167, 3) := dk_180 0 167 (dk_at dksX0_tellsOrder_2 14 rfl rfl)
theorem dX0_tellsOrder_64 : decode cX0_tellsOrder 64 = .ok (.iload 5, 2) := dk_21 5 (dk_at dksX0_tellsOrder_2 17 rfl rfl)
theorem dX0_tellsOrder_66 : decode cX0_tellsOrder 66 = .ok (.iaload, 1) := dk_46 (dk_at dksX0_tellsOrder_2 19 rfl rfl)
theorem dX0_tellsOrder_67 : decode cX0_tellsOrder 67 = .ok (.i2l, 1) := dk_133 (dk_at dksX0_tellsOrder_2 20 rfl rfl)
theorem dX0_tellsOrder_68 : decode cX0_tellsOrder 68 = .ok (.lastore, 1) := dk_80 (dk_at dksX0_tellsOrder_2 21 rfl rfl)
theorem dX0_tellsOrder_69 : decode cX0_tellsOrder 69 = .ok (.aload 4, 2) := dk_25 4 (dk_at dksX0_tellsOrder_2 22 rfl rfl)
theorem dX0_tellsOrder_71 : decode cX0_tellsOrder 71 = .ok (.bipush 20, 2) := dk_16 20 (dk_at dksX0_tellsOrder_3 0 rfl rfl)
theorem dX0_tellsOrder_73 : decode cX0_tellsOrder 73 = .ok (.iload 5, 2) := dk_21 5 (dk_at dksX0_tellsOrder_3 2 rfl rfl)
theorem dX0_tellsOrder_75 : decode cX0_tellsOrder 75 = .ok (.iadd, 1) := dk_96 (dk_at dksX0_tellsOrder_3 4 rfl rfl)
theorem dX0_tellsOrder_76 : decode cX0_tellsOrder 76 = .ok (.aload_n 3, 1) := dk_45 (dk_at dksX0_tellsOrder_3 5 rfl rfl)
theorem dX0_tellsOrder_77 : decode cX0_tellsOrder 77 = .ok (.getfield 164, 3) := dk_180 0 164 (dk_at dksX0_tellsOrder_3 6 rfl rfl)
theorem dX0_tellsOrder_80 : decode cX0_tellsOrder 80 = .ok (.iload 5, 2) := dk_21 5 (dk_at dksX0_tellsOrder_3 9 rfl rfl)
theorem dX0_tellsOrder_82 : decode cX0_tellsOrder 82 = .ok (.iaload, 1) := dk_46 (dk_at dksX0_tellsOrder_3 11 rfl rfl)
theorem dX0_tellsOrder_83 : decode cX0_tellsOrder 83 = .ok (.i2l, 1) := dk_133 (dk_at dksX0_tellsOrder_3 12 rfl rfl)
theorem dX0_tellsOrder_84 : decode cX0_tellsOrder 84 = .ok (.lastore, 1) := dk_80 (dk_at dksX0_tellsOrder_3 13 rfl rfl)
theorem dX0_tellsOrder_85 : decode cX0_tellsOrder 85 = .ok (.aload 4, 2) := dk_25 4 (dk_at dksX0_tellsOrder_3 14 rfl rfl)
theorem dX0_tellsOrder_87 : decode cX0_tellsOrder 87 = .ok (.bipush 36, 2) := dk_16 36 (dk_at dksX0_tellsOrder_3 16 rfl rfl)
theorem dX0_tellsOrder_89 : decode cX0_tellsOrder 89 = .ok (.iload 5, 2) := dk_21 5 (dk_at dksX0_tellsOrder_3 18 rfl rfl)
theorem dX0_tellsOrder_91 : decode cX0_tellsOrder 91 = .ok (.iadd, 1) := dk_96 (dk_at dksX0_tellsOrder_3 20 rfl rfl)
theorem dX0_tellsOrder_92 : decode cX0_tellsOrder 92 = .ok (.aload_n 3, 1) := dk_45 (dk_at dksX0_tellsOrder_3 21 rfl rfl)
theorem dX0_tellsOrder_93 : decode cX0_tellsOrder 93 = .ok (.getfield 170, 3) := dk_180 0 170 (dk_at dksX0_tellsOrder_4 0 rfl rfl)
theorem dX0_tellsOrder_96 : decode cX0_tellsOrder 96 = .ok (.iload 5, 2) := dk_21 5 (dk_at dksX0_tellsOrder_4 3 rfl rfl)
theorem dX0_tellsOrder_98 : decode cX0_tellsOrder 98 = .ok (.iaload, 1) := dk_46 (dk_at dksX0_tellsOrder_4 5 rfl rfl)
theorem dX0_tellsOrder_99 : decode cX0_tellsOrder 99 = .ok (.i2l, 1) := dk_133 (dk_at dksX0_tellsOrder_4 6 rfl rfl)
theorem dX0_tellsOrder_100 : decode cX0_tellsOrder 100 = .ok (.lastore, 1) := dk_80 (dk_at dksX0_tellsOrder_4 7 rfl rfl)
theorem dX0_tellsOrder_101 : decode cX0_tellsOrder 101 = .ok (.iinc 5 1, 3) := dk_132 5 1 (dk_at dksX0_tellsOrder_4 8 rfl rfl)
theorem dX0_tellsOrder_104 : decode cX0_tellsOrder 104 = .ok (.goto (-57), 3) := dk_167 255 199 (dk_at dksX0_tellsOrder_4 11 rfl rfl)
theorem dX0_tellsOrder_107 : decode cX0_tellsOrder 107 = .ok (.return_, 1) := dk_177 (dk_at dksX0_tellsOrder_4 14 rfl rfl)
abbrev cX0_runs : ByteArray := prog_1_method_80_code
def yX0_runs : MethodName := ⟨RX0, "runs", "(LForestRooms$Order;)I"⟩
def dkwX0_runs_3 : List UInt8 := [4, 160, 0, 12, 42, 28, 29, 182, 1, 90, 167, 0, 9, 42, 28, 29, 182, 1, 93, 172]
abbrev dktX0_runs_3 : List UInt8 := dkwX0_runs_3 ++ []
def dkwX0_runs_2 : List UInt8 := [184, 1, 184, 62, 43, 180, 1, 177, 154, 0, 12, 42, 28, 29, 182, 1, 84, 167, 0, 26, 43, 180, 1, 177]
abbrev dktX0_runs_2 : List UInt8 := dkwX0_runs_2 ++ dktX0_runs_3
def dkwX0_runs_1 : List UInt8 := [61, 43, 180, 1, 177, 6, 160, 0, 9, 42, 28, 182, 1, 96, 172, 43, 180, 1, 187, 42, 180, 0, 83]
abbrev dktX0_runs_1 : List UInt8 := dkwX0_runs_1 ++ dktX0_runs_2
def dkwX0_runs_0 : List UInt8 := [43, 180, 1, 177, 7, 160, 0, 8, 42, 182, 1, 99, 172, 43, 180, 1, 180, 42, 180, 0, 83, 184, 1, 184]
abbrev dktX0_runs_0 : List UInt8 := dkwX0_runs_0 ++ dktX0_runs_1
theorem dksX0_runs_0 : cX0_runs.data.toList.drop 0 = dktX0_runs_0 := by decide +kernel
theorem dksX0_runs_1 : cX0_runs.data.toList.drop 24 = dktX0_runs_1 := dk_seg dksX0_runs_0 24 rfl rfl
theorem dksX0_runs_2 : cX0_runs.data.toList.drop 47 = dktX0_runs_2 := dk_seg dksX0_runs_1 23 rfl rfl
theorem dksX0_runs_3 : cX0_runs.data.toList.drop 71 = dktX0_runs_3 := dk_seg dksX0_runs_2 24 rfl rfl
theorem dX0_runs_0 : decode cX0_runs 0 = .ok (.aload_n 1, 1) := dk_43 (dk_at dksX0_runs_0 0 rfl rfl)
theorem dX0_runs_1 : decode cX0_runs 1 = .ok (.getfield 433, 3) := dk_180 1 177 (dk_at dksX0_runs_0 1 rfl rfl)
theorem dX0_runs_4 : decode cX0_runs 4 = .ok (.iconst 4, 1) := dk_7 (dk_at dksX0_runs_0 4 rfl rfl)
theorem dX0_runs_5 : decode cX0_runs 5 = .ok (.if_icmp .ne 8, 3) := dk_160 0 8 (dk_at dksX0_runs_0 5 rfl rfl)
theorem dX0_runs_8 : decode cX0_runs 8 = .ok (.aload_n 0, 1) := dk_42 (dk_at dksX0_runs_0 8 rfl rfl)
theorem dX0_runs_9 : decode cX0_runs 9 = .ok (.invokevirtual 355, 3) := dk_182 1 99 (dk_at dksX0_runs_0 9 rfl rfl)
theorem dX0_runs_12 : decode cX0_runs 12 = .ok (.ireturn, 1) := dk_172 (dk_at dksX0_runs_0 12 rfl rfl)
theorem dX0_runs_13 : decode cX0_runs 13 = .ok (.aload_n 1, 1) := dk_43 (dk_at dksX0_runs_0 13 rfl rfl)
theorem dX0_runs_14 : decode cX0_runs 14 = .ok (.getfield 436, 3) := dk_180 1 180 (dk_at dksX0_runs_0 14 rfl rfl)
theorem dX0_runs_17 : decode cX0_runs 17 = .ok (.aload_n 0, 1) := dk_42 (dk_at dksX0_runs_0 17 rfl rfl)
theorem dX0_runs_18 : decode cX0_runs 18 = .ok (.getfield 83, 3) := dk_180 0 83 (dk_at dksX0_runs_0 18 rfl rfl)
theorem dX0_runs_21 : decode cX0_runs 21 = .ok (.invokestatic 440, 3) := dk_184 1 184 (dk_at dksX0_runs_0 21 rfl rfl)
theorem dX0_runs_24 : decode cX0_runs 24 = .ok (.istore_n 2, 1) := dk_61 (dk_at dksX0_runs_1 0 rfl rfl)
theorem dX0_runs_25 : decode cX0_runs 25 = .ok (.aload_n 1, 1) := dk_43 (dk_at dksX0_runs_1 1 rfl rfl)
theorem dX0_runs_26 : decode cX0_runs 26 = .ok (.getfield 433, 3) := dk_180 1 177 (dk_at dksX0_runs_1 2 rfl rfl)
theorem dX0_runs_29 : decode cX0_runs 29 = .ok (.iconst 3, 1) := dk_6 (dk_at dksX0_runs_1 5 rfl rfl)
theorem dX0_runs_30 : decode cX0_runs 30 = .ok (.if_icmp .ne 9, 3) := dk_160 0 9 (dk_at dksX0_runs_1 6 rfl rfl)
theorem dX0_runs_33 : decode cX0_runs 33 = .ok (.aload_n 0, 1) := dk_42 (dk_at dksX0_runs_1 9 rfl rfl)
theorem dX0_runs_34 : decode cX0_runs 34 = .ok (.iload_n 2, 1) := dk_28 (dk_at dksX0_runs_1 10 rfl rfl)
theorem dX0_runs_35 : decode cX0_runs 35 = .ok (.invokevirtual 352, 3) := dk_182 1 96 (dk_at dksX0_runs_1 11 rfl rfl)
theorem dX0_runs_38 : decode cX0_runs 38 = .ok (.ireturn, 1) := dk_172 (dk_at dksX0_runs_1 14 rfl rfl)
theorem dX0_runs_39 : decode cX0_runs 39 = .ok (.aload_n 1, 1) := dk_43 (dk_at dksX0_runs_1 15 rfl rfl)
theorem dX0_runs_40 : decode cX0_runs 40 = .ok (.getfield 443, 3) := dk_180 1 187 (dk_at dksX0_runs_1 16 rfl rfl)
theorem dX0_runs_43 : decode cX0_runs 43 = .ok (.aload_n 0, 1) := dk_42 (dk_at dksX0_runs_1 19 rfl rfl)
theorem dX0_runs_44 : decode cX0_runs 44 = .ok (.getfield 83, 3) := dk_180 0 83 (dk_at dksX0_runs_1 20 rfl rfl)
theorem dX0_runs_47 : decode cX0_runs 47 = .ok (.invokestatic 440, 3) := dk_184 1 184 (dk_at dksX0_runs_2 0 rfl rfl)
theorem dX0_runs_50 : decode cX0_runs 50 = .ok (.istore_n 3, 1) := dk_62 (dk_at dksX0_runs_2 3 rfl rfl)
theorem dX0_runs_51 : decode cX0_runs 51 = .ok (.aload_n 1, 1) := dk_43 (dk_at dksX0_runs_2 4 rfl rfl)
theorem dX0_runs_52 : decode cX0_runs 52 = .ok (.getfield 433, 3) := dk_180 1 177 (dk_at dksX0_runs_2 5 rfl rfl)
theorem dX0_runs_55 : decode cX0_runs 55 = .ok (.ifCond .ne 12, 3) := dk_154 0 12 (dk_at dksX0_runs_2 8 rfl rfl)
theorem dX0_runs_58 : decode cX0_runs 58 = .ok (.aload_n 0, 1) := dk_42 (dk_at dksX0_runs_2 11 rfl rfl)
theorem dX0_runs_59 : decode cX0_runs 59 = .ok (.iload_n 2, 1) := dk_28 (dk_at dksX0_runs_2 12 rfl rfl)
theorem dX0_runs_60 : decode cX0_runs 60 = .ok (.iload_n 3, 1) := dk_29 (dk_at dksX0_runs_2 13 rfl rfl)
theorem dX0_runs_61 : decode cX0_runs 61 = .ok (.invokevirtual 340, 3) := dk_182 1 84 (dk_at dksX0_runs_2 14 rfl rfl)
theorem dX0_runs_64 : decode cX0_runs 64 = .ok (.goto 26, 3) := dk_167 0 26 (dk_at dksX0_runs_2 17 rfl rfl)
theorem dX0_runs_67 : decode cX0_runs 67 = .ok (.aload_n 1, 1) := dk_43 (dk_at dksX0_runs_2 20 rfl rfl)
theorem dX0_runs_68 : decode cX0_runs 68 = .ok (.getfield 433, 3) := dk_180 1 177 (dk_at dksX0_runs_2 21 rfl rfl)
theorem dX0_runs_71 : decode cX0_runs 71 = .ok (.iconst 1, 1) := dk_4 (dk_at dksX0_runs_3 0 rfl rfl)
theorem dX0_runs_72 : decode cX0_runs 72 = .ok (.if_icmp .ne 12, 3) := dk_160 0 12 (dk_at dksX0_runs_3 1 rfl rfl)
theorem dX0_runs_75 : decode cX0_runs 75 = .ok (.aload_n 0, 1) := dk_42 (dk_at dksX0_runs_3 4 rfl rfl)
theorem dX0_runs_76 : decode cX0_runs 76 = .ok (.iload_n 2, 1) := dk_28 (dk_at dksX0_runs_3 5 rfl rfl)
theorem dX0_runs_77 : decode cX0_runs 77 = .ok (.iload_n 3, 1) := dk_29 (dk_at dksX0_runs_3 6 rfl rfl)
theorem dX0_runs_78 : decode cX0_runs 78 = .ok (.invokevirtual 346, 3) := dk_182 1 90 (dk_at dksX0_runs_3 7 rfl rfl)
theorem dX0_runs_81 : decode cX0_runs 81 = .ok (.goto 9, 3) := dk_167 0 9 (dk_at dksX0_runs_3 10 rfl rfl)
theorem dX0_runs_84 : decode cX0_runs 84 = .ok (.aload_n 0, 1) := dk_42 (dk_at dksX0_runs_3 13 rfl rfl)
theorem dX0_runs_85 : decode cX0_runs 85 = .ok (.iload_n 2, 1) := dk_28 (dk_at dksX0_runs_3 14 rfl rfl)
theorem dX0_runs_86 : decode cX0_runs 86 = .ok (.iload_n 3, 1) := dk_29 (dk_at dksX0_runs_3 15 rfl rfl)
theorem dX0_runs_87 : decode cX0_runs 87 = .ok (.invokevirtual 349, 3) := dk_182 1 93 (dk_at dksX0_runs_3 16 rfl rfl)
theorem dX0_runs_90 : decode cX0_runs 90 = .ok (.ireturn, 1) := dk_172 (dk_at dksX0_runs_3 19 rfl rfl)
abbrev cX0_putsBack : ByteArray := prog_1_method_81_code
def yX0_putsBack : MethodName := ⟨RX0, "putsBack", "(I)V"⟩
def dkwX0_putsBack_2 : List UInt8 := [3, 16, 16, 184, 1, 115, 42, 27, 181, 0, 121, 177]
abbrev dktX0_putsBack_2 : List UInt8 := dkwX0_putsBack_2 ++ []
def dkwX0_putsBack_1 : List UInt8 := [42, 180, 0, 53, 28, 50, 182, 1, 71, 132, 2, 1, 167, 255, 233, 42, 180, 0, 59, 3, 42, 180, 0, 56]
abbrev dktX0_putsBack_1 : List UInt8 := dkwX0_putsBack_1 ++ dktX0_putsBack_2
def dkwX0_putsBack_0 : List UInt8 := [42, 182, 0, 161, 42, 180, 0, 63, 182, 1, 71, 3, 61, 28, 27, 162, 0, 24, 42, 180, 0, 49, 28, 50]
abbrev dktX0_putsBack_0 : List UInt8 := dkwX0_putsBack_0 ++ dktX0_putsBack_1
theorem dksX0_putsBack_0 : cX0_putsBack.data.toList.drop 0 = dktX0_putsBack_0 := by decide +kernel
theorem dksX0_putsBack_1 : cX0_putsBack.data.toList.drop 24 = dktX0_putsBack_1 := dk_seg dksX0_putsBack_0 24 rfl rfl
theorem dksX0_putsBack_2 : cX0_putsBack.data.toList.drop 48 = dktX0_putsBack_2 := dk_seg dksX0_putsBack_1 24 rfl rfl
theorem dX0_putsBack_0 : decode cX0_putsBack 0 = .ok (.aload_n 0, 1) := dk_42 (dk_at dksX0_putsBack_0 0 rfl rfl)
theorem dX0_putsBack_1 : decode cX0_putsBack 1 = .ok (.invokevirtual 161, 3) := dk_182 0 161 (dk_at dksX0_putsBack_0 1 rfl rfl)
theorem dX0_putsBack_4 : decode cX0_putsBack 4 = .ok (.aload_n 0, 1) := dk_42 (dk_at dksX0_putsBack_0 4 rfl rfl)
theorem dX0_putsBack_5 : decode cX0_putsBack 5 = .ok (.getfield 63, 3) := dk_180 0 63 (dk_at dksX0_putsBack_0 5 rfl rfl)
theorem dX0_putsBack_8 : decode cX0_putsBack 8 = .ok (.invokevirtual 327, 3) := dk_182 1 71 (dk_at dksX0_putsBack_0 8 rfl rfl)
theorem dX0_putsBack_11 : decode cX0_putsBack 11 = .ok (.iconst 0, 1) := dk_3 (dk_at dksX0_putsBack_0 11 rfl rfl)
theorem dX0_putsBack_12 : decode cX0_putsBack 12 = .ok (.istore_n 2, 1) := dk_61 (dk_at dksX0_putsBack_0 12 rfl rfl)
theorem dX0_putsBack_13 : decode cX0_putsBack 13 = .ok (.iload_n 2, 1) := dk_28 (dk_at dksX0_putsBack_0 13 rfl rfl)
theorem dX0_putsBack_14 : decode cX0_putsBack 14 = .ok (.iload_n 1, 1) := dk_27 (dk_at dksX0_putsBack_0 14 rfl rfl)
theorem dX0_putsBack_15 : decode cX0_putsBack 15 = .ok (.if_icmp .ge 24, 3) := dk_162 0 24 (dk_at dksX0_putsBack_0 15 rfl rfl)
theorem dX0_putsBack_18 : decode cX0_putsBack 18 = .ok (.aload_n 0, 1) := dk_42 (dk_at dksX0_putsBack_0 18 rfl rfl)
theorem dX0_putsBack_19 : decode cX0_putsBack 19 = .ok (.getfield 49, 3) := dk_180 0 49 (dk_at dksX0_putsBack_0 19 rfl rfl)
theorem dX0_putsBack_22 : decode cX0_putsBack 22 = .ok (.iload_n 2, 1) := dk_28 (dk_at dksX0_putsBack_0 22 rfl rfl)
theorem dX0_putsBack_23 : decode cX0_putsBack 23 = .ok (.aaload, 1) := dk_50 (dk_at dksX0_putsBack_0 23 rfl rfl)
theorem dX0_putsBack_24 : decode cX0_putsBack 24 = .ok (.aload_n 0, 1) := dk_42 (dk_at dksX0_putsBack_1 0 rfl rfl)
theorem dX0_putsBack_25 : decode cX0_putsBack 25 = .ok (.getfield 53, 3) := dk_180 0 53 (dk_at dksX0_putsBack_1 1 rfl rfl)
theorem dX0_putsBack_28 : decode cX0_putsBack 28 = .ok (.iload_n 2, 1) := dk_28 (dk_at dksX0_putsBack_1 4 rfl rfl)
theorem dX0_putsBack_29 : decode cX0_putsBack 29 = .ok (.aaload, 1) := dk_50 (dk_at dksX0_putsBack_1 5 rfl rfl)
theorem dX0_putsBack_30 : decode cX0_putsBack 30 = .ok (.invokevirtual 327, 3) := dk_182 1 71 (dk_at dksX0_putsBack_1 6 rfl rfl)
theorem dX0_putsBack_33 : decode cX0_putsBack 33 = .ok (.iinc 2 1, 3) := dk_132 2 1 (dk_at dksX0_putsBack_1 9 rfl rfl)
theorem dX0_putsBack_36 : decode cX0_putsBack 36 = .ok (.goto (-23), 3) := dk_167 255 233 (dk_at dksX0_putsBack_1 12 rfl rfl)
theorem dX0_putsBack_39 : decode cX0_putsBack 39 = .ok (.aload_n 0, 1) := dk_42 (dk_at dksX0_putsBack_1 15 rfl rfl)
theorem dX0_putsBack_40 : decode cX0_putsBack 40 = .ok (.getfield 59, 3) := dk_180 0 59 (dk_at dksX0_putsBack_1 16 rfl rfl)
theorem dX0_putsBack_43 : decode cX0_putsBack 43 = .ok (.iconst 0, 1) := dk_3 (dk_at dksX0_putsBack_1 19 rfl rfl)
theorem dX0_putsBack_44 : decode cX0_putsBack 44 = .ok (.aload_n 0, 1) := dk_42 (dk_at dksX0_putsBack_1 20 rfl rfl)
theorem dX0_putsBack_45 : decode cX0_putsBack 45 = .ok (.getfield 56, 3) := dk_180 0 56 (dk_at dksX0_putsBack_1 21 rfl rfl)
theorem dX0_putsBack_48 : decode cX0_putsBack 48 = .ok (.iconst 0, 1) := dk_3 (dk_at dksX0_putsBack_2 0 rfl rfl)
theorem dX0_putsBack_49 : decode cX0_putsBack 49 = .ok (.bipush 16, 2) := dk_16 16 (dk_at dksX0_putsBack_2 1 rfl rfl)
theorem dX0_putsBack_51 : decode cX0_putsBack 51 = .ok (.invokestatic 371, 3) := dk_184 1 115 (dk_at dksX0_putsBack_2 3 rfl rfl)
theorem dX0_putsBack_54 : decode cX0_putsBack 54 = .ok (.aload_n 0, 1) := dk_42 (dk_at dksX0_putsBack_2 6 rfl rfl)
theorem dX0_putsBack_55 : decode cX0_putsBack 55 = .ok (.iload_n 1, 1) := dk_27 (dk_at dksX0_putsBack_2 7 rfl rfl)
theorem dX0_putsBack_56 : decode cX0_putsBack 56 = .ok (.putfield 121, 3) := dk_181 0 121 (dk_at dksX0_putsBack_2 8 rfl rfl)
theorem dX0_putsBack_59 : decode cX0_putsBack 59 = .ok (.return_, 1) := dk_177 (dk_at dksX0_putsBack_2 11 rfl rfl)
abbrev cX0_decade : ByteArray := prog_1_method_84_code
def yX0_decade : MethodName := ⟨RX0, "decade", "(II)I"⟩
def dkwX0_decade_5 : List UInt8 := [167, 255, 199, 42, 21, 4, 182, 0, 124, 172]
abbrev dktX0_decade_5 : List UInt8 := dkwX0_decade_5 ++ []
def dkwX0_decade_4 : List UInt8 := [162, 0, 9, 45, 21, 6, 182, 1, 77, 21, 4, 42, 45, 182, 1, 80, 96, 54, 4, 132, 5, 1]
abbrev dktX0_decade_4 : List UInt8 := dkwX0_decade_4 ++ dktX0_decade_5
def dkwX0_decade_3 : List UInt8 := [162, 0, 47, 42, 16, 16, 182, 1, 205, 54, 6, 42, 16, 10, 182, 1, 205, 42, 6, 182, 0, 202]
abbrev dktX0_decade_3 : List UInt8 := dkwX0_decade_3 ++ dktX0_decade_4
def dkwX0_decade_2 : List UInt8 := [182, 1, 71, 3, 54, 4, 3, 54, 5, 21, 5, 28, 162, 0, 57, 45, 180, 0, 199, 17, 3, 231]
abbrev dktX0_decade_2 : List UInt8 := dkwX0_decade_2 ++ dktX0_decade_3
def dkwX0_decade_1 : List UInt8 := [182, 0, 130, 172, 42, 27, 181, 1, 193, 42, 4, 181, 1, 202, 42, 180, 0, 115, 78, 45, 42, 182, 0, 161]
abbrev dktX0_decade_1 : List UInt8 := dkwX0_decade_1 ++ dktX0_decade_2
def dkwX0_decade_0 : List UInt8 := [27, 3, 19, 1, 136, 184, 0, 26, 153, 0, 13, 28, 4, 16, 60, 184, 0, 26, 154, 0, 9, 42, 2]
abbrev dktX0_decade_0 : List UInt8 := dkwX0_decade_0 ++ dktX0_decade_1
theorem dksX0_decade_0 : cX0_decade.data.toList.drop 0 = dktX0_decade_0 := by decide +kernel
theorem dksX0_decade_1 : cX0_decade.data.toList.drop 23 = dktX0_decade_1 := dk_seg dksX0_decade_0 23 rfl rfl
theorem dksX0_decade_2 : cX0_decade.data.toList.drop 47 = dktX0_decade_2 := dk_seg dksX0_decade_1 24 rfl rfl
theorem dksX0_decade_3 : cX0_decade.data.toList.drop 69 = dktX0_decade_3 := dk_seg dksX0_decade_2 22 rfl rfl
theorem dksX0_decade_4 : cX0_decade.data.toList.drop 91 = dktX0_decade_4 := dk_seg dksX0_decade_3 22 rfl rfl
theorem dksX0_decade_5 : cX0_decade.data.toList.drop 113 = dktX0_decade_5 := dk_seg dksX0_decade_4 22 rfl rfl
theorem dX0_decade_0 : decode cX0_decade 0 = .ok (.iload_n 1, 1) := dk_27 (dk_at dksX0_decade_0 0 rfl rfl)
theorem dX0_decade_1 : decode cX0_decade 1 = .ok (.iconst 0, 1) := dk_3 (dk_at dksX0_decade_0 1 rfl rfl)
theorem dX0_decade_2 : decode cX0_decade 2 = .ok (.ldc_w 392, 3) := dk_19 1 136 (dk_at dksX0_decade_0 2 rfl rfl)
theorem dX0_decade_5 : decode cX0_decade 5 = .ok (.invokestatic 26, 3) := dk_184 0 26 (dk_at dksX0_decade_0 5 rfl rfl)
theorem dX0_decade_8 : decode cX0_decade 8 = .ok (.ifCond .eq 13, 3) := dk_153 0 13 (dk_at dksX0_decade_0 8 rfl rfl)
theorem dX0_decade_11 : decode cX0_decade 11 = .ok (.iload_n 2, 1) := dk_28 (dk_at dksX0_decade_0 11 rfl rfl)
theorem dX0_decade_12 : decode cX0_decade 12 = .ok (.iconst 1, 1) := dk_4 (dk_at dksX0_decade_0 12 rfl rfl)
theorem dX0_decade_13 : decode cX0_decade 13 = .ok (.bipush 60, 2) := dk_16 60 (dk_at dksX0_decade_0 13 rfl rfl)
theorem dX0_decade_15 : decode cX0_decade 15 = .ok (.invokestatic 26, 3) := dk_184 0 26 (dk_at dksX0_decade_0 15 rfl rfl)
theorem dX0_decade_18 : decode cX0_decade 18 = .ok (.ifCond .ne 9, 3) := dk_154 0 9 (dk_at dksX0_decade_0 18 rfl rfl)
theorem dX0_decade_21 : decode cX0_decade 21 = .ok (.aload_n 0, 1) := dk_42 (dk_at dksX0_decade_0 21 rfl rfl)
theorem dX0_decade_22 : decode cX0_decade 22 = .ok (.iconst (-1), 1) := dk_2 (dk_at dksX0_decade_0 22 rfl rfl)
theorem dX0_decade_23 : decode cX0_decade 23 = .ok (.invokevirtual 130, 3) := dk_182 0 130 (dk_at dksX0_decade_1 0 rfl rfl)
theorem dX0_decade_26 : decode cX0_decade 26 = .ok (.ireturn, 1) := dk_172 (dk_at dksX0_decade_1 3 rfl rfl)
theorem dX0_decade_27 : decode cX0_decade 27 = .ok (.aload_n 0, 1) := dk_42 (dk_at dksX0_decade_1 4 rfl rfl)
theorem dX0_decade_28 : decode cX0_decade 28 = .ok (.iload_n 1, 1) := dk_27 (dk_at dksX0_decade_1 5 rfl rfl)
theorem dX0_decade_29 : decode cX0_decade 29 = .ok (.putfield 449, 3) := dk_181 1 193 (dk_at dksX0_decade_1 6 rfl rfl)
theorem dX0_decade_32 : decode cX0_decade 32 = .ok (.aload_n 0, 1) := dk_42 (dk_at dksX0_decade_1 9 rfl rfl)
theorem dX0_decade_33 : decode cX0_decade 33 = .ok (.iconst 1, 1) := dk_4 (dk_at dksX0_decade_1 10 rfl rfl)
theorem dX0_decade_34 : decode cX0_decade 34 = .ok (.putfield 458, 3) := dk_181 1 202 (dk_at dksX0_decade_1 11 rfl rfl)
theorem dX0_decade_37 : decode cX0_decade 37 = .ok (.aload_n 0, 1) := dk_42 (dk_at dksX0_decade_1 14 rfl rfl)
theorem dX0_decade_38 : decode cX0_decade 38 = .ok (.getfield 115, 3) := dk_180 0 115 (dk_at dksX0_decade_1 15 rfl rfl)
theorem dX0_decade_41 : decode cX0_decade 41 = .ok (.astore_n 3, 1) := dk_78 (dk_at dksX0_decade_1 18 rfl rfl)
theorem dX0_decade_42 : decode cX0_decade 42 = .ok (.aload_n 3, 1) := dk_45 (dk_at dksX0_decade_1 19 rfl rfl)
theorem dX0_decade_43 : decode cX0_decade 43 = .ok (.aload_n 0, 1) := dk_42 (dk_at dksX0_decade_1 20 rfl rfl)
theorem dX0_decade_44 : decode cX0_decade 44 = .ok (.invokevirtual 161, 3) := dk_182 0 161 (dk_at dksX0_decade_1 21 rfl rfl)
theorem dX0_decade_47 : decode cX0_decade 47 = .ok (.invokevirtual 327, 3) := dk_182 1 71 (dk_at dksX0_decade_2 0 rfl rfl)
theorem dX0_decade_50 : decode cX0_decade 50 = .ok (.iconst 0, 1) := dk_3 (dk_at dksX0_decade_2 3 rfl rfl)
theorem dX0_decade_51 : decode cX0_decade 51 = .ok (.istore 4, 2) := dk_54 4 (dk_at dksX0_decade_2 4 rfl rfl)
theorem dX0_decade_53 : decode cX0_decade 53 = .ok (.iconst 0, 1) := dk_3 (dk_at dksX0_decade_2 6 rfl rfl)
theorem dX0_decade_54 : decode cX0_decade 54 = .ok (.istore 5, 2) := dk_54 5 (dk_at dksX0_decade_2 7 rfl rfl)
theorem dX0_decade_56 : decode cX0_decade 56 = .ok (.iload 5, 2) := dk_21 5 (dk_at dksX0_decade_2 9 rfl rfl)
theorem dX0_decade_58 : decode cX0_decade 58 = .ok (.iload_n 2, 1) := dk_28 (dk_at dksX0_decade_2 11 rfl rfl)
theorem dX0_decade_59 : decode cX0_decade 59 = .ok (.if_icmp .ge 57, 3) := dk_162 0 57 (dk_at dksX0_decade_2 12 rfl rfl)
theorem dX0_decade_62 : decode cX0_decade 62 = .ok (.aload_n 3, 1) := dk_45 (dk_at dksX0_decade_2 15 rfl rfl)
theorem dX0_decade_63 : decode cX0_decade 63 = .ok (.getfield 199, 3) := dk_180 0 199 (dk_at dksX0_decade_2 16 rfl rfl)
theorem dX0_decade_66 : decode cX0_decade 66 = .ok (.sipush 999, 3) := dk_17 3 231 (dk_at dksX0_decade_2 19 rfl rfl)
theorem dX0_decade_69 : decode cX0_decade 69 = .ok (.if_icmp .ge 47, 3) := dk_162 0 47 (dk_at dksX0_decade_3 0 rfl rfl)
theorem dX0_decade_72 : decode cX0_decade 72 = .ok (.aload_n 0, 1) := dk_42 (dk_at dksX0_decade_3 3 rfl rfl)
theorem dX0_decade_73 : decode cX0_decade 73 = .ok (.bipush 16, 2) := dk_16 16 (dk_at dksX0_decade_3 4 rfl rfl)
theorem dX0_decade_75 : decode cX0_decade 75 = .ok (.invokevirtual 461, 3) := dk_182 1 205 (dk_at dksX0_decade_3 6 rfl rfl)
theorem dX0_decade_78 : decode cX0_decade 78 = .ok (.istore 6, 2) := dk_54 6 (dk_at dksX0_decade_3 9 rfl rfl)
theorem dX0_decade_80 : decode cX0_decade 80 = .ok (.aload_n 0, 1) := dk_42 (dk_at dksX0_decade_3 11 rfl rfl)
theorem dX0_decade_81 : decode cX0_decade 81 = .ok (.bipush 10, 2) := dk_16 10 (dk_at dksX0_decade_3 12 rfl rfl)
theorem dX0_decade_83 : decode cX0_decade 83 = .ok (.invokevirtual 461, 3) := dk_182 1 205 (dk_at dksX0_decade_3 14 rfl rfl)
theorem dX0_decade_86 : decode cX0_decade 86 = .ok (.aload_n 0, 1) := dk_42 (dk_at dksX0_decade_3 17 rfl rfl)
theorem dX0_decade_87 : decode cX0_decade 87 = .ok (.iconst 3, 1) := dk_6 (dk_at dksX0_decade_3 18 rfl rfl)
theorem dX0_decade_88 : decode cX0_decade 88 = .ok (.invokevirtual 202, 3) := dk_182 0 202 (dk_at dksX0_decade_3 19 rfl rfl)
theorem dX0_decade_91 : decode cX0_decade 91 = .ok (.if_icmp .ge 9, 3) := dk_162 0 9 (dk_at dksX0_decade_4 0 rfl rfl)
theorem dX0_decade_94 : decode cX0_decade 94 = .ok (.aload_n 3, 1) := dk_45 (dk_at dksX0_decade_4 3 rfl rfl)
theorem dX0_decade_95 : decode cX0_decade 95 = .ok (.iload 6, 2) := dk_21 6 (dk_at dksX0_decade_4 4 rfl rfl)
theorem dX0_decade_97 : decode cX0_decade 97 = .ok (.invokevirtual 333, 3) := dk_182 1 77 (dk_at dksX0_decade_4 6 rfl rfl)
theorem dX0_decade_100 : decode cX0_decade 100 = .ok (.iload 4, 2) := dk_21 4 (dk_at dksX0_decade_4 9 rfl rfl)
theorem dX0_decade_102 : decode cX0_decade 102 = .ok (.aload_n 0, 1) := dk_42 (dk_at dksX0_decade_4 11 rfl rfl)
theorem dX0_decade_103 : decode cX0_decade 103 = .ok (.aload_n 3, 1) := dk_45 (dk_at dksX0_decade_4 12 rfl rfl)
theorem dX0_decade_104 : decode cX0_decade 104 = .ok (.invokevirtual 336, 3) := dk_182 1 80 (dk_at dksX0_decade_4 13 rfl rfl)
theorem dX0_decade_107 : decode cX0_decade 107 = .ok (.iadd, 1) := dk_96 (dk_at dksX0_decade_4 16 rfl rfl)
theorem dX0_decade_108 : decode cX0_decade 108 = .ok (.istore 4, 2) := dk_54 4 (dk_at dksX0_decade_4 17 rfl rfl)
theorem dX0_decade_110 : decode cX0_decade 110 = .ok (.iinc 5 1, 3) := dk_132 5 1 (dk_at dksX0_decade_4 19 rfl rfl)
theorem dX0_decade_113 : decode cX0_decade 113 = .ok (.goto (-57), 3) := dk_167 255 199 (dk_at dksX0_decade_5 0 rfl rfl)
theorem dX0_decade_116 : decode cX0_decade 116 = .ok (.aload_n 0, 1) := dk_42 (dk_at dksX0_decade_5 3 rfl rfl)
theorem dX0_decade_117 : decode cX0_decade 117 = .ok (.iload 4, 2) := dk_21 4 (dk_at dksX0_decade_5 4 rfl rfl)
theorem dX0_decade_119 : decode cX0_decade 119 = .ok (.invokevirtual 124, 3) := dk_182 0 124 (dk_at dksX0_decade_5 6 rfl rfl)
theorem dX0_decade_122 : decode cX0_decade 122 = .ok (.ireturn, 1) := dk_172 (dk_at dksX0_decade_5 9 rfl rfl)
abbrev cX0_draw : ByteArray := prog_1_method_83_code
def yX0_draw : MethodName := ⟨RX0, "draw", "(I)I"⟩
def dkwX0_draw_1 : List UInt8 := [180, 1, 193, 27, 112, 172]
abbrev dktX0_draw_1 : List UInt8 := dkwX0_draw_1 ++ []
def dkwX0_draw_0 : List UInt8 := [42, 42, 180, 1, 193, 133, 20, 1, 196, 105, 20, 1, 198, 97, 20, 1, 200, 113, 136, 181, 1, 193, 42]
abbrev dktX0_draw_0 : List UInt8 := dkwX0_draw_0 ++ dktX0_draw_1
theorem dksX0_draw_0 : cX0_draw.data.toList.drop 0 = dktX0_draw_0 := by decide +kernel
theorem dksX0_draw_1 : cX0_draw.data.toList.drop 23 = dktX0_draw_1 := dk_seg dksX0_draw_0 23 rfl rfl
theorem dX0_draw_0 : decode cX0_draw 0 = .ok (.aload_n 0, 1) := dk_42 (dk_at dksX0_draw_0 0 rfl rfl)
theorem dX0_draw_1 : decode cX0_draw 1 = .ok (.aload_n 0, 1) := dk_42 (dk_at dksX0_draw_0 1 rfl rfl)
theorem dX0_draw_2 : decode cX0_draw 2 = .ok (.getfield 449, 3) := dk_180 1 193 (dk_at dksX0_draw_0 2 rfl rfl)
theorem dX0_draw_5 : decode cX0_draw 5 = .ok (.i2l, 1) := dk_133 (dk_at dksX0_draw_0 5 rfl rfl)
theorem dX0_draw_6 : decode cX0_draw 6 = .ok (.ldc2_w 452, 3) := dk_20 1 196 (dk_at dksX0_draw_0 6 rfl rfl)
theorem dX0_draw_9 : decode cX0_draw 9 = .ok (.lmul, 1) := dk_105 (dk_at dksX0_draw_0 9 rfl rfl)
theorem dX0_draw_10 : decode cX0_draw 10 = .ok (.ldc2_w 454, 3) := dk_20 1 198 (dk_at dksX0_draw_0 10 rfl rfl)
theorem dX0_draw_13 : decode cX0_draw 13 = .ok (.ladd, 1) := dk_97 (dk_at dksX0_draw_0 13 rfl rfl)
theorem dX0_draw_14 : decode cX0_draw 14 = .ok (.ldc2_w 456, 3) := dk_20 1 200 (dk_at dksX0_draw_0 14 rfl rfl)
theorem dX0_draw_17 : decode cX0_draw 17 = .ok (.lrem, 1) := dk_113 (dk_at dksX0_draw_0 17 rfl rfl)
theorem dX0_draw_18 : decode cX0_draw 18 = .ok (.l2i, 1) := dk_136 (dk_at dksX0_draw_0 18 rfl rfl)
theorem dX0_draw_19 : decode cX0_draw 19 = .ok (.putfield 449, 3) := dk_181 1 193 (dk_at dksX0_draw_0 19 rfl rfl)
theorem dX0_draw_22 : decode cX0_draw 22 = .ok (.aload_n 0, 1) := dk_42 (dk_at dksX0_draw_0 22 rfl rfl)
theorem dX0_draw_23 : decode cX0_draw 23 = .ok (.getfield 449, 3) := dk_180 1 193 (dk_at dksX0_draw_1 0 rfl rfl)
theorem dX0_draw_26 : decode cX0_draw 26 = .ok (.iload_n 1, 1) := dk_27 (dk_at dksX0_draw_1 3 rfl rfl)
theorem dX0_draw_27 : decode cX0_draw 27 = .ok (.irem, 1) := dk_112 (dk_at dksX0_draw_1 4 rfl rfl)
theorem dX0_draw_28 : decode cX0_draw 28 = .ok (.ireturn, 1) := dk_172 (dk_at dksX0_draw_1 5 rfl rfl)
abbrev cX0_drawn : ByteArray := prog_1_method_85_code
def yX0_drawn : MethodName := ⟨RX0, "drawn", "(II)I"⟩
def dkwX0_drawn_2 : List UInt8 := [180, 0, 167, 27, 46, 172]
abbrev dktX0_drawn_2 : List UInt8 := dkwX0_drawn_2 ++ []
def dkwX0_drawn_1 : List UInt8 := [167, 0, 28, 28, 154, 0, 15, 42, 180, 0, 115, 180, 0, 164, 27, 46, 167, 0, 12, 42, 180, 0, 115]
abbrev dktX0_drawn_1 : List UInt8 := dkwX0_drawn_1 ++ dktX0_drawn_2
def dkwX0_drawn_0 : List UInt8 := [42, 180, 1, 202, 153, 0, 19, 27, 184, 0, 149, 153, 0, 12, 28, 3, 4, 184, 0, 26, 154, 0, 7, 2]
abbrev dktX0_drawn_0 : List UInt8 := dkwX0_drawn_0 ++ dktX0_drawn_1
theorem dksX0_drawn_0 : cX0_drawn.data.toList.drop 0 = dktX0_drawn_0 := by decide +kernel
theorem dksX0_drawn_1 : cX0_drawn.data.toList.drop 24 = dktX0_drawn_1 := dk_seg dksX0_drawn_0 24 rfl rfl
theorem dksX0_drawn_2 : cX0_drawn.data.toList.drop 47 = dktX0_drawn_2 := dk_seg dksX0_drawn_1 23 rfl rfl
theorem dX0_drawn_0 : decode cX0_drawn 0 = .ok (.aload_n 0, 1) := dk_42 (dk_at dksX0_drawn_0 0 rfl rfl)
theorem dX0_drawn_1 : decode cX0_drawn 1 = .ok (.getfield 458, 3) := dk_180 1 202 (dk_at dksX0_drawn_0 1 rfl rfl)
theorem dX0_drawn_4 : decode cX0_drawn 4 = .ok (.ifCond .eq 19, 3) := dk_153 0 19 (dk_at dksX0_drawn_0 4 rfl rfl)
theorem dX0_drawn_7 : decode cX0_drawn 7 = .ok (.iload_n 1, 1) := dk_27 (dk_at dksX0_drawn_0 7 rfl rfl)
theorem dX0_drawn_8 : decode cX0_drawn 8 = .ok (.invokestatic 149, 3) := dk_184 0 149 (dk_at dksX0_drawn_0 8 rfl rfl)
theorem dX0_drawn_11 : decode cX0_drawn 11 = .ok (.ifCond .eq 12, 3) := dk_153 0 12 (dk_at dksX0_drawn_0 11 rfl rfl)
theorem dX0_drawn_14 : decode cX0_drawn 14 = .ok (.iload_n 2, 1) := dk_28 (dk_at dksX0_drawn_0 14 rfl rfl)
theorem dX0_drawn_15 : decode cX0_drawn 15 = .ok (.iconst 0, 1) := dk_3 (dk_at dksX0_drawn_0 15 rfl rfl)
theorem dX0_drawn_16 : decode cX0_drawn 16 = .ok (.iconst 1, 1) := dk_4 (dk_at dksX0_drawn_0 16 rfl rfl)
theorem dX0_drawn_17 : decode cX0_drawn 17 = .ok (.invokestatic 26, 3) := dk_184 0 26 (dk_at dksX0_drawn_0 17 rfl rfl)
theorem dX0_drawn_20 : decode cX0_drawn 20 = .ok (.ifCond .ne 7, 3) := dk_154 0 7 (dk_at dksX0_drawn_0 20 rfl rfl)
theorem dX0_drawn_23 : decode cX0_drawn 23 = .ok (.iconst (-1), 1) := dk_2 (dk_at dksX0_drawn_0 23 rfl rfl)
theorem dX0_drawn_24 : decode cX0_drawn 24 = .ok (.goto 28, 3) := dk_167 0 28 (dk_at dksX0_drawn_1 0 rfl rfl)
theorem dX0_drawn_27 : decode cX0_drawn 27 = .ok (.iload_n 2, 1) := dk_28 (dk_at dksX0_drawn_1 3 rfl rfl)
theorem dX0_drawn_28 : decode cX0_drawn 28 = .ok (.ifCond .ne 15, 3) := dk_154 0 15 (dk_at dksX0_drawn_1 4 rfl rfl)
theorem dX0_drawn_31 : decode cX0_drawn 31 = .ok (.aload_n 0, 1) := dk_42 (dk_at dksX0_drawn_1 7 rfl rfl)
theorem dX0_drawn_32 : decode cX0_drawn 32 = .ok (.getfield 115, 3) := dk_180 0 115 (dk_at dksX0_drawn_1 8 rfl rfl)
theorem dX0_drawn_35 : decode cX0_drawn 35 = .ok (.getfield 164, 3) := dk_180 0 164 (dk_at dksX0_drawn_1 11 rfl rfl)
theorem dX0_drawn_38 : decode cX0_drawn 38 = .ok (.iload_n 1, 1) := dk_27 (dk_at dksX0_drawn_1 14 rfl rfl)
theorem dX0_drawn_39 : decode cX0_drawn 39 = .ok (.iaload, 1) := dk_46 (dk_at dksX0_drawn_1 15 rfl rfl)
theorem dX0_drawn_40 : decode cX0_drawn 40 = .ok (.goto 12, 3) := dk_167 0 12 (dk_at dksX0_drawn_1 16 rfl rfl)
theorem dX0_drawn_43 : decode cX0_drawn 43 = .ok (.aload_n 0, 1) := dk_42 (dk_at dksX0_drawn_1 19 rfl rfl)
theorem dX0_drawn_44 : decode cX0_drawn 44 = .ok (.getfield 115, 3) := dk_180 0 115 (dk_at dksX0_drawn_1 20 rfl rfl)
theorem dX0_drawn_47 : decode cX0_drawn 47 = .ok (.getfield 167, 3) := dk_180 0 167 (dk_at dksX0_drawn_2 0 rfl rfl)
theorem dX0_drawn_50 : decode cX0_drawn 50 = .ok (.iload_n 1, 1) := dk_27 (dk_at dksX0_drawn_2 3 rfl rfl)
theorem dX0_drawn_51 : decode cX0_drawn 51 = .ok (.iaload, 1) := dk_46 (dk_at dksX0_drawn_2 4 rfl rfl)
theorem dX0_drawn_52 : decode cX0_drawn 52 = .ok (.ireturn, 1) := dk_172 (dk_at dksX0_drawn_2 5 rfl rfl)
abbrev cX0_count : ByteArray := prog_1_method_86_code
def yX0_count : MethodName := ⟨RX0, "count", "(I)I"⟩
def dkwX0_count_6 : List UInt8 := [182, 0, 202, 172, 2, 172]
abbrev dktX0_count_6 : List UInt8 := dkwX0_count_6 ++ []
def dkwX0_count_5 : List UInt8 := [172, 42, 180, 0, 39, 180, 1, 6, 172, 42, 182, 0, 161, 180, 0, 199, 172, 42, 27, 16, 13, 100]
abbrev dktX0_count_5 : List UInt8 := dkwX0_count_5 ++ dktX0_count_6
def dkwX0_count_4 : List UInt8 := [172, 42, 180, 0, 205, 172, 42, 180, 0, 7, 27, 16, 6, 100, 46, 172, 42, 180, 0, 7, 27, 8, 100, 46]
abbrev dktX0_count_4 : List UInt8 := dkwX0_count_4 ++ dktX0_count_5
def dkwX0_count_3 : List UInt8 := [172, 42, 180, 0, 39, 180, 1, 124, 172, 42, 180, 0, 39, 180, 0, 225, 182, 0, 229, 172, 42, 180, 0, 121]
abbrev dktX0_count_3 : List UInt8 := dkwX0_count_3 ++ dktX0_count_4
def dkwX0_count_2 : List UInt8 := [42, 182, 0, 161, 182, 1, 190, 172, 42, 182, 0, 161, 182, 1, 102, 172, 42, 42, 182, 0, 161, 182, 1, 105]
abbrev dktX0_count_2 : List UInt8 := dkwX0_count_2 ++ dktX0_count_3
def dkwX0_count_1 : List UInt8 := [170, 0, 0, 0, 0, 0, 185, 0, 0, 0, 0, 0, 0, 0, 17, 0, 0, 0, 87, 0, 0, 0, 95, 0, 0, 0, 103, 0, 0, 0, 112, 0, 0, 0, 120, 0, 0, 0, 131, 0, 0, 0, 136, 0, 0, 0, 141, 0, 0, 0, 141, 0, 0, 0, 141, 0, 0, 0, 151, 0, 0, 0, 151, 0, 0, 0, 160, 0, 0, 0, 168, 0, 0, 0, 176, 0, 0, 0, 176, 0, 0, 0, 176, 0, 0, 0, 176]
abbrev dktX0_count_1 : List UInt8 := dkwX0_count_1 ++ dktX0_count_2
def dkwX0_count_0 : List UInt8 := [27]
abbrev dktX0_count_0 : List UInt8 := dkwX0_count_0 ++ dktX0_count_1
theorem dksX0_count_0 : cX0_count.data.toList.drop 0 = dktX0_count_0 := by decide +kernel
theorem dksX0_count_1 : cX0_count.data.toList.drop 1 = dktX0_count_1 := dk_seg dksX0_count_0 1 rfl rfl
theorem dksX0_count_2 : cX0_count.data.toList.drop 88 = dktX0_count_2 := dk_seg dksX0_count_1 87 rfl rfl
theorem dksX0_count_3 : cX0_count.data.toList.drop 112 = dktX0_count_3 := dk_seg dksX0_count_2 24 rfl rfl
theorem dksX0_count_4 : cX0_count.data.toList.drop 136 = dktX0_count_4 := dk_seg dksX0_count_3 24 rfl rfl
theorem dksX0_count_5 : cX0_count.data.toList.drop 160 = dktX0_count_5 := dk_seg dksX0_count_4 24 rfl rfl
theorem dksX0_count_6 : cX0_count.data.toList.drop 182 = dktX0_count_6 := dk_seg dksX0_count_5 22 rfl rfl
theorem dX0_count_0 : decode cX0_count 0 = .ok (.iload_n 1, 1) := dk_27 (dk_at dksX0_count_0 0 rfl rfl)
theorem dX0_count_1 : decode cX0_count 1 = .ok (.tableswitch 185 0 17 #[87, 95, 103, 112, 120, 131, 136, 141, 141, 141, 151, 151, 160, 168, 176, 176, 176, 176], 87) := by decide +kernel
theorem dX0_count_88 : decode cX0_count 88 = .ok (.aload_n 0, 1) := dk_42 (dk_at dksX0_count_2 0 rfl rfl)
theorem dX0_count_89 : decode cX0_count 89 = .ok (.invokevirtual 161, 3) := dk_182 0 161 (dk_at dksX0_count_2 1 rfl rfl)
theorem dX0_count_92 : decode cX0_count 92 = .ok (.invokevirtual 446, 3) := dk_182 1 190 (dk_at dksX0_count_2 4 rfl rfl)
theorem dX0_count_95 : decode cX0_count 95 = .ok (.ireturn, 1) := dk_172 (dk_at dksX0_count_2 7 rfl rfl)
theorem dX0_count_96 : decode cX0_count 96 = .ok (.aload_n 0, 1) := dk_42 (dk_at dksX0_count_2 8 rfl rfl)
theorem dX0_count_97 : decode cX0_count 97 = .ok (.invokevirtual 161, 3) := dk_182 0 161 (dk_at dksX0_count_2 9 rfl rfl)
theorem dX0_count_100 : decode cX0_count 100 = .ok (.invokevirtual 358, 3) := dk_182 1 102 (dk_at dksX0_count_2 12 rfl rfl)
theorem dX0_count_103 : decode cX0_count 103 = .ok (.ireturn, 1) := dk_172 (dk_at dksX0_count_2 15 rfl rfl)
theorem dX0_count_104 : decode cX0_count 104 = .ok (.aload_n 0, 1) := dk_42 (dk_at dksX0_count_2 16 rfl rfl)
theorem dX0_count_105 : decode cX0_count 105 = .ok (.aload_n 0, 1) := dk_42 (dk_at dksX0_count_2 17 rfl rfl)
theorem dX0_count_106 : decode cX0_count 106 = .ok (.invokevirtual 161, 3) := dk_182 0 161 (dk_at dksX0_count_2 18 rfl rfl)
theorem dX0_count_109 : decode cX0_count 109 = .ok (.invokevirtual 361, 3) := dk_182 1 105 (dk_at dksX0_count_2 21 rfl rfl)
theorem dX0_count_112 : decode cX0_count 112 = .ok (.ireturn, 1) := dk_172 (dk_at dksX0_count_3 0 rfl rfl)
theorem dX0_count_113 : decode cX0_count 113 = .ok (.aload_n 0, 1) := dk_42 (dk_at dksX0_count_3 1 rfl rfl)
theorem dX0_count_114 : decode cX0_count 114 = .ok (.getfield 39, 3) := dk_180 0 39 (dk_at dksX0_count_3 2 rfl rfl)
theorem dX0_count_117 : decode cX0_count 117 = .ok (.getfield 380, 3) := dk_180 1 124 (dk_at dksX0_count_3 5 rfl rfl)
theorem dX0_count_120 : decode cX0_count 120 = .ok (.ireturn, 1) := dk_172 (dk_at dksX0_count_3 8 rfl rfl)
theorem dX0_count_121 : decode cX0_count 121 = .ok (.aload_n 0, 1) := dk_42 (dk_at dksX0_count_3 9 rfl rfl)
theorem dX0_count_122 : decode cX0_count 122 = .ok (.getfield 39, 3) := dk_180 0 39 (dk_at dksX0_count_3 10 rfl rfl)
theorem dX0_count_125 : decode cX0_count 125 = .ok (.getfield 225, 3) := dk_180 0 225 (dk_at dksX0_count_3 13 rfl rfl)
theorem dX0_count_128 : decode cX0_count 128 = .ok (.invokevirtual 229, 3) := dk_182 0 229 (dk_at dksX0_count_3 16 rfl rfl)
theorem dX0_count_131 : decode cX0_count 131 = .ok (.ireturn, 1) := dk_172 (dk_at dksX0_count_3 19 rfl rfl)
theorem dX0_count_132 : decode cX0_count 132 = .ok (.aload_n 0, 1) := dk_42 (dk_at dksX0_count_3 20 rfl rfl)
theorem dX0_count_133 : decode cX0_count 133 = .ok (.getfield 121, 3) := dk_180 0 121 (dk_at dksX0_count_3 21 rfl rfl)
theorem dX0_count_136 : decode cX0_count 136 = .ok (.ireturn, 1) := dk_172 (dk_at dksX0_count_4 0 rfl rfl)
theorem dX0_count_137 : decode cX0_count 137 = .ok (.aload_n 0, 1) := dk_42 (dk_at dksX0_count_4 1 rfl rfl)
theorem dX0_count_138 : decode cX0_count 138 = .ok (.getfield 205, 3) := dk_180 0 205 (dk_at dksX0_count_4 2 rfl rfl)
theorem dX0_count_141 : decode cX0_count 141 = .ok (.ireturn, 1) := dk_172 (dk_at dksX0_count_4 5 rfl rfl)
theorem dX0_count_142 : decode cX0_count 142 = .ok (.aload_n 0, 1) := dk_42 (dk_at dksX0_count_4 6 rfl rfl)
theorem dX0_count_143 : decode cX0_count 143 = .ok (.getfield 7, 3) := dk_180 0 7 (dk_at dksX0_count_4 7 rfl rfl)
theorem dX0_count_146 : decode cX0_count 146 = .ok (.iload_n 1, 1) := dk_27 (dk_at dksX0_count_4 10 rfl rfl)
theorem dX0_count_147 : decode cX0_count 147 = .ok (.bipush 6, 2) := dk_16 6 (dk_at dksX0_count_4 11 rfl rfl)
theorem dX0_count_149 : decode cX0_count 149 = .ok (.isub, 1) := dk_100 (dk_at dksX0_count_4 13 rfl rfl)
theorem dX0_count_150 : decode cX0_count 150 = .ok (.iaload, 1) := dk_46 (dk_at dksX0_count_4 14 rfl rfl)
theorem dX0_count_151 : decode cX0_count 151 = .ok (.ireturn, 1) := dk_172 (dk_at dksX0_count_4 15 rfl rfl)
theorem dX0_count_152 : decode cX0_count 152 = .ok (.aload_n 0, 1) := dk_42 (dk_at dksX0_count_4 16 rfl rfl)
theorem dX0_count_153 : decode cX0_count 153 = .ok (.getfield 7, 3) := dk_180 0 7 (dk_at dksX0_count_4 17 rfl rfl)
theorem dX0_count_156 : decode cX0_count 156 = .ok (.iload_n 1, 1) := dk_27 (dk_at dksX0_count_4 20 rfl rfl)
theorem dX0_count_157 : decode cX0_count 157 = .ok (.iconst 5, 1) := dk_8 (dk_at dksX0_count_4 21 rfl rfl)
theorem dX0_count_158 : decode cX0_count 158 = .ok (.isub, 1) := dk_100 (dk_at dksX0_count_4 22 rfl rfl)
theorem dX0_count_159 : decode cX0_count 159 = .ok (.iaload, 1) := dk_46 (dk_at dksX0_count_4 23 rfl rfl)
theorem dX0_count_160 : decode cX0_count 160 = .ok (.ireturn, 1) := dk_172 (dk_at dksX0_count_5 0 rfl rfl)
theorem dX0_count_161 : decode cX0_count 161 = .ok (.aload_n 0, 1) := dk_42 (dk_at dksX0_count_5 1 rfl rfl)
theorem dX0_count_162 : decode cX0_count 162 = .ok (.getfield 39, 3) := dk_180 0 39 (dk_at dksX0_count_5 2 rfl rfl)
theorem dX0_count_165 : decode cX0_count 165 = .ok (.getfield 262, 3) := dk_180 1 6 (dk_at dksX0_count_5 5 rfl rfl)
theorem dX0_count_168 : decode cX0_count 168 = .ok (.ireturn, 1) := dk_172 (dk_at dksX0_count_5 8 rfl rfl)
theorem dX0_count_169 : decode cX0_count 169 = .ok (.aload_n 0, 1) := dk_42 (dk_at dksX0_count_5 9 rfl rfl)
theorem dX0_count_170 : decode cX0_count 170 = .ok (.invokevirtual 161, 3) := dk_182 0 161 (dk_at dksX0_count_5 10 rfl rfl)
theorem dX0_count_173 : decode cX0_count 173 = .ok (.getfield 199, 3) := dk_180 0 199 (dk_at dksX0_count_5 13 rfl rfl)
theorem dX0_count_176 : decode cX0_count 176 = .ok (.ireturn, 1) := dk_172 (dk_at dksX0_count_5 16 rfl rfl)
theorem dX0_count_177 : decode cX0_count 177 = .ok (.aload_n 0, 1) := dk_42 (dk_at dksX0_count_5 17 rfl rfl)
theorem dX0_count_178 : decode cX0_count 178 = .ok (.iload_n 1, 1) := dk_27 (dk_at dksX0_count_5 18 rfl rfl)
theorem dX0_count_179 : decode cX0_count 179 = .ok (.bipush 13, 2) := dk_16 13 (dk_at dksX0_count_5 19 rfl rfl)
theorem dX0_count_181 : decode cX0_count 181 = .ok (.isub, 1) := dk_100 (dk_at dksX0_count_5 21 rfl rfl)
theorem dX0_count_182 : decode cX0_count 182 = .ok (.invokevirtual 202, 3) := dk_182 0 202 (dk_at dksX0_count_6 0 rfl rfl)
theorem dX0_count_185 : decode cX0_count 185 = .ok (.ireturn, 1) := dk_172 (dk_at dksX0_count_6 3 rfl rfl)
theorem dX0_count_186 : decode cX0_count 186 = .ok (.iconst (-1), 1) := dk_2 (dk_at dksX0_count_6 4 rfl rfl)
theorem dX0_count_187 : decode cX0_count 187 = .ok (.ireturn, 1) := dk_172 (dk_at dksX0_count_6 5 rfl rfl)
abbrev cX0_status : ByteArray := prog_1_method_87_code
def yX0_status : MethodName := ⟨RX0, "status", "()I"⟩
theorem dX0_status_0 : decode cX0_status 0 = .ok (.aload_n 0, 1) := by decide +kernel
theorem dX0_status_1 : decode cX0_status 1 = .ok (.getfield 1, 3) := by decide +kernel
theorem dX0_status_4 : decode cX0_status 4 = .ok (.ireturn, 1) := by decide +kernel
theorem q111 : (Jvm.Cond.initialized "ForestRooms") ∈ lw_all := lw_g (lw_at lw_m1 1 rfl) rfl
theorem q148 : (Jvm.Cond.instantiable "ForestRooms" (29 : Nat)) ∈ lw_all := lw_g (lw_at lw_m1 38 rfl) rfl
theorem q150 : (Jvm.Cond.instanceMethod ({ cls := "ForestRooms", name := "<init>", desc := "()V" } : Jvm.MethodName)) ∈ lw_all := lw_g (lw_at lw_m1 40 rfl) rfl
theorem q151 : (Jvm.Cond.code ({ cls := "ForestRooms", name := "<init>", desc := "()V" } : Jvm.MethodName) prog_1_method_11_code (2 : Nat) (Option.none : Option Jvm.ClassFile.FieldType)) ∈ lw_all := lw_g (lw_at lw_m1 41 rfl) rfl
theorem q152 : (Jvm.Cond.methodLink "ForestRooms" (30 : Nat) ({ cls := "java/lang/Object", name := "<init>", desc := "()V" } : Jvm.MethodName)) ∈ lw_all := lw_g (lw_at lw_m1 42 rfl) rfl
theorem q155 : (Jvm.Cond.classLink "ForestRooms" (36 : Nat) "ForestRooms$State") ∈ lw_all := lw_g (lw_at lw_m1 45 rfl) rfl
theorem q157 : (Jvm.Cond.methodLink "ForestRooms" (38 : Nat) ({ cls := "ForestRooms$State", name := "<init>", desc := "()V" } : Jvm.MethodName)) ∈ lw_all := lw_g (lw_at lw_m1 47 rfl) rfl
theorem q168 : (Jvm.Cond.fieldLinkNest "ForestRooms" (164 : Nat) "ForestRooms$Table" "kind" "[I" "ForestRooms") ∈ lw_tbl := lw_at lw_m1 58 rfl
theorem q171 : (Jvm.Cond.fieldLinkNest "ForestRooms" (167 : Nat) "ForestRooms$Table" "grown" "[I" "ForestRooms") ∈ lw_tbl := lw_at lw_m1 61 rfl
theorem q173 : (Jvm.Cond.fieldLinkNest "ForestRooms" (170 : Nat) "ForestRooms$Table" "family" "[I" "ForestRooms") ∈ lw_tbl := lw_at lw_m1 63 rfl
theorem q175 : (Jvm.Cond.fieldLinkNest "ForestRooms" (199 : Nat) "ForestRooms$Table" "season" "I" "ForestRooms") ∈ lw_tbl := lw_at lw_m1 65 rfl
theorem q215 : (Jvm.Cond.fieldLinkNest "ForestRooms" (118 : Nat) "ForestRooms$State" "table" "LForestRooms$Table;" "ForestRooms") ∈ lw_tbl := lw_at lw_m1 105 rfl
theorem q217 : (Jvm.Cond.fieldLinkNest "ForestRooms" (140 : Nat) "ForestRooms$State" "light" "[I" "ForestRooms") ∈ lw_tbl := lw_at lw_m1 107 rfl
theorem q219 : (Jvm.Cond.fieldLinkNest "ForestRooms" (143 : Nat) "ForestRooms$State" "wet" "[I" "ForestRooms") ∈ lw_tbl := lw_at lw_m1 109 rfl
theorem q221 : (Jvm.Cond.fieldLinkNest "ForestRooms" (146 : Nat) "ForestRooms$State" "size" "[I" "ForestRooms") ∈ lw_tbl := lw_at lw_m1 111 rfl
theorem q223 : (Jvm.Cond.fieldLinkNest "ForestRooms" (190 : Nat) "ForestRooms$State" "needs" "[I" "ForestRooms") ∈ lw_tbl := lw_at lw_m1 113 rfl
theorem q225 : (Jvm.Cond.fieldLinkNest "ForestRooms" (193 : Nat) "ForestRooms$State" "drinks" "[I" "ForestRooms") ∈ lw_tbl := lw_at lw_m1 115 rfl
theorem q227 : (Jvm.Cond.fieldLinkNest "ForestRooms" (383 : Nat) "ForestRooms$State" "sights" "[I" "ForestRooms") ∈ lw_tbl := lw_at lw_m1 117 rfl
theorem q229 : (Jvm.Cond.fieldLinkNest "ForestRooms" (127 : Nat) "ForestRooms$State" "terms" "[I" "ForestRooms") ∈ lw_tbl := lw_at lw_m1 119 rfl
theorem q231 : (Jvm.Cond.fieldLinkNest "ForestRooms" (225 : Nat) "ForestRooms$State" "laws" "Ljava/util/ArrayList;" "ForestRooms") ∈ lw_tbl := lw_at lw_m1 121 rfl
theorem q233 : (Jvm.Cond.fieldLinkNest "ForestRooms" (380 : Nat) "ForestRooms$State" "seen" "I" "ForestRooms") ∈ lw_tbl := lw_at lw_m1 123 rfl
theorem q235 : (Jvm.Cond.fieldLinkNest "ForestRooms" (243 : Nat) "ForestRooms$State" "coming" "I" "ForestRooms") ∈ lw_tbl := lw_at lw_m1 125 rfl
theorem q237 : (Jvm.Cond.fieldLinkNest "ForestRooms" (262 : Nat) "ForestRooms$State" "force" "I" "ForestRooms") ∈ lw_tbl := lw_at lw_m1 127 rfl
theorem q264 : (Jvm.Cond.classLink "ForestRooms" (47 : Nat) "ForestRooms$Table") ∈ lw_all := lw_g (lw_at lw_m1 154 rfl) rfl
theorem q266 : (Jvm.Cond.methodLink "ForestRooms" (62 : Nat) ({ cls := "ForestRooms$Table", name := "<init>", desc := "()V" } : Jvm.MethodName)) ∈ lw_all := lw_g (lw_at lw_m1 156 rfl) rfl
theorem q267 : (Jvm.Cond.classLink "ForestRooms" (80 : Nat) "ForestRooms$Setting") ∈ lw_all := lw_g (lw_at lw_m1 157 rfl) rfl
theorem q269 : (Jvm.Cond.methodLinkNest "ForestRooms" (82 : Nat) ({ cls := "ForestRooms$Setting", name := "<init>", desc := "()V" } : Jvm.MethodName) "ForestRooms") ∈ lw_tbl := lw_at lw_m1 159 rfl
theorem q338 : (Jvm.Cond.fieldLinkNest "ForestRooms" (267 : Nat) "ForestRooms$Setting" "values" "[J" "ForestRooms") ∈ lw_tbl := lw_at lw_m1 228 rfl
theorem q345 : (Jvm.Cond.fieldLink "ForestRooms" (1 : Nat) "ForestRooms" "status" "I") ∈ lw_all := lw_g (lw_at lw_m1 235 rfl) rfl
theorem q346 : (Jvm.Cond.fieldLink "ForestRooms" (7 : Nat) "ForestRooms" "refused" "[I") ∈ lw_all := lw_g (lw_at lw_m1 236 rfl) rfl
theorem q347 : (Jvm.Cond.fieldLink "ForestRooms" (39 : Nat) "ForestRooms" "state" "LForestRooms$State;") ∈ lw_all := lw_g (lw_at lw_m1 237 rfl) rfl
theorem q348 : (Jvm.Cond.fieldLink "ForestRooms" (43 : Nat) "ForestRooms" "images" "[LForestRooms$State;") ∈ lw_all := lw_g (lw_at lw_m1 238 rfl) rfl
theorem q349 : (Jvm.Cond.fieldLink "ForestRooms" (49 : Nat) "ForestRooms" "undone" "[LForestRooms$Table;") ∈ lw_all := lw_g (lw_at lw_m1 239 rfl) rfl
theorem q350 : (Jvm.Cond.fieldLink "ForestRooms" (53 : Nat) "ForestRooms" "ordersUndone" "[LForestRooms$Table;") ∈ lw_all := lw_g (lw_at lw_m2 0 rfl) rfl
theorem q351 : (Jvm.Cond.fieldLink "ForestRooms" (56 : Nat) "ForestRooms" "undoneWhat" "[I") ∈ lw_all := lw_g (lw_at lw_m2 1 rfl) rfl
theorem q352 : (Jvm.Cond.fieldLink "ForestRooms" (59 : Nat) "ForestRooms" "ordersWhat" "[I") ∈ lw_all := lw_g (lw_at lw_m2 2 rfl) rfl
theorem q353 : (Jvm.Cond.fieldLink "ForestRooms" (63 : Nat) "ForestRooms" "ahead" "LForestRooms$Table;") ∈ lw_all := lw_g (lw_at lw_m2 3 rfl) rfl
theorem q354 : (Jvm.Cond.fieldLink "ForestRooms" (67 : Nat) "ForestRooms" "paper" "LForestRooms$Table;") ∈ lw_all := lw_g (lw_at lw_m2 4 rfl) rfl
theorem q355 : (Jvm.Cond.fieldLink "ForestRooms" (70 : Nat) "ForestRooms" "tape" "[B") ∈ lw_all := lw_g (lw_at lw_m2 5 rfl) rfl
theorem q356 : (Jvm.Cond.fieldLink "ForestRooms" (205 : Nat) "ForestRooms" "taped" "I") ∈ lw_all := lw_g (lw_at lw_m2 6 rfl) rfl
theorem q357 : (Jvm.Cond.fieldLink "ForestRooms" (74 : Nat) "ForestRooms" "fault" "I") ∈ lw_all := lw_g (lw_at lw_m2 7 rfl) rfl
theorem q358 : (Jvm.Cond.fieldLink "ForestRooms" (212 : Nat) "ForestRooms" "moss" "I") ∈ lw_all := lw_g (lw_at lw_m2 8 rfl) rfl
theorem q359 : (Jvm.Cond.fieldLink "ForestRooms" (77 : Nat) "ForestRooms" "stopped" "I") ∈ lw_all := lw_g (lw_at lw_m2 9 rfl) rfl
theorem q360 : (Jvm.Cond.fieldLink "ForestRooms" (121 : Nat) "ForestRooms" "undoMany" "I") ∈ lw_all := lw_g (lw_at lw_m2 10 rfl) rfl
theorem q361 : (Jvm.Cond.fieldLink "ForestRooms" (83 : Nat) "ForestRooms" "setting" "LForestRooms$Setting;") ∈ lw_all := lw_g (lw_at lw_m2 11 rfl) rfl
theorem q362 : (Jvm.Cond.fieldLink "ForestRooms" (87 : Nat) "ForestRooms" "news" "[I") ∈ lw_all := lw_g (lw_at lw_m2 12 rfl) rfl
theorem q363 : (Jvm.Cond.fieldLink "ForestRooms" (90 : Nat) "ForestRooms" "more" "[I") ∈ lw_all := lw_g (lw_at lw_m2 13 rfl) rfl
theorem q364 : (Jvm.Cond.fieldLink "ForestRooms" (93 : Nat) "ForestRooms" "suit" "[I") ∈ lw_all := lw_g (lw_at lw_m2 14 rfl) rfl
theorem q365 : (Jvm.Cond.fieldLink "ForestRooms" (96 : Nat) "ForestRooms" "most" "[I") ∈ lw_all := lw_g (lw_at lw_m2 15 rfl) rfl
theorem q366 : (Jvm.Cond.fieldLink "ForestRooms" (99 : Nat) "ForestRooms" "then" "[I") ∈ lw_all := lw_g (lw_at lw_m2 16 rfl) rfl
theorem q367 : (Jvm.Cond.fieldLink "ForestRooms" (102 : Nat) "ForestRooms" "seeds" "[I") ∈ lw_all := lw_g (lw_at lw_m2 17 rfl) rfl
theorem q368 : (Jvm.Cond.fieldLink "ForestRooms" (105 : Nat) "ForestRooms" "shown" "[I") ∈ lw_all := lw_g (lw_at lw_m2 18 rfl) rfl
theorem q369 : (Jvm.Cond.fieldLink "ForestRooms" (108 : Nat) "ForestRooms" "steps" "[I") ∈ lw_all := lw_g (lw_at lw_m2 19 rfl) rfl
theorem q370 : (Jvm.Cond.fieldLink "ForestRooms" (111 : Nat) "ForestRooms" "rests" "[J") ∈ lw_all := lw_g (lw_at lw_m2 20 rfl) rfl
theorem q371 : (Jvm.Cond.fieldLink "ForestRooms" (115 : Nat) "ForestRooms" "drawnTable" "LForestRooms$Table;") ∈ lw_all := lw_g (lw_at lw_m2 21 rfl) rfl
theorem q372 : (Jvm.Cond.fieldLink "ForestRooms" (458 : Nat) "ForestRooms" "isDrawn" "Z") ∈ lw_all := lw_g (lw_at lw_m2 22 rfl) rfl
theorem q373 : (Jvm.Cond.fieldLink "ForestRooms" (449 : Nat) "ForestRooms" "drawn" "I") ∈ lw_all := lw_g (lw_at lw_m2 23 rfl) rfl
theorem q374 : (Jvm.Cond.lays "ForestRooms" "ForestRooms" "status" "I") ∈ lw_all := lw_g (lw_at lw_m2 24 rfl) rfl
theorem q375 : (Jvm.Cond.soleField "ForestRooms" "status") ∈ lw_all := lw_g (lw_at lw_m2 25 rfl) rfl
theorem q376 : (Jvm.Cond.laysFinal "ForestRooms" "ForestRooms" "refused" "[I") ∈ lw_all := lw_g (lw_at lw_m2 26 rfl) rfl
theorem q377 : (Jvm.Cond.soleField "ForestRooms" "refused") ∈ lw_all := lw_g (lw_at lw_m2 27 rfl) rfl
theorem q378 : (Jvm.Cond.laysFinal "ForestRooms" "ForestRooms" "state" "LForestRooms$State;") ∈ lw_all := lw_g (lw_at lw_m2 28 rfl) rfl
theorem q379 : (Jvm.Cond.soleField "ForestRooms" "state") ∈ lw_all := lw_g (lw_at lw_m2 29 rfl) rfl
theorem q380 : (Jvm.Cond.laysFinal "ForestRooms" "ForestRooms" "images" "[LForestRooms$State;") ∈ lw_all := lw_g (lw_at lw_m2 30 rfl) rfl
theorem q381 : (Jvm.Cond.soleField "ForestRooms" "images") ∈ lw_all := lw_g (lw_at lw_m2 31 rfl) rfl
theorem q382 : (Jvm.Cond.laysFinal "ForestRooms" "ForestRooms" "undone" "[LForestRooms$Table;") ∈ lw_all := lw_g (lw_at lw_m2 32 rfl) rfl
theorem q383 : (Jvm.Cond.soleField "ForestRooms" "undone") ∈ lw_all := lw_g (lw_at lw_m2 33 rfl) rfl
theorem q384 : (Jvm.Cond.laysFinal "ForestRooms" "ForestRooms" "ordersUndone" "[LForestRooms$Table;") ∈ lw_all := lw_g (lw_at lw_m2 34 rfl) rfl
theorem q385 : (Jvm.Cond.soleField "ForestRooms" "ordersUndone") ∈ lw_all := lw_g (lw_at lw_m2 35 rfl) rfl
theorem q386 : (Jvm.Cond.laysFinal "ForestRooms" "ForestRooms" "undoneWhat" "[I") ∈ lw_all := lw_g (lw_at lw_m2 36 rfl) rfl
theorem q387 : (Jvm.Cond.soleField "ForestRooms" "undoneWhat") ∈ lw_all := lw_g (lw_at lw_m2 37 rfl) rfl
theorem q388 : (Jvm.Cond.laysFinal "ForestRooms" "ForestRooms" "ordersWhat" "[I") ∈ lw_all := lw_g (lw_at lw_m2 38 rfl) rfl
theorem q389 : (Jvm.Cond.soleField "ForestRooms" "ordersWhat") ∈ lw_all := lw_g (lw_at lw_m2 39 rfl) rfl
theorem q390 : (Jvm.Cond.laysFinal "ForestRooms" "ForestRooms" "ahead" "LForestRooms$Table;") ∈ lw_all := lw_g (lw_at lw_m2 40 rfl) rfl
theorem q391 : (Jvm.Cond.soleField "ForestRooms" "ahead") ∈ lw_all := lw_g (lw_at lw_m2 41 rfl) rfl
theorem q392 : (Jvm.Cond.laysFinal "ForestRooms" "ForestRooms" "paper" "LForestRooms$Table;") ∈ lw_all := lw_g (lw_at lw_m2 42 rfl) rfl
theorem q393 : (Jvm.Cond.soleField "ForestRooms" "paper") ∈ lw_all := lw_g (lw_at lw_m2 43 rfl) rfl
theorem q394 : (Jvm.Cond.laysFinal "ForestRooms" "ForestRooms" "tape" "[B") ∈ lw_all := lw_g (lw_at lw_m2 44 rfl) rfl
theorem q395 : (Jvm.Cond.soleField "ForestRooms" "tape") ∈ lw_all := lw_g (lw_at lw_m2 45 rfl) rfl
theorem q396 : (Jvm.Cond.lays "ForestRooms" "ForestRooms" "taped" "I") ∈ lw_all := lw_g (lw_at lw_m2 46 rfl) rfl
theorem q397 : (Jvm.Cond.soleField "ForestRooms" "taped") ∈ lw_all := lw_g (lw_at lw_m2 47 rfl) rfl
theorem q398 : (Jvm.Cond.lays "ForestRooms" "ForestRooms" "fault" "I") ∈ lw_all := lw_g (lw_at lw_m2 48 rfl) rfl
theorem q399 : (Jvm.Cond.soleField "ForestRooms" "fault") ∈ lw_all := lw_g (lw_at lw_m2 49 rfl) rfl
theorem q400 : (Jvm.Cond.lays "ForestRooms" "ForestRooms" "moss" "I") ∈ lw_all := lw_g (lw_at lw_m2 50 rfl) rfl
theorem q401 : (Jvm.Cond.soleField "ForestRooms" "moss") ∈ lw_all := lw_g (lw_at lw_m2 51 rfl) rfl
theorem q402 : (Jvm.Cond.lays "ForestRooms" "ForestRooms" "stopped" "I") ∈ lw_all := lw_g (lw_at lw_m2 52 rfl) rfl
theorem q403 : (Jvm.Cond.soleField "ForestRooms" "stopped") ∈ lw_all := lw_g (lw_at lw_m2 53 rfl) rfl
theorem q404 : (Jvm.Cond.lays "ForestRooms" "ForestRooms" "undoMany" "I") ∈ lw_all := lw_g (lw_at lw_m2 54 rfl) rfl
theorem q405 : (Jvm.Cond.soleField "ForestRooms" "undoMany") ∈ lw_all := lw_g (lw_at lw_m2 55 rfl) rfl
theorem q406 : (Jvm.Cond.laysFinal "ForestRooms" "ForestRooms" "setting" "LForestRooms$Setting;") ∈ lw_all := lw_g (lw_at lw_m2 56 rfl) rfl
theorem q407 : (Jvm.Cond.soleField "ForestRooms" "setting") ∈ lw_all := lw_g (lw_at lw_m2 57 rfl) rfl
theorem q408 : (Jvm.Cond.laysFinal "ForestRooms" "ForestRooms" "news" "[I") ∈ lw_all := lw_g (lw_at lw_m2 58 rfl) rfl
theorem q409 : (Jvm.Cond.soleField "ForestRooms" "news") ∈ lw_all := lw_g (lw_at lw_m2 59 rfl) rfl
theorem q410 : (Jvm.Cond.laysFinal "ForestRooms" "ForestRooms" "more" "[I") ∈ lw_all := lw_g (lw_at lw_m2 60 rfl) rfl
theorem q411 : (Jvm.Cond.soleField "ForestRooms" "more") ∈ lw_all := lw_g (lw_at lw_m2 61 rfl) rfl
theorem q412 : (Jvm.Cond.laysFinal "ForestRooms" "ForestRooms" "suit" "[I") ∈ lw_all := lw_g (lw_at lw_m2 62 rfl) rfl
theorem q413 : (Jvm.Cond.soleField "ForestRooms" "suit") ∈ lw_all := lw_g (lw_at lw_m2 63 rfl) rfl
theorem q414 : (Jvm.Cond.laysFinal "ForestRooms" "ForestRooms" "most" "[I") ∈ lw_all := lw_g (lw_at lw_m2 64 rfl) rfl
theorem q415 : (Jvm.Cond.soleField "ForestRooms" "most") ∈ lw_all := lw_g (lw_at lw_m2 65 rfl) rfl
theorem q416 : (Jvm.Cond.laysFinal "ForestRooms" "ForestRooms" "then" "[I") ∈ lw_all := lw_g (lw_at lw_m2 66 rfl) rfl
theorem q417 : (Jvm.Cond.soleField "ForestRooms" "then") ∈ lw_all := lw_g (lw_at lw_m2 67 rfl) rfl
theorem q418 : (Jvm.Cond.laysFinal "ForestRooms" "ForestRooms" "seeds" "[I") ∈ lw_all := lw_g (lw_at lw_m2 68 rfl) rfl
theorem q419 : (Jvm.Cond.soleField "ForestRooms" "seeds") ∈ lw_all := lw_g (lw_at lw_m2 69 rfl) rfl
theorem q420 : (Jvm.Cond.laysFinal "ForestRooms" "ForestRooms" "shown" "[I") ∈ lw_all := lw_g (lw_at lw_m2 70 rfl) rfl
theorem q421 : (Jvm.Cond.soleField "ForestRooms" "shown") ∈ lw_all := lw_g (lw_at lw_m2 71 rfl) rfl
theorem q422 : (Jvm.Cond.laysFinal "ForestRooms" "ForestRooms" "steps" "[I") ∈ lw_all := lw_g (lw_at lw_m2 72 rfl) rfl
theorem q423 : (Jvm.Cond.soleField "ForestRooms" "steps") ∈ lw_all := lw_g (lw_at lw_m2 73 rfl) rfl
theorem q424 : (Jvm.Cond.laysFinal "ForestRooms" "ForestRooms" "rests" "[J") ∈ lw_all := lw_g (lw_at lw_m2 74 rfl) rfl
theorem q425 : (Jvm.Cond.soleField "ForestRooms" "rests") ∈ lw_all := lw_g (lw_at lw_m2 75 rfl) rfl
theorem q426 : (Jvm.Cond.laysFinal "ForestRooms" "ForestRooms" "drawnTable" "LForestRooms$Table;") ∈ lw_all := lw_g (lw_at lw_m2 76 rfl) rfl
theorem q427 : (Jvm.Cond.soleField "ForestRooms" "drawnTable") ∈ lw_all := lw_g (lw_at lw_m2 77 rfl) rfl
theorem q428 : (Jvm.Cond.lays "ForestRooms" "ForestRooms" "isDrawn" "Z") ∈ lw_all := lw_g (lw_at lw_m2 78 rfl) rfl
theorem q429 : (Jvm.Cond.soleField "ForestRooms" "isDrawn") ∈ lw_all := lw_g (lw_at lw_m2 79 rfl) rfl
theorem q430 : (Jvm.Cond.lays "ForestRooms" "ForestRooms" "drawn" "I") ∈ lw_all := lw_g (lw_at lw_m2 80 rfl) rfl
theorem q431 : (Jvm.Cond.soleField "ForestRooms" "drawn") ∈ lw_all := lw_g (lw_at lw_m2 81 rfl) rfl
theorem q432 : (Jvm.Cond.superclass "ForestRooms" "java/lang/Object") ∈ lw_all := lw_g (lw_at lw_m2 82 rfl) rfl
theorem q434 : (Jvm.Cond.instanceMethod ({ cls := "ForestRooms", name := "image", desc := "(I)I" } : Jvm.MethodName)) ∈ lw_all := lw_g (lw_at lw_m2 84 rfl) rfl
theorem q435 : (Jvm.Cond.selects "ForestRooms" ({ cls := "ForestRooms", name := "image", desc := "(I)I" } : Jvm.MethodName) ({ cls := "ForestRooms", name := "image", desc := "(I)I" } : Jvm.MethodName)) ∈ lw_all := lw_g (lw_at lw_m2 85 rfl) rfl
theorem q436 : (Jvm.Cond.code ({ cls := "ForestRooms", name := "image", desc := "(I)I" } : Jvm.MethodName) prog_1_method_15_code (2 : Nat) (Option.some Jvm.ClassFile.FieldType.int)) ∈ lw_all := lw_g (lw_at lw_m2 86 rfl) rfl
theorem q437 : (Jvm.Cond.methodLink "ForestRooms" (26 : Nat) ({ cls := "ForestRooms", name := "in", desc := "(III)Z" } : Jvm.MethodName)) ∈ lw_all := lw_g (lw_at lw_m2 87 rfl) rfl
theorem q438 : (Jvm.Cond.static ({ cls := "ForestRooms", name := "in", desc := "(III)Z" } : Jvm.MethodName)) ∈ lw_all := lw_g (lw_at lw_m2 88 rfl) rfl
theorem q439 : (Jvm.Cond.code ({ cls := "ForestRooms", name := "in", desc := "(III)Z" } : Jvm.MethodName) prog_1_method_3_code (3 : Nat) (Option.some Jvm.ClassFile.FieldType.boolean)) ∈ lw_all := lw_g (lw_at lw_m2 89 rfl) rfl
theorem q440 : (Jvm.Cond.methodLink "ForestRooms" (130 : Nat) ({ cls := "ForestRooms", name := "refuse", desc := "(I)I" } : Jvm.MethodName)) ∈ lw_all := lw_g (lw_at lw_m2 90 rfl) rfl
theorem q441 : (Jvm.Cond.privateMethod ({ cls := "ForestRooms", name := "refuse", desc := "(I)I" } : Jvm.MethodName)) ∈ lw_tbl := lw_at lw_m2 91 rfl
theorem q442 : (Jvm.Cond.instanceMethod ({ cls := "ForestRooms", name := "refuse", desc := "(I)I" } : Jvm.MethodName)) ∈ lw_all := lw_g (lw_at lw_m2 92 rfl) rfl
theorem q443 : (Jvm.Cond.code ({ cls := "ForestRooms", name := "refuse", desc := "(I)I" } : Jvm.MethodName) prog_1_method_1_code (2 : Nat) (Option.some Jvm.ClassFile.FieldType.int)) ∈ lw_all := lw_g (lw_at lw_m2 93 rfl) rfl
theorem q444 : (Jvm.Cond.methodLink "ForestRooms" (133 : Nat) ({ cls := "ForestRooms$State", name := "takes", desc := "(LForestRooms$State;)V" } : Jvm.MethodName)) ∈ lw_all := lw_g (lw_at lw_m2 94 rfl) rfl
theorem q483 : (Jvm.Cond.selects "ForestRooms" ({ cls := "java/lang/Object", name := "getClass", desc := "()Ljava/lang/Class;" } : Jvm.MethodName) ({ cls := "java/lang/Object", name := "getClass", desc := "()Ljava/lang/Class;" } : Jvm.MethodName)) ∈ lw_all := lw_g (lw_at lw_m2 133 rfl) rfl
theorem q530 : (Jvm.Cond.methodLink "ForestRooms" (124 : Nat) ({ cls := "ForestRooms", name := "done", desc := "(I)I" } : Jvm.MethodName)) ∈ lw_all := lw_g (lw_at lw_m2 180 rfl) rfl
theorem q531 : (Jvm.Cond.privateMethod ({ cls := "ForestRooms", name := "done", desc := "(I)I" } : Jvm.MethodName)) ∈ lw_tbl := lw_at lw_m2 181 rfl
theorem q532 : (Jvm.Cond.instanceMethod ({ cls := "ForestRooms", name := "done", desc := "(I)I" } : Jvm.MethodName)) ∈ lw_all := lw_g (lw_at lw_m2 182 rfl) rfl
theorem q533 : (Jvm.Cond.code ({ cls := "ForestRooms", name := "done", desc := "(I)I" } : Jvm.MethodName) prog_1_method_2_code (2 : Nat) (Option.some Jvm.ClassFile.FieldType.int)) ∈ lw_all := lw_g (lw_at lw_m2 183 rfl) rfl
theorem q535 : (Jvm.Cond.instanceMethod ({ cls := "ForestRooms", name := "back", desc := "(I)I" } : Jvm.MethodName)) ∈ lw_all := lw_g (lw_at lw_m2 185 rfl) rfl
theorem q536 : (Jvm.Cond.selects "ForestRooms" ({ cls := "ForestRooms", name := "back", desc := "(I)I" } : Jvm.MethodName) ({ cls := "ForestRooms", name := "back", desc := "(I)I" } : Jvm.MethodName)) ∈ lw_all := lw_g (lw_at lw_m2 186 rfl) rfl
theorem q537 : (Jvm.Cond.code ({ cls := "ForestRooms", name := "back", desc := "(I)I" } : Jvm.MethodName) prog_1_method_16_code (2 : Nat) (Option.some Jvm.ClassFile.FieldType.int)) ∈ lw_all := lw_g (lw_at lw_m2 187 rfl) rfl
theorem q538 : (Jvm.Cond.methodLink "ForestRooms" (137 : Nat) ({ cls := "ForestRooms", name := "settled", desc := "(I)I" } : Jvm.MethodName)) ∈ lw_all := lw_g (lw_at lw_m2 188 rfl) rfl
theorem q539 : (Jvm.Cond.privateMethod ({ cls := "ForestRooms", name := "settled", desc := "(I)I" } : Jvm.MethodName)) ∈ lw_tbl := lw_at lw_m2 189 rfl
theorem q540 : (Jvm.Cond.instanceMethod ({ cls := "ForestRooms", name := "settled", desc := "(I)I" } : Jvm.MethodName)) ∈ lw_all := lw_g (lw_at lw_m2 190 rfl) rfl
theorem q541 : (Jvm.Cond.code ({ cls := "ForestRooms", name := "settled", desc := "(I)I" } : Jvm.MethodName) prog_1_method_13_code (2 : Nat) (Option.some Jvm.ClassFile.FieldType.int)) ∈ lw_all := lw_g (lw_at lw_m2 191 rfl) rfl
theorem q543 : (Jvm.Cond.instanceMethod ({ cls := "ForestRooms", name := "put", desc := "(III)I" } : Jvm.MethodName)) ∈ lw_all := lw_g (lw_at lw_m2 193 rfl) rfl
theorem q544 : (Jvm.Cond.selects "ForestRooms" ({ cls := "ForestRooms", name := "put", desc := "(III)I" } : Jvm.MethodName) ({ cls := "ForestRooms", name := "put", desc := "(III)I" } : Jvm.MethodName)) ∈ lw_all := lw_g (lw_at lw_m2 194 rfl) rfl
theorem q545 : (Jvm.Cond.code ({ cls := "ForestRooms", name := "put", desc := "(III)I" } : Jvm.MethodName) prog_1_method_19_code (5 : Nat) (Option.some Jvm.ClassFile.FieldType.int)) ∈ lw_all := lw_g (lw_at lw_m2 195 rfl) rfl
theorem q546 : (Jvm.Cond.methodLink "ForestRooms" (149 : Nat) ({ cls := "ForestRooms", name := "isRoom", desc := "(I)Z" } : Jvm.MethodName)) ∈ lw_all := lw_g (lw_at lw_m2 196 rfl) rfl
theorem q547 : (Jvm.Cond.static ({ cls := "ForestRooms", name := "isRoom", desc := "(I)Z" } : Jvm.MethodName)) ∈ lw_all := lw_g (lw_at lw_m2 197 rfl) rfl
theorem q548 : (Jvm.Cond.code ({ cls := "ForestRooms", name := "isRoom", desc := "(I)Z" } : Jvm.MethodName) prog_1_method_7_code (1 : Nat) (Option.some Jvm.ClassFile.FieldType.boolean)) ∈ lw_all := lw_g (lw_at lw_m2 198 rfl) rfl
theorem q549 : (Jvm.Cond.methodLink "ForestRooms" (153 : Nat) ({ cls := "ForestRooms", name := "isPut", desc := "(II)Z" } : Jvm.MethodName)) ∈ lw_all := lw_g (lw_at lw_m2 199 rfl) rfl
theorem q550 : (Jvm.Cond.static ({ cls := "ForestRooms", name := "isPut", desc := "(II)Z" } : Jvm.MethodName)) ∈ lw_all := lw_g (lw_at lw_m2 200 rfl) rfl
theorem q551 : (Jvm.Cond.code ({ cls := "ForestRooms", name := "isPut", desc := "(II)Z" } : Jvm.MethodName) prog_1_method_17_code (2 : Nat) (Option.some Jvm.ClassFile.FieldType.boolean)) ∈ lw_all := lw_g (lw_at lw_m2 201 rfl) rfl
theorem q552 : (Jvm.Cond.methodLink "ForestRooms" (157 : Nat) ({ cls := "ForestRooms", name := "rowOf", desc := "(I)[I" } : Jvm.MethodName)) ∈ lw_all := lw_g (lw_at lw_m2 202 rfl) rfl
theorem q553 : (Jvm.Cond.privateMethod ({ cls := "ForestRooms", name := "rowOf", desc := "(I)[I" } : Jvm.MethodName)) ∈ lw_tbl := lw_at lw_m2 203 rfl
theorem q554 : (Jvm.Cond.instanceMethod ({ cls := "ForestRooms", name := "rowOf", desc := "(I)[I" } : Jvm.MethodName)) ∈ lw_all := lw_g (lw_at lw_m2 204 rfl) rfl
theorem q555 : (Jvm.Cond.code ({ cls := "ForestRooms", name := "rowOf", desc := "(I)[I" } : Jvm.MethodName) prog_1_method_18_code (2 : Nat) (Option.some (Jvm.ClassFile.FieldType.array Jvm.ClassFile.FieldType.int))) ∈ lw_all := lw_g (lw_at lw_m2 205 rfl) rfl
theorem q557 : (Jvm.Cond.instanceMethod ({ cls := "ForestRooms", name := "at", desc := "(II)I" } : Jvm.MethodName)) ∈ lw_all := lw_g (lw_at lw_m2 207 rfl) rfl
theorem q558 : (Jvm.Cond.selects "ForestRooms" ({ cls := "ForestRooms", name := "at", desc := "(II)I" } : Jvm.MethodName) ({ cls := "ForestRooms", name := "at", desc := "(II)I" } : Jvm.MethodName)) ∈ lw_all := lw_g (lw_at lw_m2 208 rfl) rfl
theorem q559 : (Jvm.Cond.code ({ cls := "ForestRooms", name := "at", desc := "(II)I" } : Jvm.MethodName) prog_1_method_20_code (4 : Nat) (Option.some Jvm.ClassFile.FieldType.int)) ∈ lw_all := lw_g (lw_at lw_m2 209 rfl) rfl
theorem q560 : (Jvm.Cond.methodLink "ForestRooms" (161 : Nat) ({ cls := "ForestRooms", name := "table", desc := "()LForestRooms$Table;" } : Jvm.MethodName)) ∈ lw_all := lw_g (lw_at lw_m2 210 rfl) rfl
theorem q561 : (Jvm.Cond.privateMethod ({ cls := "ForestRooms", name := "table", desc := "()LForestRooms$Table;" } : Jvm.MethodName)) ∈ lw_tbl := lw_at lw_m2 211 rfl
theorem q562 : (Jvm.Cond.instanceMethod ({ cls := "ForestRooms", name := "table", desc := "()LForestRooms$Table;" } : Jvm.MethodName)) ∈ lw_all := lw_g (lw_at lw_m2 212 rfl) rfl
theorem q563 : (Jvm.Cond.code ({ cls := "ForestRooms", name := "table", desc := "()LForestRooms$Table;" } : Jvm.MethodName) prog_1_method_12_code (1 : Nat) (Option.some (Jvm.ClassFile.FieldType.object "ForestRooms$Table"))) ∈ lw_all := lw_g (lw_at lw_m2 213 rfl) rfl
theorem q564 : (Jvm.Cond.methodLink "ForestRooms" (173 : Nat) ({ cls := "ForestRooms$State", name := "isLost", desc := "(LForestRooms$Table;I)Z" } : Jvm.MethodName)) ∈ lw_all := lw_g (lw_at lw_m2 214 rfl) rfl
theorem q568 : (Jvm.Cond.methodLink "ForestRooms" (177 : Nat) ({ cls := "ForestRooms$Table", name := "isTree", desc := "(I)Z" } : Jvm.MethodName)) ∈ lw_all := lw_g (lw_at lw_m2 218 rfl) rfl
theorem q572 : (Jvm.Cond.methodLink "ForestRooms" (180 : Nat) ({ cls := "ForestRooms", name := "grows", desc := "(LForestRooms$Table;I)I" } : Jvm.MethodName)) ∈ lw_all := lw_g (lw_at lw_m2 222 rfl) rfl
theorem q573 : (Jvm.Cond.privateMethod ({ cls := "ForestRooms", name := "grows", desc := "(LForestRooms$Table;I)I" } : Jvm.MethodName)) ∈ lw_tbl := lw_at lw_m2 223 rfl
theorem q574 : (Jvm.Cond.instanceMethod ({ cls := "ForestRooms", name := "grows", desc := "(LForestRooms$Table;I)I" } : Jvm.MethodName)) ∈ lw_all := lw_g (lw_at lw_m2 224 rfl) rfl
theorem q575 : (Jvm.Cond.code ({ cls := "ForestRooms", name := "grows", desc := "(LForestRooms$Table;I)I" } : Jvm.MethodName) prog_1_method_36_code (3 : Nat) (Option.some Jvm.ClassFile.FieldType.int)) ∈ lw_all := lw_g (lw_at lw_m2 225 rfl) rfl
theorem q576 : (Jvm.Cond.methodLink "ForestRooms" (284 : Nat) ({ cls := "ForestRooms", name := "says", desc := "(ILForestRooms$Table;IIII)J" } : Jvm.MethodName)) ∈ lw_all := lw_g (lw_at lw_m2 226 rfl) rfl
theorem q577 : (Jvm.Cond.privateMethod ({ cls := "ForestRooms", name := "says", desc := "(ILForestRooms$Table;IIII)J" } : Jvm.MethodName)) ∈ lw_tbl := lw_at lw_m2 227 rfl
theorem q578 : (Jvm.Cond.instanceMethod ({ cls := "ForestRooms", name := "says", desc := "(ILForestRooms$Table;IIII)J" } : Jvm.MethodName)) ∈ lw_all := lw_g (lw_at lw_m2 228 rfl) rfl
theorem q579 : (Jvm.Cond.code ({ cls := "ForestRooms", name := "says", desc := "(ILForestRooms$Table;IIII)J" } : Jvm.MethodName) prog_1_method_34_code (8 : Nat) (Option.some Jvm.ClassFile.FieldType.long)) ∈ lw_all := lw_g (lw_at lw_m2 229 rfl) rfl
theorem q580 : (Jvm.Cond.constantLong "ForestRooms" (265 : Nat) (-4000000000 : Int64)) ∈ lw_all := lw_g (lw_at lw_m2 230 rfl) rfl
theorem q581 : (Jvm.Cond.methodLink "ForestRooms" (202 : Nat) ({ cls := "ForestRooms", name := "term", desc := "(I)I" } : Jvm.MethodName)) ∈ lw_all := lw_g (lw_at lw_m2 231 rfl) rfl
theorem q582 : (Jvm.Cond.privateMethod ({ cls := "ForestRooms", name := "term", desc := "(I)I" } : Jvm.MethodName)) ∈ lw_tbl := lw_at lw_m2 232 rfl
theorem q583 : (Jvm.Cond.instanceMethod ({ cls := "ForestRooms", name := "term", desc := "(I)I" } : Jvm.MethodName)) ∈ lw_all := lw_g (lw_at lw_m2 233 rfl) rfl
theorem q584 : (Jvm.Cond.code ({ cls := "ForestRooms", name := "term", desc := "(I)I" } : Jvm.MethodName) prog_1_method_14_code (2 : Nat) (Option.some Jvm.ClassFile.FieldType.int)) ∈ lw_all := lw_g (lw_at lw_m2 234 rfl) rfl
theorem q585 : (Jvm.Cond.constantLong "ForestRooms" (270 : Nat) (-1 : Int64)) ∈ lw_all := lw_g (lw_at lw_m2 235 rfl) rfl
theorem q586 : (Jvm.Cond.methodLink "ForestRooms" (272 : Nat) ({ cls := "java/util/ArrayList", name := "get", desc := "(I)Ljava/lang/Object;" } : Jvm.MethodName)) ∈ lw_all := lw_g (lw_at lw_m2 236 rfl) rfl
theorem q600 : (Jvm.Cond.classLink "ForestRooms" (250 : Nat) "ForestRooms$Law") ∈ lw_all := lw_g (lw_at lw_m3 10 rfl) rfl
theorem q601 : (Jvm.Cond.methodLink "ForestRooms" (276 : Nat) ({ cls := "ForestRooms$Law", name := "told", desc := "(ILForestRooms$Setting;)J" } : Jvm.MethodName)) ∈ lw_all := lw_g (lw_at lw_m3 11 rfl) rfl
theorem q651 : (Jvm.Cond.methodLink "ForestRooms" (288 : Nat) ({ cls := "ForestRooms$State", name := "feeds", desc := "(II)Z" } : Jvm.MethodName)) ∈ lw_all := lw_g (lw_at lw_m3 61 rfl) rfl
theorem q655 : (Jvm.Cond.methodLink "ForestRooms" (291 : Nat) ({ cls := "ForestRooms", name := "or", desc := "(JII)I" } : Jvm.MethodName)) ∈ lw_all := lw_g (lw_at lw_m3 65 rfl) rfl
theorem q656 : (Jvm.Cond.static ({ cls := "ForestRooms", name := "or", desc := "(JII)I" } : Jvm.MethodName)) ∈ lw_all := lw_g (lw_at lw_m3 66 rfl) rfl
theorem q657 : (Jvm.Cond.code ({ cls := "ForestRooms", name := "or", desc := "(JII)I" } : Jvm.MethodName) prog_1_method_35_code (4 : Nat) (Option.some Jvm.ClassFile.FieldType.int)) ∈ lw_all := lw_g (lw_at lw_m3 67 rfl) rfl
theorem q658 : (Jvm.Cond.methodLink "ForestRooms" (280 : Nat) ({ cls := "ForestRooms", name := "near", desc := "(JII)I" } : Jvm.MethodName)) ∈ lw_all := lw_g (lw_at lw_m3 68 rfl) rfl
theorem q659 : (Jvm.Cond.static ({ cls := "ForestRooms", name := "near", desc := "(JII)I" } : Jvm.MethodName)) ∈ lw_all := lw_g (lw_at lw_m3 69 rfl) rfl
theorem q660 : (Jvm.Cond.code ({ cls := "ForestRooms", name := "near", desc := "(JII)I" } : Jvm.MethodName) prog_1_method_6_code (4 : Nat) (Option.some Jvm.ClassFile.FieldType.int)) ∈ lw_all := lw_g (lw_at lw_m3 70 rfl) rfl
theorem q661 : (Jvm.Cond.methodLink "ForestRooms" (17 : Nat) ({ cls := "java/lang/Math", name := "min", desc := "(JJ)J" } : Jvm.MethodName)) ∈ lw_all := lw_g (lw_at lw_m3 71 rfl) rfl
theorem q664 : (Jvm.Cond.methodLink "ForestRooms" (23 : Nat) ({ cls := "java/lang/Math", name := "max", desc := "(JJ)J" } : Jvm.MethodName)) ∈ lw_all := lw_g (lw_at lw_m3 74 rfl) rfl
theorem q667 : (Jvm.Cond.methodLink "ForestRooms" (184 : Nat) ({ cls := "ForestRooms", name := "leaves", desc := "(LForestRooms$Table;I)I" } : Jvm.MethodName)) ∈ lw_all := lw_g (lw_at lw_m3 77 rfl) rfl
theorem q668 : (Jvm.Cond.privateMethod ({ cls := "ForestRooms", name := "leaves", desc := "(LForestRooms$Table;I)I" } : Jvm.MethodName)) ∈ lw_tbl := lw_at lw_m3 78 rfl
theorem q669 : (Jvm.Cond.instanceMethod ({ cls := "ForestRooms", name := "leaves", desc := "(LForestRooms$Table;I)I" } : Jvm.MethodName)) ∈ lw_all := lw_g (lw_at lw_m3 79 rfl) rfl
theorem q670 : (Jvm.Cond.code ({ cls := "ForestRooms", name := "leaves", desc := "(LForestRooms$Table;I)I" } : Jvm.MethodName) prog_1_method_37_code (3 : Nat) (Option.some Jvm.ClassFile.FieldType.int)) ∈ lw_all := lw_g (lw_at lw_m3 80 rfl) rfl
theorem q672 : (Jvm.Cond.instanceMethod ({ cls := "ForestRooms", name := "needs", desc := "(III)I" } : Jvm.MethodName)) ∈ lw_all := lw_g (lw_at lw_m3 82 rfl) rfl
theorem q673 : (Jvm.Cond.selects "ForestRooms" ({ cls := "ForestRooms", name := "needs", desc := "(III)I" } : Jvm.MethodName) ({ cls := "ForestRooms", name := "needs", desc := "(III)I" } : Jvm.MethodName)) ∈ lw_all := lw_g (lw_at lw_m3 83 rfl) rfl
theorem q674 : (Jvm.Cond.code ({ cls := "ForestRooms", name := "needs", desc := "(III)I" } : Jvm.MethodName) prog_1_method_21_code (6 : Nat) (Option.some Jvm.ClassFile.FieldType.int)) ∈ lw_all := lw_g (lw_at lw_m3 84 rfl) rfl
theorem q675 : (Jvm.Cond.methodLink "ForestRooms" (187 : Nat) ({ cls := "ForestRooms", name := "isKind", desc := "(I)Z" } : Jvm.MethodName)) ∈ lw_all := lw_g (lw_at lw_m3 85 rfl) rfl
theorem q676 : (Jvm.Cond.static ({ cls := "ForestRooms", name := "isKind", desc := "(I)Z" } : Jvm.MethodName)) ∈ lw_all := lw_g (lw_at lw_m3 86 rfl) rfl
theorem q677 : (Jvm.Cond.code ({ cls := "ForestRooms", name := "isKind", desc := "(I)Z" } : Jvm.MethodName) prog_1_method_8_code (1 : Nat) (Option.some Jvm.ClassFile.FieldType.boolean)) ∈ lw_all := lw_g (lw_at lw_m3 87 rfl) rfl
theorem q679 : (Jvm.Cond.instanceMethod ({ cls := "ForestRooms", name := "terms", desc := "(II)I" } : Jvm.MethodName)) ∈ lw_all := lw_g (lw_at lw_m3 89 rfl) rfl
theorem q680 : (Jvm.Cond.selects "ForestRooms" ({ cls := "ForestRooms", name := "terms", desc := "(II)I" } : Jvm.MethodName) ({ cls := "ForestRooms", name := "terms", desc := "(II)I" } : Jvm.MethodName)) ∈ lw_all := lw_g (lw_at lw_m3 90 rfl) rfl
theorem q681 : (Jvm.Cond.code ({ cls := "ForestRooms", name := "terms", desc := "(II)I" } : Jvm.MethodName) prog_1_method_23_code (4 : Nat) (Option.some Jvm.ClassFile.FieldType.int)) ∈ lw_all := lw_g (lw_at lw_m3 91 rfl) rfl
theorem q682 : (Jvm.Cond.methodLink "ForestRooms" (196 : Nat) ({ cls := "ForestRooms", name := "isTerm", desc := "(II)Z" } : Jvm.MethodName)) ∈ lw_all := lw_g (lw_at lw_m3 92 rfl) rfl
theorem q683 : (Jvm.Cond.static ({ cls := "ForestRooms", name := "isTerm", desc := "(II)Z" } : Jvm.MethodName)) ∈ lw_all := lw_g (lw_at lw_m3 93 rfl) rfl
theorem q684 : (Jvm.Cond.code ({ cls := "ForestRooms", name := "isTerm", desc := "(II)Z" } : Jvm.MethodName) prog_1_method_22_code (2 : Nat) (Option.some Jvm.ClassFile.FieldType.boolean)) ∈ lw_all := lw_g (lw_at lw_m3 94 rfl) rfl
theorem q686 : (Jvm.Cond.instanceMethod ({ cls := "ForestRooms", name := "feed", desc := "(IIIII)I" } : Jvm.MethodName)) ∈ lw_all := lw_g (lw_at lw_m3 96 rfl) rfl
theorem q687 : (Jvm.Cond.selects "ForestRooms" ({ cls := "ForestRooms", name := "feed", desc := "(IIIII)I" } : Jvm.MethodName) ({ cls := "ForestRooms", name := "feed", desc := "(IIIII)I" } : Jvm.MethodName)) ∈ lw_all := lw_g (lw_at lw_m3 97 rfl) rfl
theorem q688 : (Jvm.Cond.code ({ cls := "ForestRooms", name := "feed", desc := "(IIIII)I" } : Jvm.MethodName) prog_1_method_24_code (6 : Nat) (Option.some Jvm.ClassFile.FieldType.int)) ∈ lw_all := lw_g (lw_at lw_m3 98 rfl) rfl
theorem q689 : (Jvm.Cond.methodLink "ForestRooms" (208 : Nat) ({ cls := "ForestRooms", name := "four", desc := "(I)V" } : Jvm.MethodName)) ∈ lw_all := lw_g (lw_at lw_m3 99 rfl) rfl
theorem q690 : (Jvm.Cond.privateMethod ({ cls := "ForestRooms", name := "four", desc := "(I)V" } : Jvm.MethodName)) ∈ lw_tbl := lw_at lw_m3 100 rfl
theorem q691 : (Jvm.Cond.instanceMethod ({ cls := "ForestRooms", name := "four", desc := "(I)V" } : Jvm.MethodName)) ∈ lw_all := lw_g (lw_at lw_m3 101 rfl) rfl
theorem q692 : (Jvm.Cond.code ({ cls := "ForestRooms", name := "four", desc := "(I)V" } : Jvm.MethodName) prog_1_method_25_code (3 : Nat) (Option.none : Option Jvm.ClassFile.FieldType)) ∈ lw_all := lw_g (lw_at lw_m3 102 rfl) rfl
theorem q694 : (Jvm.Cond.instanceMethod ({ cls := "ForestRooms", name := "end", desc := "(I)I" } : Jvm.MethodName)) ∈ lw_all := lw_g (lw_at lw_m3 104 rfl) rfl
theorem q695 : (Jvm.Cond.selects "ForestRooms" ({ cls := "ForestRooms", name := "end", desc := "(I)I" } : Jvm.MethodName) ({ cls := "ForestRooms", name := "end", desc := "(I)I" } : Jvm.MethodName)) ∈ lw_all := lw_g (lw_at lw_m3 105 rfl) rfl
theorem q696 : (Jvm.Cond.code ({ cls := "ForestRooms", name := "end", desc := "(I)I" } : Jvm.MethodName) prog_1_method_26_code (2 : Nat) (Option.some Jvm.ClassFile.FieldType.int)) ∈ lw_all := lw_g (lw_at lw_m3 106 rfl) rfl
theorem q698 : (Jvm.Cond.instanceMethod ({ cls := "ForestRooms", name := "row", desc := "()I" } : Jvm.MethodName)) ∈ lw_all := lw_g (lw_at lw_m3 108 rfl) rfl
theorem q699 : (Jvm.Cond.selects "ForestRooms" ({ cls := "ForestRooms", name := "row", desc := "()I" } : Jvm.MethodName) ({ cls := "ForestRooms", name := "row", desc := "()I" } : Jvm.MethodName)) ∈ lw_all := lw_g (lw_at lw_m3 109 rfl) rfl
theorem q700 : (Jvm.Cond.code ({ cls := "ForestRooms", name := "row", desc := "()I" } : Jvm.MethodName) prog_1_method_27_code (6 : Nat) (Option.some Jvm.ClassFile.FieldType.int)) ∈ lw_all := lw_g (lw_at lw_m3 110 rfl) rfl
theorem q702 : (Jvm.Cond.instanceMethod ({ cls := "ForestRooms", name := "moss", desc := "()I" } : Jvm.MethodName)) ∈ lw_all := lw_g (lw_at lw_m3 112 rfl) rfl
theorem q703 : (Jvm.Cond.selects "ForestRooms" ({ cls := "ForestRooms", name := "moss", desc := "()I" } : Jvm.MethodName) ({ cls := "ForestRooms", name := "moss", desc := "()I" } : Jvm.MethodName)) ∈ lw_all := lw_g (lw_at lw_m3 113 rfl) rfl
theorem q704 : (Jvm.Cond.code ({ cls := "ForestRooms", name := "moss", desc := "()I" } : Jvm.MethodName) prog_1_method_28_code (1 : Nat) (Option.some Jvm.ClassFile.FieldType.int)) ∈ lw_all := lw_g (lw_at lw_m3 114 rfl) rfl
theorem q706 : (Jvm.Cond.instanceMethod ({ cls := "ForestRooms", name := "law", desc := "()I" } : Jvm.MethodName)) ∈ lw_all := lw_g (lw_at lw_m3 116 rfl) rfl
theorem q707 : (Jvm.Cond.selects "ForestRooms" ({ cls := "ForestRooms", name := "law", desc := "()I" } : Jvm.MethodName) ({ cls := "ForestRooms", name := "law", desc := "()I" } : Jvm.MethodName)) ∈ lw_all := lw_g (lw_at lw_m3 117 rfl) rfl
theorem q708 : (Jvm.Cond.code ({ cls := "ForestRooms", name := "law", desc := "()I" } : Jvm.MethodName) prog_1_method_30_code (4 : Nat) (Option.some Jvm.ClassFile.FieldType.int)) ∈ lw_all := lw_g (lw_at lw_m3 118 rfl) rfl
theorem q709 : (Jvm.Cond.methodLink "ForestRooms" (229 : Nat) ({ cls := "java/util/ArrayList", name := "size", desc := "()I" } : Jvm.MethodName)) ∈ lw_all := lw_g (lw_at lw_m3 119 rfl) rfl
theorem q710 : (Jvm.Cond.classLink "ForestRooms" (234 : Nat) "ForestRooms$LawReader") ∈ lw_all := lw_g (lw_at lw_m3 120 rfl) rfl
theorem q712 : (Jvm.Cond.methodLink "ForestRooms" (236 : Nat) ({ cls := "ForestRooms$LawReader", name := "<init>", desc := "([BI)V" } : Jvm.MethodName)) ∈ lw_all := lw_g (lw_at lw_m3 122 rfl) rfl
theorem q722 : (Jvm.Cond.fieldLinkNest "ForestRooms" (252 : Nat) "ForestRooms$LawReader" "clauses" "Ljava/util/ArrayList;" "ForestRooms") ∈ lw_tbl := lw_at lw_m3 132 rfl
theorem q724 : (Jvm.Cond.fieldLinkNest "ForestRooms" (246 : Nat) "ForestRooms$LawReader" "comes" "Z" "ForestRooms") ∈ lw_tbl := lw_at lw_m3 134 rfl
theorem q751 : (Jvm.Cond.methodLink "ForestRooms" (239 : Nat) ({ cls := "ForestRooms", name := "reads", desc := "(LForestRooms$Reader;)Z" } : Jvm.MethodName)) ∈ lw_all := lw_g (lw_at lw_m3 161 rfl) rfl
theorem q752 : (Jvm.Cond.privateMethod ({ cls := "ForestRooms", name := "reads", desc := "(LForestRooms$Reader;)Z" } : Jvm.MethodName)) ∈ lw_tbl := lw_at lw_m3 162 rfl
theorem q753 : (Jvm.Cond.instanceMethod ({ cls := "ForestRooms", name := "reads", desc := "(LForestRooms$Reader;)Z" } : Jvm.MethodName)) ∈ lw_all := lw_g (lw_at lw_m3 163 rfl) rfl
theorem q754 : (Jvm.Cond.codeWith ({ cls := "ForestRooms", name := "reads", desc := "(LForestRooms$Reader;)Z" } : Jvm.MethodName) prog_1_method_29_code (3 : Nat) (Option.some Jvm.ClassFile.FieldType.boolean) [((0 : Nat), (4 : Nat), (7 : Nat), (220 : Nat))]) ∈ lw_all := lw_g (lw_at lw_m3 164 rfl) rfl
theorem q755 : (Jvm.Cond.classLink "ForestRooms" (220 : Nat) "ForestRooms$Fault") ∈ lw_all := lw_g (lw_at lw_m3 165 rfl) rfl
theorem q756 : (Jvm.Cond.methodLink "ForestRooms" (215 : Nat) ({ cls := "ForestRooms$Reader", name := "read", desc := "()V" } : Jvm.MethodName)) ∈ lw_all := lw_g (lw_at lw_m3 166 rfl) rfl
theorem q857 : (Jvm.Cond.fieldLinkNest "ForestRooms" (222 : Nat) "ForestRooms$Fault" "place" "I" "ForestRooms") ∈ lw_tbl := lw_at lw_m4 27 rfl
theorem q1141 : (Jvm.Cond.fieldLinkNest "ForestRooms" (433 : Nat) "ForestRooms$Order" "head" "I" "ForestRooms") ∈ lw_tbl := lw_at lw_m5 71 rfl
theorem q1143 : (Jvm.Cond.fieldLinkNest "ForestRooms" (436 : Nat) "ForestRooms$Order" "one" "LForestRooms$Sum;" "ForestRooms") ∈ lw_tbl := lw_at lw_m5 73 rfl
theorem q1145 : (Jvm.Cond.fieldLinkNest "ForestRooms" (443 : Nat) "ForestRooms$Order" "other" "LForestRooms$Sum;" "ForestRooms") ∈ lw_tbl := lw_at lw_m5 75 rfl
theorem q1148 : (Jvm.Cond.fieldLinkNest "ForestRooms" (416 : Nat) "ForestRooms$Order" "times" "I" "ForestRooms") ∈ lw_tbl := lw_at lw_m5 78 rfl
theorem q1183 : (Jvm.Cond.methodLink "ForestRooms" (255 : Nat) ({ cls := "ForestRooms$Law", name := "<init>", desc := "(Ljava/util/ArrayList;)V" } : Jvm.MethodName)) ∈ lw_all := lw_g (lw_at lw_m5 113 rfl) rfl
theorem q1191 : (Jvm.Cond.methodLink "ForestRooms" (258 : Nat) ({ cls := "java/util/ArrayList", name := "add", desc := "(Ljava/lang/Object;)Z" } : Jvm.MethodName)) ∈ lw_all := lw_g (lw_at lw_m5 121 rfl) rfl
theorem q1193 : (Jvm.Cond.instanceMethod ({ cls := "ForestRooms", name := "fault", desc := "()I" } : Jvm.MethodName)) ∈ lw_all := lw_g (lw_at lw_m5 123 rfl) rfl
theorem q1194 : (Jvm.Cond.selects "ForestRooms" ({ cls := "ForestRooms", name := "fault", desc := "()I" } : Jvm.MethodName) ({ cls := "ForestRooms", name := "fault", desc := "()I" } : Jvm.MethodName)) ∈ lw_all := lw_g (lw_at lw_m5 124 rfl) rfl
theorem q1195 : (Jvm.Cond.code ({ cls := "ForestRooms", name := "fault", desc := "()I" } : Jvm.MethodName) prog_1_method_31_code (1 : Nat) (Option.some Jvm.ClassFile.FieldType.int)) ∈ lw_all := lw_g (lw_at lw_m5 125 rfl) rfl
theorem q1197 : (Jvm.Cond.instanceMethod ({ cls := "ForestRooms", name := "stopped", desc := "()I" } : Jvm.MethodName)) ∈ lw_all := lw_g (lw_at lw_m5 127 rfl) rfl
theorem q1198 : (Jvm.Cond.selects "ForestRooms" ({ cls := "ForestRooms", name := "stopped", desc := "()I" } : Jvm.MethodName) ({ cls := "ForestRooms", name := "stopped", desc := "()I" } : Jvm.MethodName)) ∈ lw_all := lw_g (lw_at lw_m5 128 rfl) rfl
theorem q1199 : (Jvm.Cond.code ({ cls := "ForestRooms", name := "stopped", desc := "()I" } : Jvm.MethodName) prog_1_method_32_code (1 : Nat) (Option.some Jvm.ClassFile.FieldType.int)) ∈ lw_all := lw_g (lw_at lw_m5 129 rfl) rfl
theorem q1201 : (Jvm.Cond.instanceMethod ({ cls := "ForestRooms", name := "force", desc := "(I)I" } : Jvm.MethodName)) ∈ lw_all := lw_g (lw_at lw_m5 131 rfl) rfl
theorem q1202 : (Jvm.Cond.selects "ForestRooms" ({ cls := "ForestRooms", name := "force", desc := "(I)I" } : Jvm.MethodName) ({ cls := "ForestRooms", name := "force", desc := "(I)I" } : Jvm.MethodName)) ∈ lw_all := lw_g (lw_at lw_m5 132 rfl) rfl
theorem q1203 : (Jvm.Cond.code ({ cls := "ForestRooms", name := "force", desc := "(I)I" } : Jvm.MethodName) prog_1_method_33_code (3 : Nat) (Option.some Jvm.ClassFile.FieldType.int)) ∈ lw_all := lw_g (lw_at lw_m5 133 rfl) rfl
theorem q1205 : (Jvm.Cond.instanceMethod ({ cls := "ForestRooms", name := "asks", desc := "(III)I" } : Jvm.MethodName)) ∈ lw_all := lw_g (lw_at lw_m5 135 rfl) rfl
theorem q1206 : (Jvm.Cond.selects "ForestRooms" ({ cls := "ForestRooms", name := "asks", desc := "(III)I" } : Jvm.MethodName) ({ cls := "ForestRooms", name := "asks", desc := "(III)I" } : Jvm.MethodName)) ∈ lw_all := lw_g (lw_at lw_m5 136 rfl) rfl
theorem q1207 : (Jvm.Cond.code ({ cls := "ForestRooms", name := "asks", desc := "(III)I" } : Jvm.MethodName) prog_1_method_41_code (4 : Nat) (Option.some Jvm.ClassFile.FieldType.int)) ∈ lw_all := lw_g (lw_at lw_m5 137 rfl) rfl
theorem q1208 : (Jvm.Cond.methodLink "ForestRooms" (297 : Nat) ({ cls := "ForestRooms", name := "isFamily", desc := "(I)Z" } : Jvm.MethodName)) ∈ lw_all := lw_g (lw_at lw_m5 138 rfl) rfl
theorem q1209 : (Jvm.Cond.static ({ cls := "ForestRooms", name := "isFamily", desc := "(I)Z" } : Jvm.MethodName)) ∈ lw_all := lw_g (lw_at lw_m5 139 rfl) rfl
theorem q1210 : (Jvm.Cond.code ({ cls := "ForestRooms", name := "isFamily", desc := "(I)Z" } : Jvm.MethodName) prog_1_method_9_code (1 : Nat) (Option.some Jvm.ClassFile.FieldType.boolean)) ∈ lw_all := lw_g (lw_at lw_m5 140 rfl) rfl
theorem q1211 : (Jvm.Cond.methodLink "ForestRooms" (300 : Nat) ({ cls := "ForestRooms", name := "suits", desc := "(II)I" } : Jvm.MethodName)) ∈ lw_all := lw_g (lw_at lw_m5 141 rfl) rfl
theorem q1212 : (Jvm.Cond.privateMethod ({ cls := "ForestRooms", name := "suits", desc := "(II)I" } : Jvm.MethodName)) ∈ lw_tbl := lw_at lw_m5 142 rfl
theorem q1213 : (Jvm.Cond.instanceMethod ({ cls := "ForestRooms", name := "suits", desc := "(II)I" } : Jvm.MethodName)) ∈ lw_all := lw_g (lw_at lw_m5 143 rfl) rfl
theorem q1214 : (Jvm.Cond.code ({ cls := "ForestRooms", name := "suits", desc := "(II)I" } : Jvm.MethodName) prog_1_method_39_code (3 : Nat) (Option.some Jvm.ClassFile.FieldType.int)) ∈ lw_all := lw_g (lw_at lw_m5 144 rfl) rfl
theorem q1215 : (Jvm.Cond.methodLink "ForestRooms" (304 : Nat) ({ cls := "ForestRooms", name := "isBarred", desc := "(II)Z" } : Jvm.MethodName)) ∈ lw_all := lw_g (lw_at lw_m5 145 rfl) rfl
theorem q1216 : (Jvm.Cond.privateMethod ({ cls := "ForestRooms", name := "isBarred", desc := "(II)Z" } : Jvm.MethodName)) ∈ lw_tbl := lw_at lw_m5 146 rfl
theorem q1217 : (Jvm.Cond.instanceMethod ({ cls := "ForestRooms", name := "isBarred", desc := "(II)Z" } : Jvm.MethodName)) ∈ lw_all := lw_g (lw_at lw_m5 147 rfl) rfl
theorem q1218 : (Jvm.Cond.code ({ cls := "ForestRooms", name := "isBarred", desc := "(II)Z" } : Jvm.MethodName) prog_1_method_40_code (3 : Nat) (Option.some Jvm.ClassFile.FieldType.boolean)) ∈ lw_all := lw_g (lw_at lw_m5 148 rfl) rfl
theorem q1219 : (Jvm.Cond.methodLink "ForestRooms" (307 : Nat) ({ cls := "ForestRooms$Table", name := "roomOf", desc := "(I)I" } : Jvm.MethodName)) ∈ lw_all := lw_g (lw_at lw_m5 149 rfl) rfl
theorem q1224 : (Jvm.Cond.instanceMethod ({ cls := "ForestRooms", name := "comes", desc := "(III)I" } : Jvm.MethodName)) ∈ lw_all := lw_g (lw_at lw_m5 154 rfl) rfl
theorem q1225 : (Jvm.Cond.selects "ForestRooms" ({ cls := "ForestRooms", name := "comes", desc := "(III)I" } : Jvm.MethodName) ({ cls := "ForestRooms", name := "comes", desc := "(III)I" } : Jvm.MethodName)) ∈ lw_all := lw_g (lw_at lw_m5 155 rfl) rfl
theorem q1226 : (Jvm.Cond.code ({ cls := "ForestRooms", name := "comes", desc := "(III)I" } : Jvm.MethodName) prog_1_method_42_code (4 : Nat) (Option.some Jvm.ClassFile.FieldType.int)) ∈ lw_all := lw_g (lw_at lw_m5 156 rfl) rfl
theorem q1227 : (Jvm.Cond.methodLink "ForestRooms" (310 : Nat) ({ cls := "ForestRooms", name := "comes", desc := "(LForestRooms$Table;III)Z" } : Jvm.MethodName)) ∈ lw_all := lw_g (lw_at lw_m5 157 rfl) rfl
theorem q1228 : (Jvm.Cond.privateMethod ({ cls := "ForestRooms", name := "comes", desc := "(LForestRooms$Table;III)Z" } : Jvm.MethodName)) ∈ lw_tbl := lw_at lw_m5 158 rfl
theorem q1229 : (Jvm.Cond.instanceMethod ({ cls := "ForestRooms", name := "comes", desc := "(LForestRooms$Table;III)Z" } : Jvm.MethodName)) ∈ lw_all := lw_g (lw_at lw_m5 159 rfl) rfl
theorem q1230 : (Jvm.Cond.code ({ cls := "ForestRooms", name := "comes", desc := "(LForestRooms$Table;III)Z" } : Jvm.MethodName) prog_1_method_38_code (5 : Nat) (Option.some Jvm.ClassFile.FieldType.boolean)) ∈ lw_all := lw_g (lw_at lw_m5 160 rfl) rfl
theorem q1231 : (Jvm.Cond.methodLink "ForestRooms" (294 : Nat) ({ cls := "ForestRooms", name := "isOf", desc := "(II)Z" } : Jvm.MethodName)) ∈ lw_all := lw_g (lw_at lw_m5 161 rfl) rfl
theorem q1232 : (Jvm.Cond.static ({ cls := "ForestRooms", name := "isOf", desc := "(II)Z" } : Jvm.MethodName)) ∈ lw_all := lw_g (lw_at lw_m5 162 rfl) rfl
theorem q1233 : (Jvm.Cond.code ({ cls := "ForestRooms", name := "isOf", desc := "(II)Z" } : Jvm.MethodName) prog_1_method_4_code (2 : Nat) (Option.some Jvm.ClassFile.FieldType.boolean)) ∈ lw_all := lw_g (lw_at lw_m5 163 rfl) rfl
theorem q1235 : (Jvm.Cond.instanceMethod ({ cls := "ForestRooms", name := "plant", desc := "(II)I" } : Jvm.MethodName)) ∈ lw_all := lw_g (lw_at lw_m5 165 rfl) rfl
theorem q1236 : (Jvm.Cond.selects "ForestRooms" ({ cls := "ForestRooms", name := "plant", desc := "(II)I" } : Jvm.MethodName) ({ cls := "ForestRooms", name := "plant", desc := "(II)I" } : Jvm.MethodName)) ∈ lw_all := lw_g (lw_at lw_m5 166 rfl) rfl
theorem q1237 : (Jvm.Cond.code ({ cls := "ForestRooms", name := "plant", desc := "(II)I" } : Jvm.MethodName) prog_1_method_52_code (3 : Nat) (Option.some Jvm.ClassFile.FieldType.int)) ∈ lw_all := lw_g (lw_at lw_m5 167 rfl) rfl
theorem q1238 : (Jvm.Cond.methodLink "ForestRooms" (340 : Nat) ({ cls := "ForestRooms", name := "plantsKept", desc := "(II)I" } : Jvm.MethodName)) ∈ lw_all := lw_g (lw_at lw_m5 168 rfl) rfl
theorem q1239 : (Jvm.Cond.privateMethod ({ cls := "ForestRooms", name := "plantsKept", desc := "(II)I" } : Jvm.MethodName)) ∈ lw_tbl := lw_at lw_m5 169 rfl
theorem q1240 : (Jvm.Cond.instanceMethod ({ cls := "ForestRooms", name := "plantsKept", desc := "(II)I" } : Jvm.MethodName)) ∈ lw_all := lw_g (lw_at lw_m5 170 rfl) rfl
theorem q1241 : (Jvm.Cond.code ({ cls := "ForestRooms", name := "plantsKept", desc := "(II)I" } : Jvm.MethodName) prog_1_method_46_code (3 : Nat) (Option.some Jvm.ClassFile.FieldType.int)) ∈ lw_all := lw_g (lw_at lw_m5 171 rfl) rfl
theorem q1242 : (Jvm.Cond.methodLink "ForestRooms" (330 : Nat) ({ cls := "ForestRooms", name := "keeps", desc := "(I)V" } : Jvm.MethodName)) ∈ lw_all := lw_g (lw_at lw_m5 172 rfl) rfl
theorem q1243 : (Jvm.Cond.privateMethod ({ cls := "ForestRooms", name := "keeps", desc := "(I)V" } : Jvm.MethodName)) ∈ lw_tbl := lw_at lw_m5 173 rfl
theorem q1244 : (Jvm.Cond.instanceMethod ({ cls := "ForestRooms", name := "keeps", desc := "(I)V" } : Jvm.MethodName)) ∈ lw_all := lw_g (lw_at lw_m5 174 rfl) rfl
theorem q1245 : (Jvm.Cond.code ({ cls := "ForestRooms", name := "keeps", desc := "(I)V" } : Jvm.MethodName) prog_1_method_45_code (4 : Nat) (Option.none : Option Jvm.ClassFile.FieldType)) ∈ lw_all := lw_g (lw_at lw_m5 175 rfl) rfl
theorem q1246 : (Jvm.Cond.methodLink "ForestRooms" (327 : Nat) ({ cls := "ForestRooms$Table", name := "takes", desc := "(LForestRooms$Table;)V" } : Jvm.MethodName)) ∈ lw_all := lw_g (lw_at lw_m5 176 rfl) rfl
theorem q1247 : (Jvm.Cond.methodLink "ForestRooms" (323 : Nat) ({ cls := "ForestRooms$Table", name := "plants", desc := "(II)V" } : Jvm.MethodName)) ∈ lw_all := lw_g (lw_at lw_m5 177 rfl) rfl
theorem q1251 : (Jvm.Cond.methodLink "ForestRooms" (343 : Nat) ({ cls := "ForestRooms", name := "doneOr", desc := "(I)I" } : Jvm.MethodName)) ∈ lw_all := lw_g (lw_at lw_m5 181 rfl) rfl
theorem q1252 : (Jvm.Cond.privateMethod ({ cls := "ForestRooms", name := "doneOr", desc := "(I)I" } : Jvm.MethodName)) ∈ lw_tbl := lw_at lw_m5 182 rfl
theorem q1253 : (Jvm.Cond.instanceMethod ({ cls := "ForestRooms", name := "doneOr", desc := "(I)I" } : Jvm.MethodName)) ∈ lw_all := lw_g (lw_at lw_m5 183 rfl) rfl
theorem q1254 : (Jvm.Cond.code ({ cls := "ForestRooms", name := "doneOr", desc := "(I)I" } : Jvm.MethodName) prog_1_method_51_code (2 : Nat) (Option.some Jvm.ClassFile.FieldType.int)) ∈ lw_all := lw_g (lw_at lw_m5 184 rfl) rfl
theorem q1256 : (Jvm.Cond.instanceMethod ({ cls := "ForestRooms", name := "prune", desc := "(II)I" } : Jvm.MethodName)) ∈ lw_all := lw_g (lw_at lw_m5 186 rfl) rfl
theorem q1257 : (Jvm.Cond.selects "ForestRooms" ({ cls := "ForestRooms", name := "prune", desc := "(II)I" } : Jvm.MethodName) ({ cls := "ForestRooms", name := "prune", desc := "(II)I" } : Jvm.MethodName)) ∈ lw_all := lw_g (lw_at lw_m5 187 rfl) rfl
theorem q1258 : (Jvm.Cond.code ({ cls := "ForestRooms", name := "prune", desc := "(II)I" } : Jvm.MethodName) prog_1_method_53_code (3 : Nat) (Option.some Jvm.ClassFile.FieldType.int)) ∈ lw_all := lw_g (lw_at lw_m5 188 rfl) rfl
theorem q1259 : (Jvm.Cond.methodLink "ForestRooms" (346 : Nat) ({ cls := "ForestRooms", name := "prunesKept", desc := "(II)I" } : Jvm.MethodName)) ∈ lw_all := lw_g (lw_at lw_m5 189 rfl) rfl
theorem q1260 : (Jvm.Cond.privateMethod ({ cls := "ForestRooms", name := "prunesKept", desc := "(II)I" } : Jvm.MethodName)) ∈ lw_tbl := lw_at lw_m5 190 rfl
theorem q1261 : (Jvm.Cond.instanceMethod ({ cls := "ForestRooms", name := "prunesKept", desc := "(II)I" } : Jvm.MethodName)) ∈ lw_all := lw_g (lw_at lw_m5 191 rfl) rfl
theorem q1262 : (Jvm.Cond.code ({ cls := "ForestRooms", name := "prunesKept", desc := "(II)I" } : Jvm.MethodName) prog_1_method_47_code (3 : Nat) (Option.some Jvm.ClassFile.FieldType.int)) ∈ lw_all := lw_g (lw_at lw_m5 192 rfl) rfl
theorem q1263 : (Jvm.Cond.methodLink "ForestRooms" (333 : Nat) ({ cls := "ForestRooms$Table", name := "falls", desc := "(I)V" } : Jvm.MethodName)) ∈ lw_all := lw_g (lw_at lw_m5 193 rfl) rfl
theorem q1268 : (Jvm.Cond.instanceMethod ({ cls := "ForestRooms", name := "let", desc := "(II)I" } : Jvm.MethodName)) ∈ lw_all := lw_g (lw_at lw_m5 198 rfl) rfl
theorem q1269 : (Jvm.Cond.selects "ForestRooms" ({ cls := "ForestRooms", name := "let", desc := "(II)I" } : Jvm.MethodName) ({ cls := "ForestRooms", name := "let", desc := "(II)I" } : Jvm.MethodName)) ∈ lw_all := lw_g (lw_at lw_m5 199 rfl) rfl
theorem q1270 : (Jvm.Cond.code ({ cls := "ForestRooms", name := "let", desc := "(II)I" } : Jvm.MethodName) prog_1_method_54_code (3 : Nat) (Option.some Jvm.ClassFile.FieldType.int)) ∈ lw_all := lw_g (lw_at lw_m5 200 rfl) rfl
theorem q1271 : (Jvm.Cond.methodLink "ForestRooms" (349 : Nat) ({ cls := "ForestRooms", name := "letsKept", desc := "(II)I" } : Jvm.MethodName)) ∈ lw_all := lw_g (lw_at lw_m5 201 rfl) rfl
theorem q1272 : (Jvm.Cond.privateMethod ({ cls := "ForestRooms", name := "letsKept", desc := "(II)I" } : Jvm.MethodName)) ∈ lw_tbl := lw_at lw_m5 202 rfl
theorem q1273 : (Jvm.Cond.instanceMethod ({ cls := "ForestRooms", name := "letsKept", desc := "(II)I" } : Jvm.MethodName)) ∈ lw_all := lw_g (lw_at lw_m5 203 rfl) rfl
theorem q1274 : (Jvm.Cond.code ({ cls := "ForestRooms", name := "letsKept", desc := "(II)I" } : Jvm.MethodName) prog_1_method_48_code (3 : Nat) (Option.some Jvm.ClassFile.FieldType.int)) ∈ lw_all := lw_g (lw_at lw_m5 204 rfl) rfl
theorem q1276 : (Jvm.Cond.instanceMethod ({ cls := "ForestRooms", name := "empty", desc := "(I)I" } : Jvm.MethodName)) ∈ lw_all := lw_g (lw_at lw_m5 206 rfl) rfl
theorem q1277 : (Jvm.Cond.selects "ForestRooms" ({ cls := "ForestRooms", name := "empty", desc := "(I)I" } : Jvm.MethodName) ({ cls := "ForestRooms", name := "empty", desc := "(I)I" } : Jvm.MethodName)) ∈ lw_all := lw_g (lw_at lw_m5 207 rfl) rfl
theorem q1278 : (Jvm.Cond.code ({ cls := "ForestRooms", name := "empty", desc := "(I)I" } : Jvm.MethodName) prog_1_method_55_code (2 : Nat) (Option.some Jvm.ClassFile.FieldType.int)) ∈ lw_all := lw_g (lw_at lw_m5 208 rfl) rfl
theorem q1279 : (Jvm.Cond.methodLink "ForestRooms" (352 : Nat) ({ cls := "ForestRooms", name := "emptiesKept", desc := "(I)I" } : Jvm.MethodName)) ∈ lw_all := lw_g (lw_at lw_m5 209 rfl) rfl
theorem q1280 : (Jvm.Cond.privateMethod ({ cls := "ForestRooms", name := "emptiesKept", desc := "(I)I" } : Jvm.MethodName)) ∈ lw_tbl := lw_at lw_m5 210 rfl
theorem q1281 : (Jvm.Cond.instanceMethod ({ cls := "ForestRooms", name := "emptiesKept", desc := "(I)I" } : Jvm.MethodName)) ∈ lw_all := lw_g (lw_at lw_m5 211 rfl) rfl
theorem q1282 : (Jvm.Cond.code ({ cls := "ForestRooms", name := "emptiesKept", desc := "(I)I" } : Jvm.MethodName) prog_1_method_49_code (3 : Nat) (Option.some Jvm.ClassFile.FieldType.int)) ∈ lw_all := lw_g (lw_at lw_m5 212 rfl) rfl
theorem q1284 : (Jvm.Cond.instanceMethod ({ cls := "ForestRooms", name := "pass", desc := "()I" } : Jvm.MethodName)) ∈ lw_all := lw_g (lw_at lw_m5 214 rfl) rfl
theorem q1285 : (Jvm.Cond.selects "ForestRooms" ({ cls := "ForestRooms", name := "pass", desc := "()I" } : Jvm.MethodName) ({ cls := "ForestRooms", name := "pass", desc := "()I" } : Jvm.MethodName)) ∈ lw_all := lw_g (lw_at lw_m5 215 rfl) rfl
theorem q1286 : (Jvm.Cond.code ({ cls := "ForestRooms", name := "pass", desc := "()I" } : Jvm.MethodName) prog_1_method_56_code (1 : Nat) (Option.some Jvm.ClassFile.FieldType.int)) ∈ lw_all := lw_g (lw_at lw_m5 216 rfl) rfl
theorem q1287 : (Jvm.Cond.methodLink "ForestRooms" (355 : Nat) ({ cls := "ForestRooms", name := "passesKept", desc := "()I" } : Jvm.MethodName)) ∈ lw_all := lw_g (lw_at lw_m5 217 rfl) rfl
theorem q1288 : (Jvm.Cond.privateMethod ({ cls := "ForestRooms", name := "passesKept", desc := "()I" } : Jvm.MethodName)) ∈ lw_tbl := lw_at lw_m5 218 rfl
theorem q1289 : (Jvm.Cond.instanceMethod ({ cls := "ForestRooms", name := "passesKept", desc := "()I" } : Jvm.MethodName)) ∈ lw_all := lw_g (lw_at lw_m5 219 rfl) rfl
theorem q1290 : (Jvm.Cond.code ({ cls := "ForestRooms", name := "passesKept", desc := "()I" } : Jvm.MethodName) prog_1_method_50_code (1 : Nat) (Option.some Jvm.ClassFile.FieldType.int)) ∈ lw_all := lw_g (lw_at lw_m5 220 rfl) rfl
theorem q1291 : (Jvm.Cond.methodLink "ForestRooms" (336 : Nat) ({ cls := "ForestRooms", name := "passes", desc := "(LForestRooms$Table;)I" } : Jvm.MethodName)) ∈ lw_all := lw_g (lw_at lw_m5 221 rfl) rfl
theorem q1292 : (Jvm.Cond.privateMethod ({ cls := "ForestRooms", name := "passes", desc := "(LForestRooms$Table;)I" } : Jvm.MethodName)) ∈ lw_tbl := lw_at lw_m5 222 rfl
theorem q1293 : (Jvm.Cond.instanceMethod ({ cls := "ForestRooms", name := "passes", desc := "(LForestRooms$Table;)I" } : Jvm.MethodName)) ∈ lw_all := lw_g (lw_at lw_m5 223 rfl) rfl
theorem q1294 : (Jvm.Cond.code ({ cls := "ForestRooms", name := "passes", desc := "(LForestRooms$Table;)I" } : Jvm.MethodName) prog_1_method_44_code (4 : Nat) (Option.some Jvm.ClassFile.FieldType.int)) ∈ lw_all := lw_g (lw_at lw_m5 224 rfl) rfl
theorem q1295 : (Jvm.Cond.methodLink "ForestRooms" (318 : Nat) ({ cls := "java/lang/Math", name := "min", desc := "(II)I" } : Jvm.MethodName)) ∈ lw_all := lw_g (lw_at lw_m5 225 rfl) rfl
theorem q1296 : (Jvm.Cond.methodLink "ForestRooms" (320 : Nat) ({ cls := "ForestRooms", name := "newcomer", desc := "(LForestRooms$Table;I)I" } : Jvm.MethodName)) ∈ lw_all := lw_g (lw_at lw_m5 226 rfl) rfl
theorem q1297 : (Jvm.Cond.privateMethod ({ cls := "ForestRooms", name := "newcomer", desc := "(LForestRooms$Table;I)I" } : Jvm.MethodName)) ∈ lw_tbl := lw_at lw_m5 227 rfl
theorem q1298 : (Jvm.Cond.instanceMethod ({ cls := "ForestRooms", name := "newcomer", desc := "(LForestRooms$Table;I)I" } : Jvm.MethodName)) ∈ lw_all := lw_g (lw_at lw_m5 228 rfl) rfl
theorem q1299 : (Jvm.Cond.code ({ cls := "ForestRooms", name := "newcomer", desc := "(LForestRooms$Table;I)I" } : Jvm.MethodName) prog_1_method_43_code (7 : Nat) (Option.some Jvm.ClassFile.FieldType.int)) ∈ lw_all := lw_g (lw_at lw_m5 229 rfl) rfl
theorem q1300 : (Jvm.Cond.methodLink "ForestRooms" (313 : Nat) ({ cls := "ForestRooms", name := "beside", desc := "(II)I" } : Jvm.MethodName)) ∈ lw_all := lw_g (lw_at lw_m5 230 rfl) rfl
theorem q1301 : (Jvm.Cond.static ({ cls := "ForestRooms", name := "beside", desc := "(II)I" } : Jvm.MethodName)) ∈ lw_all := lw_g (lw_at lw_m5 231 rfl) rfl
theorem q1302 : (Jvm.Cond.code ({ cls := "ForestRooms", name := "beside", desc := "(II)I" } : Jvm.MethodName) prog_1_method_10_code (4 : Nat) (Option.some Jvm.ClassFile.FieldType.int)) ∈ lw_all := lw_g (lw_at lw_m5 232 rfl) rfl
theorem q1303 : (Jvm.Cond.methodLink "ForestRooms" (316 : Nat) ({ cls := "java/lang/Math", name := "max", desc := "(II)I" } : Jvm.MethodName)) ∈ lw_all := lw_g (lw_at lw_m5 233 rfl) rfl
theorem q1305 : (Jvm.Cond.instanceMethod ({ cls := "ForestRooms", name := "undo", desc := "()I" } : Jvm.MethodName)) ∈ lw_all := lw_g (lw_at lw_m5 235 rfl) rfl
theorem q1306 : (Jvm.Cond.selects "ForestRooms" ({ cls := "ForestRooms", name := "undo", desc := "()I" } : Jvm.MethodName) ({ cls := "ForestRooms", name := "undo", desc := "()I" } : Jvm.MethodName)) ∈ lw_all := lw_g (lw_at lw_m5 236 rfl) rfl
theorem q1307 : (Jvm.Cond.code ({ cls := "ForestRooms", name := "undo", desc := "()I" } : Jvm.MethodName) prog_1_method_57_code (1 : Nat) (Option.some Jvm.ClassFile.FieldType.int)) ∈ lw_all := lw_g (lw_at lw_m5 237 rfl) rfl
theorem q1309 : (Jvm.Cond.instanceMethod ({ cls := "ForestRooms", name := "will", desc := "(III)I" } : Jvm.MethodName)) ∈ lw_all := lw_g (lw_at lw_m5 239 rfl) rfl
theorem q1310 : (Jvm.Cond.selects "ForestRooms" ({ cls := "ForestRooms", name := "will", desc := "(III)I" } : Jvm.MethodName) ({ cls := "ForestRooms", name := "will", desc := "(III)I" } : Jvm.MethodName)) ∈ lw_all := lw_g (lw_at lw_m6 0 rfl) rfl
theorem q1311 : (Jvm.Cond.code ({ cls := "ForestRooms", name := "will", desc := "(III)I" } : Jvm.MethodName) prog_1_method_58_code (6 : Nat) (Option.some Jvm.ClassFile.FieldType.int)) ∈ lw_all := lw_g (lw_at lw_m6 1 rfl) rfl
theorem q1312 : (Jvm.Cond.methodLink "ForestRooms" (358 : Nat) ({ cls := "ForestRooms$Table", name := "families", desc := "()I" } : Jvm.MethodName)) ∈ lw_all := lw_g (lw_at lw_m6 2 rfl) rfl
theorem q1317 : (Jvm.Cond.instanceMethod ({ cls := "ForestRooms", name := "wood", desc := "()I" } : Jvm.MethodName)) ∈ lw_all := lw_g (lw_at lw_m6 7 rfl) rfl
theorem q1318 : (Jvm.Cond.selects "ForestRooms" ({ cls := "ForestRooms", name := "wood", desc := "()I" } : Jvm.MethodName) ({ cls := "ForestRooms", name := "wood", desc := "()I" } : Jvm.MethodName)) ∈ lw_all := lw_g (lw_at lw_m6 8 rfl) rfl
theorem q1319 : (Jvm.Cond.code ({ cls := "ForestRooms", name := "wood", desc := "()I" } : Jvm.MethodName) prog_1_method_60_code (3 : Nat) (Option.some Jvm.ClassFile.FieldType.int)) ∈ lw_all := lw_g (lw_at lw_m6 9 rfl) rfl
theorem q1320 : (Jvm.Cond.methodLink "ForestRooms" (361 : Nat) ({ cls := "ForestRooms", name := "lostRooms", desc := "(LForestRooms$Table;)I" } : Jvm.MethodName)) ∈ lw_all := lw_g (lw_at lw_m6 10 rfl) rfl
theorem q1321 : (Jvm.Cond.privateMethod ({ cls := "ForestRooms", name := "lostRooms", desc := "(LForestRooms$Table;)I" } : Jvm.MethodName)) ∈ lw_tbl := lw_at lw_m6 11 rfl
theorem q1322 : (Jvm.Cond.instanceMethod ({ cls := "ForestRooms", name := "lostRooms", desc := "(LForestRooms$Table;)I" } : Jvm.MethodName)) ∈ lw_all := lw_g (lw_at lw_m6 12 rfl) rfl
theorem q1323 : (Jvm.Cond.code ({ cls := "ForestRooms", name := "lostRooms", desc := "(LForestRooms$Table;)I" } : Jvm.MethodName) prog_1_method_59_code (4 : Nat) (Option.some Jvm.ClassFile.FieldType.int)) ∈ lw_all := lw_g (lw_at lw_m6 13 rfl) rfl
theorem q1325 : (Jvm.Cond.instanceMethod ({ cls := "ForestRooms", name := "keep", desc := "(III)I" } : Jvm.MethodName)) ∈ lw_all := lw_g (lw_at lw_m6 15 rfl) rfl
theorem q1326 : (Jvm.Cond.selects "ForestRooms" ({ cls := "ForestRooms", name := "keep", desc := "(III)I" } : Jvm.MethodName) ({ cls := "ForestRooms", name := "keep", desc := "(III)I" } : Jvm.MethodName)) ∈ lw_all := lw_g (lw_at lw_m6 16 rfl) rfl
theorem q1327 : (Jvm.Cond.code ({ cls := "ForestRooms", name := "keep", desc := "(III)I" } : Jvm.MethodName) prog_1_method_62_code (7 : Nat) (Option.some Jvm.ClassFile.FieldType.int)) ∈ lw_all := lw_g (lw_at lw_m6 17 rfl) rfl
theorem q1328 : (Jvm.Cond.methodLink "ForestRooms" (364 : Nat) ({ cls := "ForestRooms", name := "ones", desc := "(I)I" } : Jvm.MethodName)) ∈ lw_all := lw_g (lw_at lw_m6 18 rfl) rfl
theorem q1329 : (Jvm.Cond.static ({ cls := "ForestRooms", name := "ones", desc := "(I)I" } : Jvm.MethodName)) ∈ lw_all := lw_g (lw_at lw_m6 19 rfl) rfl
theorem q1330 : (Jvm.Cond.code ({ cls := "ForestRooms", name := "ones", desc := "(I)I" } : Jvm.MethodName) prog_1_method_5_code (1 : Nat) (Option.some Jvm.ClassFile.FieldType.int)) ∈ lw_all := lw_g (lw_at lw_m6 20 rfl) rfl
theorem q1331 : (Jvm.Cond.methodLink "ForestRooms" (11 : Nat) ({ cls := "java/lang/Integer", name := "bitCount", desc := "(I)I" } : Jvm.MethodName)) ∈ lw_all := lw_g (lw_at lw_m6 21 rfl) rfl
theorem q1337 : (Jvm.Cond.methodLink "ForestRooms" (367 : Nat) ({ cls := "ForestRooms", name := "isKept", desc := "(III)Z" } : Jvm.MethodName)) ∈ lw_all := lw_g (lw_at lw_m6 27 rfl) rfl
theorem q1338 : (Jvm.Cond.privateMethod ({ cls := "ForestRooms", name := "isKept", desc := "(III)Z" } : Jvm.MethodName)) ∈ lw_tbl := lw_at lw_m6 28 rfl
theorem q1339 : (Jvm.Cond.instanceMethod ({ cls := "ForestRooms", name := "isKept", desc := "(III)Z" } : Jvm.MethodName)) ∈ lw_all := lw_g (lw_at lw_m6 29 rfl) rfl
theorem q1340 : (Jvm.Cond.code ({ cls := "ForestRooms", name := "isKept", desc := "(III)Z" } : Jvm.MethodName) prog_1_method_61_code (6 : Nat) (Option.some Jvm.ClassFile.FieldType.boolean)) ∈ lw_all := lw_g (lw_at lw_m6 30 rfl) rfl
theorem q1342 : (Jvm.Cond.instanceMethod ({ cls := "ForestRooms", name := "homes", desc := "(II)I" } : Jvm.MethodName)) ∈ lw_all := lw_g (lw_at lw_m6 32 rfl) rfl
theorem q1343 : (Jvm.Cond.selects "ForestRooms" ({ cls := "ForestRooms", name := "homes", desc := "(II)I" } : Jvm.MethodName) ({ cls := "ForestRooms", name := "homes", desc := "(II)I" } : Jvm.MethodName)) ∈ lw_all := lw_g (lw_at lw_m6 33 rfl) rfl
theorem q1344 : (Jvm.Cond.code ({ cls := "ForestRooms", name := "homes", desc := "(II)I" } : Jvm.MethodName) prog_1_method_64_code (8 : Nat) (Option.some Jvm.ClassFile.FieldType.int)) ∈ lw_all := lw_g (lw_at lw_m6 34 rfl) rfl
theorem q1345 : (Jvm.Cond.constant "ForestRooms" (370 : Nat) (-1000000 : Int32)) ∈ lw_all := lw_g (lw_at lw_m6 35 rfl) rfl
theorem q1346 : (Jvm.Cond.methodLink "ForestRooms" (377 : Nat) ({ cls := "ForestRooms", name := "bestOf", desc := "(II)I" } : Jvm.MethodName)) ∈ lw_all := lw_g (lw_at lw_m6 36 rfl) rfl
theorem q1347 : (Jvm.Cond.privateMethod ({ cls := "ForestRooms", name := "bestOf", desc := "(II)I" } : Jvm.MethodName)) ∈ lw_tbl := lw_at lw_m6 37 rfl
theorem q1348 : (Jvm.Cond.instanceMethod ({ cls := "ForestRooms", name := "bestOf", desc := "(II)I" } : Jvm.MethodName)) ∈ lw_all := lw_g (lw_at lw_m6 38 rfl) rfl
theorem q1349 : (Jvm.Cond.code ({ cls := "ForestRooms", name := "bestOf", desc := "(II)I" } : Jvm.MethodName) prog_1_method_63_code (6 : Nat) (Option.some Jvm.ClassFile.FieldType.int)) ∈ lw_all := lw_g (lw_at lw_m6 39 rfl) rfl
theorem q1350 : (Jvm.Cond.methodLink "ForestRooms" (371 : Nat) ({ cls := "java/lang/System", name := "arraycopy", desc := "(Ljava/lang/Object;ILjava/lang/Object;II)V" } : Jvm.MethodName)) ∈ lw_all := lw_g (lw_at lw_m6 40 rfl) rfl
theorem q1352 : (Jvm.Cond.instanceMethod ({ cls := "ForestRooms", name := "sight", desc := "(III)I" } : Jvm.MethodName)) ∈ lw_all := lw_g (lw_at lw_m6 42 rfl) rfl
theorem q1353 : (Jvm.Cond.selects "ForestRooms" ({ cls := "ForestRooms", name := "sight", desc := "(III)I" } : Jvm.MethodName) ({ cls := "ForestRooms", name := "sight", desc := "(III)I" } : Jvm.MethodName)) ∈ lw_all := lw_g (lw_at lw_m6 43 rfl) rfl
theorem q1354 : (Jvm.Cond.code ({ cls := "ForestRooms", name := "sight", desc := "(III)I" } : Jvm.MethodName) prog_1_method_65_code (4 : Nat) (Option.some Jvm.ClassFile.FieldType.int)) ∈ lw_all := lw_g (lw_at lw_m6 44 rfl) rfl
theorem q1356 : (Jvm.Cond.instanceMethod ({ cls := "ForestRooms", name := "forget", desc := "()I" } : Jvm.MethodName)) ∈ lw_all := lw_g (lw_at lw_m6 46 rfl) rfl
theorem q1357 : (Jvm.Cond.selects "ForestRooms" ({ cls := "ForestRooms", name := "forget", desc := "()I" } : Jvm.MethodName) ({ cls := "ForestRooms", name := "forget", desc := "()I" } : Jvm.MethodName)) ∈ lw_all := lw_g (lw_at lw_m6 47 rfl) rfl
theorem q1358 : (Jvm.Cond.code ({ cls := "ForestRooms", name := "forget", desc := "()I" } : Jvm.MethodName) prog_1_method_66_code (2 : Nat) (Option.some Jvm.ClassFile.FieldType.int)) ∈ lw_all := lw_g (lw_at lw_m6 48 rfl) rfl
theorem q1360 : (Jvm.Cond.instanceMethod ({ cls := "ForestRooms", name := "hidden", desc := "(I)I" } : Jvm.MethodName)) ∈ lw_all := lw_g (lw_at lw_m6 50 rfl) rfl
theorem q1361 : (Jvm.Cond.selects "ForestRooms" ({ cls := "ForestRooms", name := "hidden", desc := "(I)I" } : Jvm.MethodName) ({ cls := "ForestRooms", name := "hidden", desc := "(I)I" } : Jvm.MethodName)) ∈ lw_all := lw_g (lw_at lw_m6 51 rfl) rfl
theorem q1362 : (Jvm.Cond.code ({ cls := "ForestRooms", name := "hidden", desc := "(I)I" } : Jvm.MethodName) prog_1_method_69_code (3 : Nat) (Option.some Jvm.ClassFile.FieldType.int)) ∈ lw_all := lw_g (lw_at lw_m6 52 rfl) rfl
theorem q1363 : (Jvm.Cond.methodLink "ForestRooms" (389 : Nat) ({ cls := "ForestRooms", name := "listsSeeds", desc := "()I" } : Jvm.MethodName)) ∈ lw_all := lw_g (lw_at lw_m6 53 rfl) rfl
theorem q1364 : (Jvm.Cond.privateMethod ({ cls := "ForestRooms", name := "listsSeeds", desc := "()I" } : Jvm.MethodName)) ∈ lw_tbl := lw_at lw_m6 54 rfl
theorem q1365 : (Jvm.Cond.instanceMethod ({ cls := "ForestRooms", name := "listsSeeds", desc := "()I" } : Jvm.MethodName)) ∈ lw_all := lw_g (lw_at lw_m6 55 rfl) rfl
theorem q1366 : (Jvm.Cond.code ({ cls := "ForestRooms", name := "listsSeeds", desc := "()I" } : Jvm.MethodName) prog_1_method_68_code (3 : Nat) (Option.some Jvm.ClassFile.FieldType.int)) ∈ lw_all := lw_g (lw_at lw_m6 56 rfl) rfl
theorem q1367 : (Jvm.Cond.methodLink "ForestRooms" (386 : Nat) ({ cls := "ForestRooms", name := "areSo", desc := "(II)Z" } : Jvm.MethodName)) ∈ lw_all := lw_g (lw_at lw_m6 57 rfl) rfl
theorem q1368 : (Jvm.Cond.privateMethod ({ cls := "ForestRooms", name := "areSo", desc := "(II)Z" } : Jvm.MethodName)) ∈ lw_tbl := lw_at lw_m6 58 rfl
theorem q1369 : (Jvm.Cond.instanceMethod ({ cls := "ForestRooms", name := "areSo", desc := "(II)Z" } : Jvm.MethodName)) ∈ lw_all := lw_g (lw_at lw_m6 59 rfl) rfl
theorem q1370 : (Jvm.Cond.code ({ cls := "ForestRooms", name := "areSo", desc := "(II)Z" } : Jvm.MethodName) prog_1_method_67_code (6 : Nat) (Option.some Jvm.ClassFile.FieldType.boolean)) ∈ lw_all := lw_g (lw_at lw_m6 60 rfl) rfl
theorem q1372 : (Jvm.Cond.instanceMethod ({ cls := "ForestRooms", name := "next", desc := "(II)I" } : Jvm.MethodName)) ∈ lw_all := lw_g (lw_at lw_m6 62 rfl) rfl
theorem q1373 : (Jvm.Cond.selects "ForestRooms" ({ cls := "ForestRooms", name := "next", desc := "(II)I" } : Jvm.MethodName) ({ cls := "ForestRooms", name := "next", desc := "(II)I" } : Jvm.MethodName)) ∈ lw_all := lw_g (lw_at lw_m6 63 rfl) rfl
theorem q1374 : (Jvm.Cond.code ({ cls := "ForestRooms", name := "next", desc := "(II)I" } : Jvm.MethodName) prog_1_method_70_code (9 : Nat) (Option.some Jvm.ClassFile.FieldType.int)) ∈ lw_all := lw_g (lw_at lw_m6 64 rfl) rfl
theorem q1375 : (Jvm.Cond.constant "ForestRooms" (392 : Nat) (1000000 : Int32)) ∈ lw_all := lw_g (lw_at lw_m6 65 rfl) rfl
theorem q1377 : (Jvm.Cond.instanceMethod ({ cls := "ForestRooms", name := "roofs", desc := "(II)I" } : Jvm.MethodName)) ∈ lw_all := lw_g (lw_at lw_m6 67 rfl) rfl
theorem q1378 : (Jvm.Cond.selects "ForestRooms" ({ cls := "ForestRooms", name := "roofs", desc := "(II)I" } : Jvm.MethodName) ({ cls := "ForestRooms", name := "roofs", desc := "(II)I" } : Jvm.MethodName)) ∈ lw_all := lw_g (lw_at lw_m6 68 rfl) rfl
theorem q1379 : (Jvm.Cond.code ({ cls := "ForestRooms", name := "roofs", desc := "(II)I" } : Jvm.MethodName) prog_1_method_72_code (7 : Nat) (Option.some Jvm.ClassFile.FieldType.int)) ∈ lw_all := lw_g (lw_at lw_m6 69 rfl) rfl
theorem q1380 : (Jvm.Cond.constant "ForestRooms" (393 : Nat) (65535 : Int32)) ∈ lw_all := lw_g (lw_at lw_m6 70 rfl) rfl
theorem q1381 : (Jvm.Cond.constant "ForestRooms" (394 : Nat) (65536 : Int32)) ∈ lw_all := lw_g (lw_at lw_m6 71 rfl) rfl
theorem q1382 : (Jvm.Cond.methodLink "ForestRooms" (395 : Nat) ({ cls := "ForestRooms", name := "litBy", desc := "(I)I" } : Jvm.MethodName)) ∈ lw_all := lw_g (lw_at lw_m6 72 rfl) rfl
theorem q1383 : (Jvm.Cond.static ({ cls := "ForestRooms", name := "litBy", desc := "(I)I" } : Jvm.MethodName)) ∈ lw_all := lw_g (lw_at lw_m6 73 rfl) rfl
theorem q1384 : (Jvm.Cond.code ({ cls := "ForestRooms", name := "litBy", desc := "(I)I" } : Jvm.MethodName) prog_1_method_71_code (3 : Nat) (Option.some Jvm.ClassFile.FieldType.int)) ∈ lw_all := lw_g (lw_at lw_m6 74 rfl) rfl
theorem q1386 : (Jvm.Cond.instanceMethod ({ cls := "ForestRooms", name := "way", desc := "(I)I" } : Jvm.MethodName)) ∈ lw_all := lw_g (lw_at lw_m6 76 rfl) rfl
theorem q1387 : (Jvm.Cond.selects "ForestRooms" ({ cls := "ForestRooms", name := "way", desc := "(I)I" } : Jvm.MethodName) ({ cls := "ForestRooms", name := "way", desc := "(I)I" } : Jvm.MethodName)) ∈ lw_all := lw_g (lw_at lw_m6 77 rfl) rfl
theorem q1388 : (Jvm.Cond.code ({ cls := "ForestRooms", name := "way", desc := "(I)I" } : Jvm.MethodName) prog_1_method_75_code (2 : Nat) (Option.some Jvm.ClassFile.FieldType.int)) ∈ lw_all := lw_g (lw_at lw_m6 78 rfl) rfl
theorem q1389 : (Jvm.Cond.methodLink "ForestRooms" (401 : Nat) ({ cls := "ForestRooms", name := "wayOf", desc := "(II)I" } : Jvm.MethodName)) ∈ lw_all := lw_g (lw_at lw_m6 79 rfl) rfl
theorem q1390 : (Jvm.Cond.privateMethod ({ cls := "ForestRooms", name := "wayOf", desc := "(II)I" } : Jvm.MethodName)) ∈ lw_tbl := lw_at lw_m6 80 rfl
theorem q1391 : (Jvm.Cond.instanceMethod ({ cls := "ForestRooms", name := "wayOf", desc := "(II)I" } : Jvm.MethodName)) ∈ lw_all := lw_g (lw_at lw_m6 81 rfl) rfl
theorem q1392 : (Jvm.Cond.code ({ cls := "ForestRooms", name := "wayOf", desc := "(II)I" } : Jvm.MethodName) prog_1_method_73_code (7 : Nat) (Option.some Jvm.ClassFile.FieldType.int)) ∈ lw_all := lw_g (lw_at lw_m6 82 rfl) rfl
theorem q1393 : (Jvm.Cond.methodLink "ForestRooms" (398 : Nat) ({ cls := "ForestRooms", name := "canPass", desc := "(II)Z" } : Jvm.MethodName)) ∈ lw_all := lw_g (lw_at lw_m6 83 rfl) rfl
theorem q1394 : (Jvm.Cond.privateMethod ({ cls := "ForestRooms", name := "canPass", desc := "(II)Z" } : Jvm.MethodName)) ∈ lw_tbl := lw_at lw_m6 84 rfl
theorem q1395 : (Jvm.Cond.instanceMethod ({ cls := "ForestRooms", name := "canPass", desc := "(II)Z" } : Jvm.MethodName)) ∈ lw_all := lw_g (lw_at lw_m6 85 rfl) rfl
theorem q1396 : (Jvm.Cond.code ({ cls := "ForestRooms", name := "canPass", desc := "(II)Z" } : Jvm.MethodName) prog_1_method_74_code (3 : Nat) (Option.some Jvm.ClassFile.FieldType.boolean)) ∈ lw_all := lw_g (lw_at lw_m6 86 rfl) rfl
theorem q1398 : (Jvm.Cond.instanceMethod ({ cls := "ForestRooms", name := "cut", desc := "(II)I" } : Jvm.MethodName)) ∈ lw_all := lw_g (lw_at lw_m6 88 rfl) rfl
theorem q1399 : (Jvm.Cond.selects "ForestRooms" ({ cls := "ForestRooms", name := "cut", desc := "(II)I" } : Jvm.MethodName) ({ cls := "ForestRooms", name := "cut", desc := "(II)I" } : Jvm.MethodName)) ∈ lw_all := lw_g (lw_at lw_m6 89 rfl) rfl
theorem q1400 : (Jvm.Cond.code ({ cls := "ForestRooms", name := "cut", desc := "(II)I" } : Jvm.MethodName) prog_1_method_76_code (5 : Nat) (Option.some Jvm.ClassFile.FieldType.int)) ∈ lw_all := lw_g (lw_at lw_m6 90 rfl) rfl
theorem q1402 : (Jvm.Cond.instanceMethod ({ cls := "ForestRooms", name := "share", desc := "(II)I" } : Jvm.MethodName)) ∈ lw_all := lw_g (lw_at lw_m6 92 rfl) rfl
theorem q1403 : (Jvm.Cond.selects "ForestRooms" ({ cls := "ForestRooms", name := "share", desc := "(II)I" } : Jvm.MethodName) ({ cls := "ForestRooms", name := "share", desc := "(II)I" } : Jvm.MethodName)) ∈ lw_all := lw_g (lw_at lw_m6 93 rfl) rfl
theorem q1404 : (Jvm.Cond.code ({ cls := "ForestRooms", name := "share", desc := "(II)I" } : Jvm.MethodName) prog_1_method_77_code (9 : Nat) (Option.some Jvm.ClassFile.FieldType.int)) ∈ lw_all := lw_g (lw_at lw_m6 94 rfl) rfl
theorem q1405 : (Jvm.Cond.constant "ForestRooms" (404 : Nat) (99999 : Int32)) ∈ lw_all := lw_g (lw_at lw_m6 95 rfl) rfl
theorem q1406 : (Jvm.Cond.methodLink "ForestRooms" (405 : Nat) ({ cls := "ForestRooms", name := "at", desc := "(II)I" } : Jvm.MethodName)) ∈ lw_all := lw_g (lw_at lw_m6 96 rfl) rfl
theorem q1408 : (Jvm.Cond.instanceMethod ({ cls := "ForestRooms", name := "game", desc := "(II)I" } : Jvm.MethodName)) ∈ lw_all := lw_g (lw_at lw_m6 98 rfl) rfl
theorem q1409 : (Jvm.Cond.selects "ForestRooms" ({ cls := "ForestRooms", name := "game", desc := "(II)I" } : Jvm.MethodName) ({ cls := "ForestRooms", name := "game", desc := "(II)I" } : Jvm.MethodName)) ∈ lw_all := lw_g (lw_at lw_m6 99 rfl) rfl
theorem q1410 : (Jvm.Cond.code ({ cls := "ForestRooms", name := "game", desc := "(II)I" } : Jvm.MethodName) prog_1_method_78_code (7 : Nat) (Option.some Jvm.ClassFile.FieldType.int)) ∈ lw_all := lw_g (lw_at lw_m6 100 rfl) rfl
theorem q1412 : (Jvm.Cond.instanceMethod ({ cls := "ForestRooms", name := "orders", desc := "()I" } : Jvm.MethodName)) ∈ lw_all := lw_g (lw_at lw_m6 102 rfl) rfl
theorem q1413 : (Jvm.Cond.selects "ForestRooms" ({ cls := "ForestRooms", name := "orders", desc := "()I" } : Jvm.MethodName) ({ cls := "ForestRooms", name := "orders", desc := "()I" } : Jvm.MethodName)) ∈ lw_all := lw_g (lw_at lw_m6 103 rfl) rfl
theorem q1414 : (Jvm.Cond.code ({ cls := "ForestRooms", name := "orders", desc := "()I" } : Jvm.MethodName) prog_1_method_79_code (10 : Nat) (Option.some Jvm.ClassFile.FieldType.int)) ∈ lw_all := lw_g (lw_at lw_m6 104 rfl) rfl
theorem q1415 : (Jvm.Cond.classLink "ForestRooms" (408 : Nat) "ForestRooms$OrderReader") ∈ lw_all := lw_g (lw_at lw_m6 105 rfl) rfl
theorem q1417 : (Jvm.Cond.methodLink "ForestRooms" (410 : Nat) ({ cls := "ForestRooms$OrderReader", name := "<init>", desc := "([BI)V" } : Jvm.MethodName)) ∈ lw_all := lw_g (lw_at lw_m6 107 rfl) rfl
theorem q1424 : (Jvm.Cond.fieldLinkNest "ForestRooms" (411 : Nat) "ForestRooms$OrderReader" "orders" "Ljava/util/ArrayList;" "ForestRooms") ∈ lw_tbl := lw_at lw_m6 114 rfl
theorem q1435 : (Jvm.Cond.classLink "ForestRooms" (414 : Nat) "ForestRooms$Order") ∈ lw_all := lw_g (lw_at lw_m6 125 rfl) rfl
theorem q1436 : (Jvm.Cond.methodLink "ForestRooms" (419 : Nat) ({ cls := "ForestRooms", name := "tellsOrder", desc := "(II)V" } : Jvm.MethodName)) ∈ lw_all := lw_g (lw_at lw_m6 126 rfl) rfl
theorem q1437 : (Jvm.Cond.privateMethod ({ cls := "ForestRooms", name := "tellsOrder", desc := "(II)V" } : Jvm.MethodName)) ∈ lw_tbl := lw_at lw_m6 127 rfl
theorem q1438 : (Jvm.Cond.instanceMethod ({ cls := "ForestRooms", name := "tellsOrder", desc := "(II)V" } : Jvm.MethodName)) ∈ lw_all := lw_g (lw_at lw_m6 128 rfl) rfl
theorem q1439 : (Jvm.Cond.code ({ cls := "ForestRooms", name := "tellsOrder", desc := "(II)V" } : Jvm.MethodName) prog_1_method_82_code (6 : Nat) (Option.none : Option Jvm.ClassFile.FieldType)) ∈ lw_all := lw_g (lw_at lw_m6 129 rfl) rfl
theorem q1440 : (Jvm.Cond.methodLink "ForestRooms" (446 : Nat) ({ cls := "ForestRooms$Table", name := "trees", desc := "()I" } : Jvm.MethodName)) ∈ lw_all := lw_g (lw_at lw_m6 130 rfl) rfl
theorem q1445 : (Jvm.Cond.methodLink "ForestRooms" (422 : Nat) ({ cls := "ForestRooms$Order", name := "isNow", desc := "(LForestRooms$Setting;)Z" } : Jvm.MethodName)) ∈ lw_all := lw_g (lw_at lw_m6 135 rfl) rfl
theorem q1451 : (Jvm.Cond.methodLink "ForestRooms" (426 : Nat) ({ cls := "ForestRooms", name := "runs", desc := "(LForestRooms$Order;)I" } : Jvm.MethodName)) ∈ lw_all := lw_g (lw_at lw_m6 141 rfl) rfl
theorem q1452 : (Jvm.Cond.privateMethod ({ cls := "ForestRooms", name := "runs", desc := "(LForestRooms$Order;)I" } : Jvm.MethodName)) ∈ lw_tbl := lw_at lw_m6 142 rfl
theorem q1453 : (Jvm.Cond.instanceMethod ({ cls := "ForestRooms", name := "runs", desc := "(LForestRooms$Order;)I" } : Jvm.MethodName)) ∈ lw_all := lw_g (lw_at lw_m6 143 rfl) rfl
theorem q1454 : (Jvm.Cond.code ({ cls := "ForestRooms", name := "runs", desc := "(LForestRooms$Order;)I" } : Jvm.MethodName) prog_1_method_80_code (4 : Nat) (Option.some Jvm.ClassFile.FieldType.int)) ∈ lw_all := lw_g (lw_at lw_m6 144 rfl) rfl
theorem q1455 : (Jvm.Cond.methodLink "ForestRooms" (440 : Nat) ({ cls := "ForestRooms$Order", name := "told", desc := "(LForestRooms$Sum;LForestRooms$Setting;)I" } : Jvm.MethodName)) ∈ lw_all := lw_g (lw_at lw_m6 145 rfl) rfl
theorem q1460 : (Jvm.Cond.methodLink "ForestRooms" (430 : Nat) ({ cls := "ForestRooms", name := "putsBack", desc := "(I)V" } : Jvm.MethodName)) ∈ lw_all := lw_g (lw_at lw_m6 150 rfl) rfl
theorem q1461 : (Jvm.Cond.privateMethod ({ cls := "ForestRooms", name := "putsBack", desc := "(I)V" } : Jvm.MethodName)) ∈ lw_tbl := lw_at lw_m6 151 rfl
theorem q1462 : (Jvm.Cond.instanceMethod ({ cls := "ForestRooms", name := "putsBack", desc := "(I)V" } : Jvm.MethodName)) ∈ lw_all := lw_g (lw_at lw_m6 152 rfl) rfl
theorem q1463 : (Jvm.Cond.code ({ cls := "ForestRooms", name := "putsBack", desc := "(I)V" } : Jvm.MethodName) prog_1_method_81_code (3 : Nat) (Option.none : Option Jvm.ClassFile.FieldType)) ∈ lw_all := lw_g (lw_at lw_m6 153 rfl) rfl
theorem q1465 : (Jvm.Cond.instanceMethod ({ cls := "ForestRooms", name := "decade", desc := "(II)I" } : Jvm.MethodName)) ∈ lw_all := lw_g (lw_at lw_m6 155 rfl) rfl
theorem q1466 : (Jvm.Cond.selects "ForestRooms" ({ cls := "ForestRooms", name := "decade", desc := "(II)I" } : Jvm.MethodName) ({ cls := "ForestRooms", name := "decade", desc := "(II)I" } : Jvm.MethodName)) ∈ lw_all := lw_g (lw_at lw_m6 156 rfl) rfl
theorem q1467 : (Jvm.Cond.code ({ cls := "ForestRooms", name := "decade", desc := "(II)I" } : Jvm.MethodName) prog_1_method_84_code (7 : Nat) (Option.some Jvm.ClassFile.FieldType.int)) ∈ lw_all := lw_g (lw_at lw_m6 157 rfl) rfl
theorem q1468 : (Jvm.Cond.methodLink "ForestRooms" (461 : Nat) ({ cls := "ForestRooms", name := "draw", desc := "(I)I" } : Jvm.MethodName)) ∈ lw_all := lw_g (lw_at lw_m6 158 rfl) rfl
theorem q1469 : (Jvm.Cond.privateMethod ({ cls := "ForestRooms", name := "draw", desc := "(I)I" } : Jvm.MethodName)) ∈ lw_tbl := lw_at lw_m6 159 rfl
theorem q1470 : (Jvm.Cond.instanceMethod ({ cls := "ForestRooms", name := "draw", desc := "(I)I" } : Jvm.MethodName)) ∈ lw_all := lw_g (lw_at lw_m6 160 rfl) rfl
theorem q1471 : (Jvm.Cond.code ({ cls := "ForestRooms", name := "draw", desc := "(I)I" } : Jvm.MethodName) prog_1_method_83_code (2 : Nat) (Option.some Jvm.ClassFile.FieldType.int)) ∈ lw_all := lw_g (lw_at lw_m6 161 rfl) rfl
theorem q1472 : (Jvm.Cond.constantLong "ForestRooms" (452 : Nat) (1103 : Int64)) ∈ lw_all := lw_g (lw_at lw_m6 162 rfl) rfl
theorem q1473 : (Jvm.Cond.constantLong "ForestRooms" (454 : Nat) (12345 : Int64)) ∈ lw_all := lw_g (lw_at lw_m6 163 rfl) rfl
theorem q1474 : (Jvm.Cond.constantLong "ForestRooms" (456 : Nat) (1000003 : Int64)) ∈ lw_all := lw_g (lw_at lw_m6 164 rfl) rfl
theorem q1476 : (Jvm.Cond.instanceMethod ({ cls := "ForestRooms", name := "drawn", desc := "(II)I" } : Jvm.MethodName)) ∈ lw_all := lw_g (lw_at lw_m6 166 rfl) rfl
theorem q1477 : (Jvm.Cond.selects "ForestRooms" ({ cls := "ForestRooms", name := "drawn", desc := "(II)I" } : Jvm.MethodName) ({ cls := "ForestRooms", name := "drawn", desc := "(II)I" } : Jvm.MethodName)) ∈ lw_all := lw_g (lw_at lw_m6 167 rfl) rfl
theorem q1478 : (Jvm.Cond.code ({ cls := "ForestRooms", name := "drawn", desc := "(II)I" } : Jvm.MethodName) prog_1_method_85_code (3 : Nat) (Option.some Jvm.ClassFile.FieldType.int)) ∈ lw_all := lw_g (lw_at lw_m6 168 rfl) rfl
theorem q1480 : (Jvm.Cond.instanceMethod ({ cls := "ForestRooms", name := "count", desc := "(I)I" } : Jvm.MethodName)) ∈ lw_all := lw_g (lw_at lw_m6 170 rfl) rfl
theorem q1481 : (Jvm.Cond.selects "ForestRooms" ({ cls := "ForestRooms", name := "count", desc := "(I)I" } : Jvm.MethodName) ({ cls := "ForestRooms", name := "count", desc := "(I)I" } : Jvm.MethodName)) ∈ lw_all := lw_g (lw_at lw_m6 171 rfl) rfl
theorem q1482 : (Jvm.Cond.code ({ cls := "ForestRooms", name := "count", desc := "(I)I" } : Jvm.MethodName) prog_1_method_86_code (2 : Nat) (Option.some Jvm.ClassFile.FieldType.int)) ∈ lw_all := lw_g (lw_at lw_m6 172 rfl) rfl
theorem q1484 : (Jvm.Cond.instanceMethod ({ cls := "ForestRooms", name := "status", desc := "()I" } : Jvm.MethodName)) ∈ lw_all := lw_g (lw_at lw_m6 174 rfl) rfl
theorem q1485 : (Jvm.Cond.selects "ForestRooms" ({ cls := "ForestRooms", name := "status", desc := "()I" } : Jvm.MethodName) ({ cls := "ForestRooms", name := "status", desc := "()I" } : Jvm.MethodName)) ∈ lw_all := lw_g (lw_at lw_m6 175 rfl) rfl
theorem q1486 : (Jvm.Cond.code ({ cls := "ForestRooms", name := "status", desc := "()I" } : Jvm.MethodName) prog_1_method_87_code (1 : Nat) (Option.some Jvm.ClassFile.FieldType.int)) ∈ lw_all := lw_g (lw_at lw_m6 176 rfl) rfl
theorem q2243 : (Jvm.Cond.castable "ForestRooms" "java/lang/Object") ∈ lw_tbl := lw_at lw_m9 213 rfl
theorem in_X0 : ∀ w ∈ wsX00, w ∈ lw_all := lw_in wsX00 [374, 376, 378, 380, 382, 384, 386, 388, 390, 392, 394, 396, 398, 400, 402, 404, 406, 408, 410, 412, 414, 416, 418, 420, 422, 424, 426, 428, 430] (by decide +kernel) (by decide +kernel)
